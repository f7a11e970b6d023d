/-! the reference's methods, 14 (written by gen/model14.py) -/
set_option maxRecDepth 100000
set_option maxHeartbeats 1000000 in
theorem mm_laysTold {l : Launch} {D : va_G} {dA : Nat → ClassId} {A : Nat → Prop} {o : Nat} {ad : Nat → Nat} (hOk : mOk o ad) (σ : Sg) (P : Pg) (hP : PgAt (σ 2) P) (ho : PgOk P) (hn : pN P < 20) : Met l yX3_laysTold (ws_ yX3_laysTold cX3_laysTold 1 none) (rmL 2 0 0) (MP D dA A o ad [.ref o] σ) (MQv D dA A o ad (fun σ' => σ' 9 0 = pW P ∧ (∀ j, 0 ≤ j → j < pW P → σ' 7 j = upZ P (pN P) j) ∧ RdAt σ' rd0 ∧ Fr [7, 9, 15, 16, 17] σ σ')) 0 0 A := by
  refine z_ofW (by decide) rfl ?_
  intro pp ee s0 mm below meth cc0 ls C hret hname hl hH hS
  have hl : lv_has ls 1 [(0, .ref o)] := hl
  have hq := QXpg ho
  obtain ⟨p1, p2, p3, p4, p5⟩ := hP
  refine z_aload_n C dX3_laysTold_0 hl 0 rfl ?_
  refine z_aload_n C dX3_laysTold_1 hl 0 rfl ?_
  refine m_geta C hH 2 ⟨by decide, by decide⟩ q2187 rfl dX3_laysTold_2 ?_
  refine z_iconst C dX3_laysTold_5 ?_
  refine m_ialdZ C hOk hH 2 ⟨by decide, by decide⟩ 0 (pW P) (p1) (show 0 ≤ 0 ∧ 0 < (828 : Int) by omega) dX3_laysTold_6 ?_
  refine m_puts C hH hS 9 ⟨by decide, by decide⟩ q2194 rfl ⟨rfl, rfl⟩ dX3_laysTold_7 (fun H locs hH hS => ?_)
  refine z_aload_n C dX3_laysTold_10 hl 0 rfl ?_
  refine z_aload_n C dX3_laysTold_11 hl 0 rfl ?_
  refine m_geta C hH 2 ⟨by decide, by decide⟩ q2187 rfl dX3_laysTold_12 ?_
  refine z_aload_n C dX3_laysTold_15 hl 0 rfl ?_
  refine m_geta C hH 2 ⟨by decide, by decide⟩ q2187 rfl dX3_laysTold_16 ?_
  refine z_iconst C dX3_laysTold_19 ?_
  refine m_ialdZ C hOk hH 2 ⟨by decide, by decide⟩ 1 (pN P) (p2) (show 0 ≤ 1 ∧ 1 < (828 : Int) by omega) dX3_laysTold_20 ?_
  refine z_ifne C dX3_laysTold_21 (tgt := 28) (by decide) ⟨by omega, by omega⟩ (fun c_21 => ?_) (fun c_21 => ?_)
  · refine z_aload_n C dX3_laysTold_28 hl 0 rfl ?_
    refine m_geta C hH 2 ⟨by decide, by decide⟩ q2187 rfl dX3_laysTold_29 ?_
    refine z_iconst C dX3_laysTold_32 ?_
    refine m_ialdZ C hOk hH 2 ⟨by decide, by decide⟩ 1 (pN P) (p2) (show 0 ≤ 1 ∧ 1 < (828 : Int) by omega) dX3_laysTold_33 ?_
    refine z_iconst C dX3_laysTold_34 ?_
    refine z_isub C dX3_laysTold_35 ?_
    refine z_iconst C dX3_laysTold_36 ?_
    refine m_SiF C hH hS (mm_dotAt hOk (su σ 9 0 (pW P)) ((pN P) - 1) 0) (va_cwS 2 C.1.2.2.2.2 (lw_S q2332 q2333 q133 q2334) rfl rfl rfl (by decide +kernel) ⟨Nat.le_of_ble_eq_true rfl, Nat.le_of_ble_eq_true rfl⟩) rfl hl rfl (Nat.le_of_ble_eq_true rfl) dX3_laysTold_37 ⟨Nat.le_refl _, Nat.le_refl _⟩ (fun H locs hH hS => ?_)
    refine m_VvF C hH hS (mm_laysUpper hOk ((su σ 9 0 (pW P))) 2 (28 + 40 * ((pN P) - 1) + 0) (⟨by decide, by decide⟩) (by decide) (Or.inr (show 0 ≤ 28 + 40 * (pN P - 1) + 0 ∧ 28 + 40 * (pN P - 1) + 0 + 40 ≤ (828 : Int) by omega))) (cwV 2 C.1.2.2.2.2 (lw_V q2355 q2357 qs51 q133 q2358) rfl rfl rfl (by decide +kernel) ⟨Nat.le_of_ble_eq_true rfl, Nat.le_of_ble_eq_true rfl⟩) rfl hl rfl (Nat.le_of_ble_eq_true rfl) dX3_laysTold_40 ⟨Nat.le_refl _, Nat.le_refl _⟩ (fun H locs hH hS => ?_)
    refine z_aload_n C dX3_laysTold_43 hl 0 rfl ?_
    refine m_VvF C hH hS (mm_startsReading hOk (sa ((su σ 9 0 (pW P))) 7 (wr (fun j => if (28 + 40 * ((pN P) - 1) + 0) = -1 then 0 else ((su σ 9 0 (pW P))) 2 ((28 + 40 * ((pN P) - 1) + 0) + j)) (((su σ 9 0 (pW P))) 7) 0 40)) ) (cwV 0 C.1.2.2.2.2 (lw_V q2469 q2471 qs70 q133 q2472) rfl rfl rfl (by decide +kernel) ⟨Nat.le_of_ble_eq_true rfl, Nat.le_of_ble_eq_true rfl⟩) rfl hl rfl (Nat.le_of_ble_eq_true rfl) dX3_laysTold_44 ⟨Nat.le_refl _, Nat.le_refl _⟩ (fun H locs hH hS => ?_)
    refine m_vret C hret hH hS dX3_laysTold_47 ?_
    refine ⟨rfl, fun j a b => by show wr (fun j => if 28 + 40 * (pN P - 1) + 0 = -1 then 0 else σ 2 (28 + 40 * (pN P - 1) + 0 + j)) (σ 7) 0 40 j = _; rw [wr_in _ _ a (by omega), if_neg (by omega)]; unfold upZ; rw [if_neg (by omega), Int.add_zero]; exact p5 _ j (by omega) (by omega) a b, ⟨rfl, rfl, fun j a b => ?_⟩, frSa (frSu (frSu (frSa (frSu Fr.rf rfl) rfl) rfl) rfl) rfl⟩
    rw [sa_k, wr_in _ _ a (by omega)]; rfl
  · refine z_iconst C dX3_laysTold_24 ?_
    refine z_goto C dX3_laysTold_25 (tgt := 40) (by decide) ?_
    refine m_VvF C hH hS (mm_laysUpper hOk (su σ 9 0 (pW P)) 2 ((-1)) (⟨by decide, by decide⟩) (by decide) (Or.inl rfl)) (cwV 2 C.1.2.2.2.2 (lw_V q2355 q2357 qs51 q133 q2358) rfl rfl rfl (by decide +kernel) ⟨Nat.le_of_ble_eq_true rfl, Nat.le_of_ble_eq_true rfl⟩) rfl hl rfl (Nat.le_of_ble_eq_true rfl) dX3_laysTold_40 ⟨Nat.le_refl _, Nat.le_refl _⟩ (fun H locs hH hS => ?_)
    refine z_aload_n C dX3_laysTold_43 hl 0 rfl ?_
    refine m_VvF C hH hS (mm_startsReading hOk (sa (su σ 9 0 (pW P)) 7 (wr (fun j => if ((-1)) = -1 then 0 else (su σ 9 0 (pW P)) 2 (((-1)) + j)) ((su σ 9 0 (pW P)) 7) 0 40)) ) (cwV 0 C.1.2.2.2.2 (lw_V q2469 q2471 qs70 q133 q2472) rfl rfl rfl (by decide +kernel) ⟨Nat.le_of_ble_eq_true rfl, Nat.le_of_ble_eq_true rfl⟩) rfl hl rfl (Nat.le_of_ble_eq_true rfl) dX3_laysTold_44 ⟨Nat.le_refl _, Nat.le_refl _⟩ (fun H locs hH hS => ?_)
    refine m_vret C hret hH hS dX3_laysTold_47 ?_
    refine ⟨rfl, fun j a b => by show wr (fun j => if (-1 : Int) = -1 then 0 else σ 2 (-1 + j)) (σ 7) 0 40 j = _; rw [wr_in _ _ a (by omega), if_pos rfl]; unfold upZ; rw [if_pos (by omega)], ⟨rfl, rfl, fun j a b => ?_⟩, frSa (frSu (frSu (frSa (frSu Fr.rf rfl) rfl) rfl) rfl) rfl⟩
    rw [sa_k, wr_in _ _ a (by omega)]; rfl
set_option maxHeartbeats 1000000 in
theorem mm_addsTold {l : Launch} {D : va_G} {dA : Nat → ClassId} {A : Nat → Prop} {o : Nat} {ad : Nat → Nat} (hOk : mOk o ad) (σ : Sg) (P : Pg) (f : Int → Int) (hz0 : 0 ≤ σ 37 0 ∧ σ 37 0 ≤ 5) (h9 : σ 9 0 = pW P) (ho : PgOk P) (hn : pN P < 20) (hP : σ 37 0 = 0 → PgAt (σ 2) P ∧ MIf P f ∧ ∀ i, 0 ≤ i → i < pW P → σ 15 i = f i) : Met l yX3_addsTold (ws_ yX3_addsTold cX3_addsTold 2 none) (rmL 2 0 0) (MP D dA A o ad [.ref o] σ) (MQv D dA A o ad (fun σ' => (σ 37 0 = 0 → PgAt (σ' 2) (adL P f)) ∧ Fr [2] σ σ')) 0 0 A := by
  refine z_ofW (by decide) rfl ?_
  intro pp ee s0 mm below meth cc0 ls C hret hname hl hH hS
  have hl : lv_has ls 2 [(0, .ref o)] := hl
  have hq := QXpg ho
  refine z_iconst C dX3_addsTold_0 ?_
  refine z_istore_n C [(1, .int (iI 0)), (0, .ref o)] dX3_addsTold_1 hl (by decide) rfl (fun ls hl => ?_)
  have J_2 : ∀ (fu : Nat) (i : Int) (s1 : Sg), (pW P - i).toNat < fu → (0 ≤ i ∧ i ≤ pW P) → (s1 = sa σ 2 (wr (fun j => f (j - (28 + 40 * pN P))) (σ 2) (28 + 40 * pN P) (28 + 40 * pN P + i))) → (i = 0 ∨ σ 37 0 = 0) → ∀ (H : Heap) (locs : List Loc) (ls : Array Slot), MH D dA A o ad s1 H → va_S A s0.heap H locs → lv_has ls 2 [(1, .int (iI i)), (0, .ref o)] → W pp l ee (rmL 2 0 0) s0 mm ([.ref o] : List Value).toArray below meth cc0 H locs 0 0 (MQ below (MQv D dA A o ad (fun σ' => (σ 37 0 = 0 → PgAt (σ' 2) (adL P f)) ∧ Fr [2] σ σ')) ([.ref o] : List Value).toArray s0 0 0 A) (F0 mm 2 ls []) := by
    intro fu
    induction fu with
    | zero => intro i s1 hn; exact absurd hn (Nat.not_lt_zero _)
    | succ fu ih_2 =>
      intro i s1 hn hi0 hs hi9 H locs ls hH hS hl
      refine z_iload_n C dX3_addsTold_2 hl 0 rfl ?_
      refine z_aload_n C dX3_addsTold_3 hl 1 rfl ?_
      refine m_getsZ C hH 9 ⟨by decide, by decide⟩ (pW P) (by rw [hs]; exact h9) q2194 rfl dX3_addsTold_4 ?_
      refine z_icmpge C dX3_addsTold_7 (tgt := 44) (by decide) ⟨⟨by omega, by omega⟩, ⟨by omega, by omega⟩⟩ (fun c_7 => ?_) (fun c_7 => ?_)
      · refine z_aload_n C dX3_addsTold_44 hl 1 rfl ?_
        refine m_geta C hH 2 ⟨by decide, by decide⟩ q2187 rfl dX3_addsTold_45 ?_
        refine z_iconst C dX3_addsTold_48 ?_
        refine lv_dup2_11 C.1.1 C.1.2.1 dX3_addsTold_49 rfl rfl ?_
        refine m_ialdZ C hOk hH 2 ⟨by decide, by decide⟩ 1 (σ 2 1) (by rw [hs, sa_k, wr_out _ _ (by omega)]) (show 0 ≤ 1 ∧ 1 < (828 : Int) by omega) dX3_addsTold_50 ?_
        refine z_aload_n C dX3_addsTold_51 hl 1 rfl ?_
        refine m_getsZ C hH 37 ⟨by decide, by decide⟩ (σ 37 0) (by rw [hs]; rfl) q2222 rfl dX3_addsTold_52 ?_
        refine z_ifne C dX3_addsTold_55 (tgt := 62) (by decide) ⟨by omega, by omega⟩ (fun c_55 => ?_) (fun c_55 => ?_)
        · refine z_iconst C dX3_addsTold_62 ?_
          refine z_iadd C dX3_addsTold_63 ?_
          refine m_iast C hOk hH hS 2 ⟨by decide, by decide⟩ (show 0 ≤ 1 ∧ 1 < (828 : Int) by omega) dX3_addsTold_64 (fun H locs hH hS => ?_)
          refine m_vret C hret hH hS dX3_addsTold_65 ?_
          refine ⟨fun he => ?_, frSu (by rw [hs]; exact frSa Fr.rf rfl) rfl⟩
          by_cases hee : ¬ σ 37 0 = 0
          · exact absurd he hee
          have hPe := hP he
          have hiW : i = pW P := by omega
          refine PgAt.add hPe.1 ho (fun j a b => ?_) ?_ (fun k a b => ?_) hPe.2.1
          · show uZ (s1 2) 1 _ j = _
            rw [uZ_ne _ _ a, hs, sa_k, wr_out _ _ (by omega)]
          · first
              | (show uZ (s1 2) 1 (σ 2 1 + 1) 1 = pN P + 1
                 rw [uZ_self, hPe.1.2.1])
              | (exfalso; omega)
          · show uZ (s1 2) 1 _ _ = _
            rw [uZ_ne _ _ (by omega), hs, sa_k, wr_in _ _ (by omega) (by omega), show 28 + 40 * pN P + k - (28 + 40 * pN P) = k by omega]
        · refine z_iconst C dX3_addsTold_58 ?_
          refine z_goto C dX3_addsTold_59 (tgt := 63) (by decide) ?_
          refine z_iadd C dX3_addsTold_63 ?_
          refine m_iast C hOk hH hS 2 ⟨by decide, by decide⟩ (show 0 ≤ 1 ∧ 1 < (828 : Int) by omega) dX3_addsTold_64 (fun H locs hH hS => ?_)
          refine m_vret C hret hH hS dX3_addsTold_65 ?_
          refine ⟨fun he => ?_, frSu (by rw [hs]; exact frSa Fr.rf rfl) rfl⟩
          by_cases hee : ¬ σ 37 0 = 0
          · exact absurd he hee
          have hPe := hP he
          have hiW : i = pW P := by omega
          refine PgAt.add hPe.1 ho (fun j a b => ?_) ?_ (fun k a b => ?_) hPe.2.1
          · show uZ (s1 2) 1 _ j = _
            rw [uZ_ne _ _ a, hs, sa_k, wr_out _ _ (by omega)]
          · first
              | (show uZ (s1 2) 1 (σ 2 1 + 1) 1 = pN P + 1
                 rw [uZ_self, hPe.1.2.1])
              | (exfalso; omega)
          · show uZ (s1 2) 1 _ _ = _
            rw [uZ_ne _ _ (by omega), hs, sa_k, wr_in _ _ (by omega) (by omega), show 28 + 40 * pN P + k - (28 + 40 * pN P) = k by omega]
      · refine z_aload_n C dX3_addsTold_10 hl 1 rfl ?_
        refine m_getsZ C hH 37 ⟨by decide, by decide⟩ (σ 37 0) (by rw [hs]; rfl) q2222 rfl dX3_addsTold_11 ?_
        refine z_ifne C dX3_addsTold_14 (tgt := 44) (by decide) ⟨by omega, by omega⟩ (fun c_14 => ?_) (fun c_14 => ?_)
        · refine z_aload_n C dX3_addsTold_44 hl 1 rfl ?_
          refine m_geta C hH 2 ⟨by decide, by decide⟩ q2187 rfl dX3_addsTold_45 ?_
          refine z_iconst C dX3_addsTold_48 ?_
          refine lv_dup2_11 C.1.1 C.1.2.1 dX3_addsTold_49 rfl rfl ?_
          refine m_ialdZ C hOk hH 2 ⟨by decide, by decide⟩ 1 (σ 2 1) (by rw [hs, sa_k, wr_out _ _ (by omega)]) (show 0 ≤ 1 ∧ 1 < (828 : Int) by omega) dX3_addsTold_50 ?_
          refine z_aload_n C dX3_addsTold_51 hl 1 rfl ?_
          refine m_getsZ C hH 37 ⟨by decide, by decide⟩ (σ 37 0) (by rw [hs]; rfl) q2222 rfl dX3_addsTold_52 ?_
          refine z_ifne C dX3_addsTold_55 (tgt := 62) (by decide) ⟨by omega, by omega⟩ (fun c_55_1 => ?_) (fun c_55_1 => ?_)
          · refine z_iconst C dX3_addsTold_62 ?_
            refine z_iadd C dX3_addsTold_63 ?_
            refine m_iast C hOk hH hS 2 ⟨by decide, by decide⟩ (show 0 ≤ 1 ∧ 1 < (828 : Int) by omega) dX3_addsTold_64 (fun H locs hH hS => ?_)
            refine m_vret C hret hH hS dX3_addsTold_65 ?_
            refine ⟨fun he => ?_, frSu (by rw [hs]; exact frSa Fr.rf rfl) rfl⟩
            by_cases hee : ¬ σ 37 0 = 0
            · exact absurd he hee
            have hPe := hP he
            have hiW : i = pW P := by omega
            refine PgAt.add hPe.1 ho (fun j a b => ?_) ?_ (fun k a b => ?_) hPe.2.1
            · show uZ (s1 2) 1 _ j = _
              rw [uZ_ne _ _ a, hs, sa_k, wr_out _ _ (by omega)]
            · first
                | (show uZ (s1 2) 1 (σ 2 1 + 1) 1 = pN P + 1
                   rw [uZ_self, hPe.1.2.1])
                | (exfalso; omega)
            · show uZ (s1 2) 1 _ _ = _
              rw [uZ_ne _ _ (by omega), hs, sa_k, wr_in _ _ (by omega) (by omega), show 28 + 40 * pN P + k - (28 + 40 * pN P) = k by omega]
          · refine z_iconst C dX3_addsTold_58 ?_
            refine z_goto C dX3_addsTold_59 (tgt := 63) (by decide) ?_
            refine z_iadd C dX3_addsTold_63 ?_
            refine m_iast C hOk hH hS 2 ⟨by decide, by decide⟩ (show 0 ≤ 1 ∧ 1 < (828 : Int) by omega) dX3_addsTold_64 (fun H locs hH hS => ?_)
            refine m_vret C hret hH hS dX3_addsTold_65 ?_
            refine ⟨fun he => ?_, frSu (by rw [hs]; exact frSa Fr.rf rfl) rfl⟩
            by_cases hee : ¬ σ 37 0 = 0
            · exact absurd he hee
            have hPe := hP he
            have hiW : i = pW P := by omega
            refine PgAt.add hPe.1 ho (fun j a b => ?_) ?_ (fun k a b => ?_) hPe.2.1
            · show uZ (s1 2) 1 _ j = _
              rw [uZ_ne _ _ a, hs, sa_k, wr_out _ _ (by omega)]
            · first
                | (show uZ (s1 2) 1 (σ 2 1 + 1) 1 = pN P + 1
                   rw [uZ_self, hPe.1.2.1])
                | (exfalso; omega)
            · show uZ (s1 2) 1 _ _ = _
              rw [uZ_ne _ _ (by omega), hs, sa_k, wr_in _ _ (by omega) (by omega), show 28 + 40 * pN P + k - (28 + 40 * pN P) = k by omega]
        · have hPe := hP (by omega)
          refine z_aload_n C dX3_addsTold_17 hl 1 rfl ?_
          refine m_geta C hH 2 ⟨by decide, by decide⟩ q2187 rfl dX3_addsTold_18 ?_
          refine z_aload_n C dX3_addsTold_21 hl 1 rfl ?_
          refine m_geta C hH 2 ⟨by decide, by decide⟩ q2187 rfl dX3_addsTold_22 ?_
          refine z_iconst C dX3_addsTold_25 ?_
          refine m_ialdZ C hOk hH 2 ⟨by decide, by decide⟩ 1 (pN P) (by rw [hs, sa_k, wr_out _ _ (by omega)]; exact hPe.1.2.1) (show 0 ≤ 1 ∧ 1 < (828 : Int) by omega) dX3_addsTold_26 ?_
          refine z_iload_n C dX3_addsTold_27 hl 0 rfl ?_
          refine m_SiF C hH hS (mm_dotAt hOk s1 (pN P) i) (va_cwS 2 C.1.2.2.2.2 (lw_S q2332 q2333 q133 q2334) rfl rfl rfl (by decide +kernel) ⟨Nat.le_of_ble_eq_true rfl, Nat.le_of_ble_eq_true rfl⟩) rfl hl rfl (Nat.le_of_ble_eq_true rfl) dX3_addsTold_28 ⟨Nat.le_refl _, Nat.le_refl _⟩ (fun H locs hH hS => ?_)
          refine z_aload_n C dX3_addsTold_31 hl 1 rfl ?_
          refine m_geta C hH 15 ⟨by decide, by decide⟩ q2200 rfl dX3_addsTold_32 ?_
          refine z_iload_n C dX3_addsTold_35 hl 0 rfl ?_
          refine m_ialdZ C hOk hH 15 ⟨by decide, by decide⟩ i (f i) (by rw [hs]; exact hPe.2.2 i hi0.1 (by omega)) (show 0 ≤ i ∧ i < (40 : Int) by omega) dX3_addsTold_36 ?_
          refine m_iast C hOk hH hS 2 ⟨by decide, by decide⟩ (show 0 ≤ (28 + 40 * (pN P) + i) ∧ (28 + 40 * (pN P) + i) < (828 : Int) by omega) dX3_addsTold_37 (fun H locs hH hS => ?_)
          refine z_iinc C [(1, .int (iI (i + 1))), (0, .ref o)] dX3_addsTold_38 hl 0 rfl (by decide) rfl (fun ls hl => ?_)
          refine z_goto C dX3_addsTold_41 (tgt := 2) (by decide) ?_
          exact ih_2 ((i + 1)) ((su s1 2 (28 + 40 * (pN P) + i) (f i))) (by omega) (by omega) (by rw [hs, ← Int.add_assoc, ← su_wr _ _ _ _ (show 28 + 40 * pN P ≤ 28 + 40 * pN P + i by omega)]; rw [show 28 + 40 * pN P + i - (28 + 40 * pN P) = i by omega]) (by omega) _ _ _ hH hS (lv_sub hl [0, 1] rfl)
  exact J_2 _ 0 σ (Nat.lt_succ_self _) (by omega) (by rw [Int.add_zero, wr_0, sa_id]) (by omega) _ _ _ hH hS (lv_sub hl [0, 1] rfl)
set_option maxHeartbeats 1000000 in
theorem mm_readsRow {l : Launch} {D : va_G} {dA : Nat → ClassId} {A : Nat → Prop} {o : Nat} {ad : Nat → Nat} (hOk : mOk o ad) (σ : Sg) (tx : Int → Int) (n : Int) (r : Er LX) (wd : Int) (hp : PX σ tx n r) (hW : 8 ≤ wd ∧ wd ≤ 40) (h9 : σ 9 0 = wd) : Met l yX3_readsRow (ws_ yX3_readsRow cX3_readsRow 2 none) (rmL 5 0 0) (MP D dA A o ad [.ref o] σ) (MQv D dA A o ad (fun σ' => PX σ' tx n (rowE tx n wd r) ∧ (∀ x', rowE tx n wd r = .inr x' → ∀ i, 0 ≤ i → i < wd → σ' 15 i = rowF tx r i) ∧ Fr [15, 33, 34, 35, 36, 37, 38] σ σ')) 0 0 A := by
  refine z_ofW (by decide) rfl ?_
  intro pp ee s0 mm below meth cc0 ls C hret hname hl hH hS
  have hl : lv_has ls 2 [(0, .ref o)] := hl
  have hTx := hp.1
  obtain ⟨hx1, hx2, hx3, hx4⟩ := hTx
  have hRx := hp.2.1
  obtain ⟨g1, g2, g3, g4, g5, g6, g7, g8, g9⟩ := hRx
  refine z_aload_n C dX3_readsRow_0 hl 0 rfl ?_
  refine z_aload_n C dX3_readsRow_1 hl 0 rfl ?_
  refine m_getsZ C hH 35 ⟨by decide, by decide⟩ (σ 35 0) rfl q2220 rfl dX3_readsRow_2 ?_
  refine z_iconst C dX3_readsRow_5 ?_
  refine z_icmpne C dX3_readsRow_6 (tgt := 13) (by decide) ⟨⟨by omega, by omega⟩, ⟨by omega, by omega⟩⟩ (fun c_6 => ?_) (fun c_6 => ?_)
  · refine z_iconst C dX3_readsRow_13 ?_
    refine z_iconst C dX3_readsRow_14 ?_
    refine m_Vv C hH hS (mm_must hOk σ 0 1 tx n r (hp) (by decide) (by decide)) (cwV 2 C.1.2.2.2.2 (lw_V q2662 q2664 qs95 q133 q2665) rfl rfl rfl (by decide +kernel) ⟨Nat.le_of_ble_eq_true rfl, Nat.le_of_ble_eq_true rfl⟩) rfl hl rfl (Nat.le_of_ble_eq_true rfl) dX3_readsRow_15 ⟨Nat.le_refl _, Nat.le_refl _⟩ (fun sa H locs hp_15 hH hS => ?_)
    obtain ⟨hpa, hfa⟩ := hp_15
    have e15 : ndE r (decide ((0 : Int) = 1)) 1 = ndE r (kdE r 3) 1 := hp.kd (decide_eq_decide.mpr (by omega))
    rw [e15] at hpa
    have era := hpa.er
    refine z_aload_n C dX3_readsRow_18 hl 0 rfl ?_
    refine z_aload_n C dX3_readsRow_19 hl 0 rfl ?_
    refine m_getsZ C hH 33 ⟨by decide, by decide⟩ (σ 33 0) (by rw [hfa.at 33 rfl]) q2218 rfl dX3_readsRow_20 ?_
    refine z_aload_n C dX3_readsRow_23 hl 0 rfl ?_
    refine m_getsZ C hH 34 ⟨by decide, by decide⟩ (σ 34 0) (by rw [hfa.at 34 rfl]) q2219 rfl dX3_readsRow_24 ?_
    refine z_isub C dX3_readsRow_27 ?_
    refine z_aload_n C dX3_readsRow_28 hl 0 rfl ?_
    refine m_getsZ C hH 9 ⟨by decide, by decide⟩ wd (by rw [hfa.at 9 rfl]; exact h9) q2194 rfl dX3_readsRow_29 ?_
    refine z_icmpne C dX3_readsRow_32 (tgt := 39) (by decide) ⟨⟨by omega, by omega⟩, ⟨by omega, by omega⟩⟩ (fun c_32 => ?_) (fun c_32 => ?_)
    · refine z_iconst C dX3_readsRow_39 ?_
      refine z_iconst C dX3_readsRow_40 ?_
      refine m_Vv C hH hS (mm_must hOk sa 0 3 tx n ((ndE r (kdE r 3) 1)) (hpa) (by decide) (by decide)) (cwV 2 C.1.2.2.2.2 (lw_V q2662 q2664 qs95 q133 q2665) rfl rfl rfl (by decide +kernel) ⟨Nat.le_of_ble_eq_true rfl, Nat.le_of_ble_eq_true rfl⟩) rfl hl rfl (Nat.le_of_ble_eq_true rfl) dX3_readsRow_41 ⟨Nat.le_refl _, Nat.le_refl _⟩ (fun sb H locs hp_41 hH hS => ?_)
      obtain ⟨hpb, hfb⟩ := hp_41
      have e41 : ndE (ndE r (kdE r 3) 1) (decide ((0 : Int) = 1)) 3 = ndE (ndE r (kdE r 3) 1) (wB r wd) 3 := ndE_congr (fun x hx => by
        have h1 := (ndE_inr hx).1
        subst h1
        have h2 := hp.at
        show (decide ((0 : Int) = 1)) = decide (x.1 - x.2.1 = wd)
        exact decide_eq_decide.mpr (by omega))
      rw [e41] at hpb
      have erb := hpb.er
      obtain ⟨r2, hr2⟩ : ∃ y, y = ndE (ndE r (kdE r 3) 1) (wB r wd) 3 := ⟨_, rfl⟩
      rw [← hr2] at hpb
      have hgo9 : sb 37 0 = 0 → ∃ x, r = .inr x ∧ r2 = .inr x ∧ x.2.1 = σ 34 0 ∧ σ 33 0 - σ 34 0 = wd := fun h => by
        obtain ⟨x, hx⟩ := hpb.e0.mp h
        have h1 := ndE_inr (hr2.symm.trans hx)
        have h2 := (ndE_inr h1.1).1
        have h3 := h1.2
        subst h2
        have h4 := hp.at
        have h5 := of_decide_eq_true h3
        exact ⟨x, rfl, hx, by omega, by omega⟩
      refine z_iconst C dX3_readsRow_44 ?_
      refine z_istore_n C [(1, .int (iI 0)), (0, .ref o)] dX3_readsRow_45 hl (by decide) rfl (fun ls hl => ?_)
      have J_46 : ∀ (fu : Nat) (i : Int) (s1 : Sg), (wd - i).toNat < fu → (0 ≤ i ∧ i ≤ wd) → (Fr [15] sb s1) → (i = 0 ∨ sb 37 0 = 0) → (∀ j, 0 ≤ j → j < i → s1 15 j = (if tx (σ 34 0 + j) = 35 then 1 else 0)) → ∀ (H : Heap) (locs : List Loc) (ls : Array Slot), MH D dA A o ad s1 H → va_S A s0.heap H locs → lv_has ls 2 [(1, .int (iI i)), (0, .ref o)] → W pp l ee (rmL 5 0 0) s0 mm ([.ref o] : List Value).toArray below meth cc0 H locs 0 0 (MQ below (MQv D dA A o ad (fun σ' => PX σ' tx n (rowE tx n wd r) ∧ (∀ x', rowE tx n wd r = .inr x' → ∀ i, 0 ≤ i → i < wd → σ' 15 i = rowF tx r i) ∧ Fr [15, 33, 34, 35, 36, 37, 38] σ σ')) ([.ref o] : List Value).toArray s0 0 0 A) (F0 mm 46 ls []) := by
        intro fu
        induction fu with
        | zero => intro i s1 hn; exact absurd hn (Nat.not_lt_zero _)
        | succ fu ih_46 =>
          intro i s1 hn hi0 hf1 hi9 hres H locs ls hH hS hl
          refine z_iload_n C dX3_readsRow_46 hl 0 rfl ?_
          refine z_aload_n C dX3_readsRow_47 hl 1 rfl ?_
          refine m_getsZ C hH 9 ⟨by decide, by decide⟩ wd (by rw [hf1.at 9 rfl, hfb.at 9 rfl, hfa.at 9 rfl]; exact h9) q2194 rfl dX3_readsRow_48 ?_
          refine z_icmpge C dX3_readsRow_51 (tgt := 94) (by decide) ⟨⟨by omega, by omega⟩, ⟨by omega, by omega⟩⟩ (fun c_51 => ?_) (fun c_51 => ?_)
          · refine z_aload_n C dX3_readsRow_94 hl 1 rfl ?_
            refine m_Vv C hH hS (mm_goesOn hOk s1 tx n r2 (hpb.fr (fun k a b => hf1.at k (by rcases (show k = 31 ∨ k = 32 ∨ k = 33 ∨ k = 34 ∨ k = 35 ∨ k = 36 ∨ k = 37 ∨ k = 38 by omega) with h | h | h | h | h | h | h | h <;> subst h <;> rfl)))) (cwV 0 C.1.2.2.2.2 (lw_V q2650 q2652 qs92 q133 q2653) rfl rfl rfl (by decide +kernel) ⟨Nat.le_of_ble_eq_true rfl, Nat.le_of_ble_eq_true rfl⟩) rfl hl rfl (Nat.le_of_ble_eq_true rfl) dX3_readsRow_95 ⟨Nat.le_refl _, Nat.le_refl _⟩ (fun s_95 H locs hp_95 hH hS => ?_)
            obtain ⟨hpc, hfc⟩ := hp_95
            refine m_vret C hret hH hS dX3_readsRow_98 ?_
            refine ⟨by unfold rowE; rw [← hr2]; exact hpc, fun x' hx' i' a b => ?_, (((hfa.up rfl).th hfb rfl).th hf1 rfl).th hfc rfl⟩
            have hx2 : goE tx n r2 = .inr x' := by rw [hr2]; exact hx'
            obtain ⟨y, hy, -⟩ := goE_inr hx2
            obtain ⟨x, h1, h2, h3, h4⟩ := hgo9 (hpb.e0.mpr ⟨y, hy⟩)
            have h5 := hpb.e0.mpr ⟨y, hy⟩
            rw [hfc.at 15 rfl, hres i' a (by omega), h1]
            show _ = if tx (x.2.1 + i') = 35 then 1 else 0
            rw [h3]
          · refine z_aload_n C dX3_readsRow_54 hl 1 rfl ?_
            refine m_getsZ C hH 37 ⟨by decide, by decide⟩ (sb 37 0) (by rw [hf1.at 37 rfl]) q2222 rfl dX3_readsRow_55 ?_
            refine z_ifne C dX3_readsRow_58 (tgt := 94) (by decide) ⟨by omega, by omega⟩ (fun c_58 => ?_) (fun c_58 => ?_)
            · refine z_aload_n C dX3_readsRow_94 hl 1 rfl ?_
              refine m_Vv C hH hS (mm_goesOn hOk s1 tx n r2 (hpb.fr (fun k a b => hf1.at k (by rcases (show k = 31 ∨ k = 32 ∨ k = 33 ∨ k = 34 ∨ k = 35 ∨ k = 36 ∨ k = 37 ∨ k = 38 by omega) with h | h | h | h | h | h | h | h <;> subst h <;> rfl)))) (cwV 0 C.1.2.2.2.2 (lw_V q2650 q2652 qs92 q133 q2653) rfl rfl rfl (by decide +kernel) ⟨Nat.le_of_ble_eq_true rfl, Nat.le_of_ble_eq_true rfl⟩) rfl hl rfl (Nat.le_of_ble_eq_true rfl) dX3_readsRow_95 ⟨Nat.le_refl _, Nat.le_refl _⟩ (fun s_95_1 H locs hp_95_1 hH hS => ?_)
              obtain ⟨hpc, hfc⟩ := hp_95_1
              refine m_vret C hret hH hS dX3_readsRow_98 ?_
              refine ⟨by unfold rowE; rw [← hr2]; exact hpc, fun x' hx' i' a b => ?_, (((hfa.up rfl).th hfb rfl).th hf1 rfl).th hfc rfl⟩
              have hx2 : goE tx n r2 = .inr x' := by rw [hr2]; exact hx'
              obtain ⟨y, hy, -⟩ := goE_inr hx2
              obtain ⟨x, h1, h2, h3, h4⟩ := hgo9 (hpb.e0.mpr ⟨y, hy⟩)
              have h5 := hpb.e0.mpr ⟨y, hy⟩
              rw [hfc.at 15 rfl, hres i' a (by omega), h1]
              show _ = if tx (x.2.1 + i') = 35 then 1 else 0
              rw [h3]
            · obtain ⟨xg, hg1, hg2, hg3, hg4⟩ := hgo9 (by omega)
              have v4 := hx4 (σ 34 0 + i)
              refine z_aload_n C dX3_readsRow_61 hl 1 rfl ?_
              refine m_geta C hH 15 ⟨by decide, by decide⟩ q2200 rfl dX3_readsRow_62 ?_
              refine z_iload_n C dX3_readsRow_65 hl 0 rfl ?_
              refine z_aload_n C dX3_readsRow_66 hl 1 rfl ?_
              refine m_geta C hH 31 ⟨by decide, by decide⟩ q2216 rfl dX3_readsRow_67 ?_
              refine z_aload_n C dX3_readsRow_70 hl 1 rfl ?_
              refine m_getsZ C hH 34 ⟨by decide, by decide⟩ (σ 34 0) (by rw [hf1.at 34 rfl, hfb.at 34 rfl, hfa.at 34 rfl]) q2219 rfl dX3_readsRow_71 ?_
              refine z_iload_n C dX3_readsRow_74 hl 0 rfl ?_
              refine z_iadd C dX3_readsRow_75 ?_
              refine m_bald C hOk hH 31 ⟨by decide, by decide⟩ (show 0 ≤ ((σ 34 0) + i) ∧ ((σ 34 0) + i) < (900 : Int) by omega) dX3_readsRow_76 ?_
              refine z_topr (show s1 31 ((σ 34 0) + i) = tx (σ 34 0 + i) from by rw [hf1.at 31 rfl, hfb.at 31 rfl, hfa.at 31 rfl]; exact hx3 _ (by omega) (by omega)) ?_
              refine z_bipush C dX3_readsRow_77 (by decide +kernel) ?_
              refine z_icmpne C dX3_readsRow_79 (tgt := 86) (by decide) ⟨⟨by omega, by omega⟩, ⟨by omega, by omega⟩⟩ (fun c_79 => ?_) (fun c_79 => ?_)
              · refine z_iconst C dX3_readsRow_86 ?_
                refine m_iast C hOk hH hS 15 ⟨by decide, by decide⟩ (show 0 ≤ i ∧ i < (40 : Int) by omega) dX3_readsRow_87 (fun H locs hH hS => ?_)
                refine z_iinc C [(1, .int (iI (i + 1))), (0, .ref o)] dX3_readsRow_88 hl 0 rfl (by decide) rfl (fun ls hl => ?_)
                refine z_goto C dX3_readsRow_91 (tgt := 46) (by decide) ?_
                exact ih_46 ((i + 1)) ((su s1 15 i 0)) (by omega) (by omega) (frSu hf1 rfl) (by omega) (fun j a b => by
                  show uZ (s1 15) i _ j = _
                  by_cases e : j = i
                  · rw [e, uZ_self, if_neg (fun h => c_79 h)]
                  · rw [uZ_ne _ _ e]; exact hres j a (by omega)) _ _ _ hH hS (lv_sub hl [0, 1] rfl)
              · refine z_iconst C dX3_readsRow_82 ?_
                refine z_goto C dX3_readsRow_83 (tgt := 87) (by decide) ?_
                refine m_iast C hOk hH hS 15 ⟨by decide, by decide⟩ (show 0 ≤ i ∧ i < (40 : Int) by omega) dX3_readsRow_87 (fun H locs hH hS => ?_)
                refine z_iinc C [(1, .int (iI (i + 1))), (0, .ref o)] dX3_readsRow_88 hl 0 rfl (by decide) rfl (fun ls hl => ?_)
                refine z_goto C dX3_readsRow_91 (tgt := 46) (by decide) ?_
                exact ih_46 ((i + 1)) ((su s1 15 i 1)) (by omega) (by omega) (frSu hf1 rfl) (by omega) (fun j a b => by
                  show uZ (s1 15) i _ j = _
                  by_cases e : j = i
                  · rw [e, uZ_self, if_pos c_79]
                  · rw [uZ_ne _ _ e]; exact hres j a (by omega)) _ _ _ hH hS (lv_sub hl [0, 1] rfl)
      exact J_46 _ 0 sb (Nat.lt_succ_self _) (by omega) (Fr.rf) (by omega) (fun j a b => absurd b (by omega)) _ _ _ hH hS (lv_sub hl [0, 1] rfl)
    · refine z_iconst C dX3_readsRow_35 ?_
      refine z_goto C dX3_readsRow_36 (tgt := 40) (by decide) ?_
      refine z_iconst C dX3_readsRow_40 ?_
      refine m_Vv C hH hS (mm_must hOk sa 1 3 tx n ((ndE r (kdE r 3) 1)) (hpa) (by decide) (by decide)) (cwV 2 C.1.2.2.2.2 (lw_V q2662 q2664 qs95 q133 q2665) rfl rfl rfl (by decide +kernel) ⟨Nat.le_of_ble_eq_true rfl, Nat.le_of_ble_eq_true rfl⟩) rfl hl rfl (Nat.le_of_ble_eq_true rfl) dX3_readsRow_41 ⟨Nat.le_refl _, Nat.le_refl _⟩ (fun sb H locs hp_41_1 hH hS => ?_)
      obtain ⟨hpb, hfb⟩ := hp_41_1
      have e41 : ndE (ndE r (kdE r 3) 1) (decide ((1 : Int) = 1)) 3 = ndE (ndE r (kdE r 3) 1) (wB r wd) 3 := ndE_congr (fun x hx => by
        have h1 := (ndE_inr hx).1
        subst h1
        have h2 := hp.at
        show (decide ((1 : Int) = 1)) = decide (x.1 - x.2.1 = wd)
        exact decide_eq_decide.mpr (by omega))
      rw [e41] at hpb
      have erb := hpb.er
      obtain ⟨r2, hr2⟩ : ∃ y, y = ndE (ndE r (kdE r 3) 1) (wB r wd) 3 := ⟨_, rfl⟩
      rw [← hr2] at hpb
      have hgo9 : sb 37 0 = 0 → ∃ x, r = .inr x ∧ r2 = .inr x ∧ x.2.1 = σ 34 0 ∧ σ 33 0 - σ 34 0 = wd := fun h => by
        obtain ⟨x, hx⟩ := hpb.e0.mp h
        have h1 := ndE_inr (hr2.symm.trans hx)
        have h2 := (ndE_inr h1.1).1
        have h3 := h1.2
        subst h2
        have h4 := hp.at
        have h5 := of_decide_eq_true h3
        exact ⟨x, rfl, hx, by omega, by omega⟩
      refine z_iconst C dX3_readsRow_44 ?_
      refine z_istore_n C [(1, .int (iI 0)), (0, .ref o)] dX3_readsRow_45 hl (by decide) rfl (fun ls hl => ?_)
      have J_46 : ∀ (fu : Nat) (i : Int) (s1 : Sg), (wd - i).toNat < fu → (0 ≤ i ∧ i ≤ wd) → (Fr [15] sb s1) → (i = 0 ∨ sb 37 0 = 0) → (∀ j, 0 ≤ j → j < i → s1 15 j = (if tx (σ 34 0 + j) = 35 then 1 else 0)) → ∀ (H : Heap) (locs : List Loc) (ls : Array Slot), MH D dA A o ad s1 H → va_S A s0.heap H locs → lv_has ls 2 [(1, .int (iI i)), (0, .ref o)] → W pp l ee (rmL 5 0 0) s0 mm ([.ref o] : List Value).toArray below meth cc0 H locs 0 0 (MQ below (MQv D dA A o ad (fun σ' => PX σ' tx n (rowE tx n wd r) ∧ (∀ x', rowE tx n wd r = .inr x' → ∀ i, 0 ≤ i → i < wd → σ' 15 i = rowF tx r i) ∧ Fr [15, 33, 34, 35, 36, 37, 38] σ σ')) ([.ref o] : List Value).toArray s0 0 0 A) (F0 mm 46 ls []) := by
        intro fu
        induction fu with
        | zero => intro i s1 hn; exact absurd hn (Nat.not_lt_zero _)
        | succ fu ih_46 =>
          intro i s1 hn hi0 hf1 hi9 hres H locs ls hH hS hl
          refine z_iload_n C dX3_readsRow_46 hl 0 rfl ?_
          refine z_aload_n C dX3_readsRow_47 hl 1 rfl ?_
          refine m_getsZ C hH 9 ⟨by decide, by decide⟩ wd (by rw [hf1.at 9 rfl, hfb.at 9 rfl, hfa.at 9 rfl]; exact h9) q2194 rfl dX3_readsRow_48 ?_
          refine z_icmpge C dX3_readsRow_51 (tgt := 94) (by decide) ⟨⟨by omega, by omega⟩, ⟨by omega, by omega⟩⟩ (fun c_51_1 => ?_) (fun c_51_1 => ?_)
          · refine z_aload_n C dX3_readsRow_94 hl 1 rfl ?_
            refine m_Vv C hH hS (mm_goesOn hOk s1 tx n r2 (hpb.fr (fun k a b => hf1.at k (by rcases (show k = 31 ∨ k = 32 ∨ k = 33 ∨ k = 34 ∨ k = 35 ∨ k = 36 ∨ k = 37 ∨ k = 38 by omega) with h | h | h | h | h | h | h | h <;> subst h <;> rfl)))) (cwV 0 C.1.2.2.2.2 (lw_V q2650 q2652 qs92 q133 q2653) rfl rfl rfl (by decide +kernel) ⟨Nat.le_of_ble_eq_true rfl, Nat.le_of_ble_eq_true rfl⟩) rfl hl rfl (Nat.le_of_ble_eq_true rfl) dX3_readsRow_95 ⟨Nat.le_refl _, Nat.le_refl _⟩ (fun s_95_2 H locs hp_95_2 hH hS => ?_)
            obtain ⟨hpc, hfc⟩ := hp_95_2
            refine m_vret C hret hH hS dX3_readsRow_98 ?_
            refine ⟨by unfold rowE; rw [← hr2]; exact hpc, fun x' hx' i' a b => ?_, (((hfa.up rfl).th hfb rfl).th hf1 rfl).th hfc rfl⟩
            have hx2 : goE tx n r2 = .inr x' := by rw [hr2]; exact hx'
            obtain ⟨y, hy, -⟩ := goE_inr hx2
            obtain ⟨x, h1, h2, h3, h4⟩ := hgo9 (hpb.e0.mpr ⟨y, hy⟩)
            have h5 := hpb.e0.mpr ⟨y, hy⟩
            rw [hfc.at 15 rfl, hres i' a (by omega), h1]
            show _ = if tx (x.2.1 + i') = 35 then 1 else 0
            rw [h3]
          · refine z_aload_n C dX3_readsRow_54 hl 1 rfl ?_
            refine m_getsZ C hH 37 ⟨by decide, by decide⟩ (sb 37 0) (by rw [hf1.at 37 rfl]) q2222 rfl dX3_readsRow_55 ?_
            refine z_ifne C dX3_readsRow_58 (tgt := 94) (by decide) ⟨by omega, by omega⟩ (fun c_58_1 => ?_) (fun c_58_1 => ?_)
            · refine z_aload_n C dX3_readsRow_94 hl 1 rfl ?_
              refine m_Vv C hH hS (mm_goesOn hOk s1 tx n r2 (hpb.fr (fun k a b => hf1.at k (by rcases (show k = 31 ∨ k = 32 ∨ k = 33 ∨ k = 34 ∨ k = 35 ∨ k = 36 ∨ k = 37 ∨ k = 38 by omega) with h | h | h | h | h | h | h | h <;> subst h <;> rfl)))) (cwV 0 C.1.2.2.2.2 (lw_V q2650 q2652 qs92 q133 q2653) rfl rfl rfl (by decide +kernel) ⟨Nat.le_of_ble_eq_true rfl, Nat.le_of_ble_eq_true rfl⟩) rfl hl rfl (Nat.le_of_ble_eq_true rfl) dX3_readsRow_95 ⟨Nat.le_refl _, Nat.le_refl _⟩ (fun s_95_3 H locs hp_95_3 hH hS => ?_)
              obtain ⟨hpc, hfc⟩ := hp_95_3
              refine m_vret C hret hH hS dX3_readsRow_98 ?_
              refine ⟨by unfold rowE; rw [← hr2]; exact hpc, fun x' hx' i' a b => ?_, (((hfa.up rfl).th hfb rfl).th hf1 rfl).th hfc rfl⟩
              have hx2 : goE tx n r2 = .inr x' := by rw [hr2]; exact hx'
              obtain ⟨y, hy, -⟩ := goE_inr hx2
              obtain ⟨x, h1, h2, h3, h4⟩ := hgo9 (hpb.e0.mpr ⟨y, hy⟩)
              have h5 := hpb.e0.mpr ⟨y, hy⟩
              rw [hfc.at 15 rfl, hres i' a (by omega), h1]
              show _ = if tx (x.2.1 + i') = 35 then 1 else 0
              rw [h3]
            · obtain ⟨xg, hg1, hg2, hg3, hg4⟩ := hgo9 (by omega)
              have v4 := hx4 (σ 34 0 + i)
              refine z_aload_n C dX3_readsRow_61 hl 1 rfl ?_
              refine m_geta C hH 15 ⟨by decide, by decide⟩ q2200 rfl dX3_readsRow_62 ?_
              refine z_iload_n C dX3_readsRow_65 hl 0 rfl ?_
              refine z_aload_n C dX3_readsRow_66 hl 1 rfl ?_
              refine m_geta C hH 31 ⟨by decide, by decide⟩ q2216 rfl dX3_readsRow_67 ?_
              refine z_aload_n C dX3_readsRow_70 hl 1 rfl ?_
              refine m_getsZ C hH 34 ⟨by decide, by decide⟩ (σ 34 0) (by rw [hf1.at 34 rfl, hfb.at 34 rfl, hfa.at 34 rfl]) q2219 rfl dX3_readsRow_71 ?_
              refine z_iload_n C dX3_readsRow_74 hl 0 rfl ?_
              refine z_iadd C dX3_readsRow_75 ?_
              refine m_bald C hOk hH 31 ⟨by decide, by decide⟩ (show 0 ≤ ((σ 34 0) + i) ∧ ((σ 34 0) + i) < (900 : Int) by omega) dX3_readsRow_76 ?_
              refine z_topr (show s1 31 ((σ 34 0) + i) = tx (σ 34 0 + i) from by rw [hf1.at 31 rfl, hfb.at 31 rfl, hfa.at 31 rfl]; exact hx3 _ (by omega) (by omega)) ?_
              refine z_bipush C dX3_readsRow_77 (by decide +kernel) ?_
              refine z_icmpne C dX3_readsRow_79 (tgt := 86) (by decide) ⟨⟨by omega, by omega⟩, ⟨by omega, by omega⟩⟩ (fun c_79_1 => ?_) (fun c_79_1 => ?_)
              · refine z_iconst C dX3_readsRow_86 ?_
                refine m_iast C hOk hH hS 15 ⟨by decide, by decide⟩ (show 0 ≤ i ∧ i < (40 : Int) by omega) dX3_readsRow_87 (fun H locs hH hS => ?_)
                refine z_iinc C [(1, .int (iI (i + 1))), (0, .ref o)] dX3_readsRow_88 hl 0 rfl (by decide) rfl (fun ls hl => ?_)
                refine z_goto C dX3_readsRow_91 (tgt := 46) (by decide) ?_
                exact ih_46 ((i + 1)) ((su s1 15 i 0)) (by omega) (by omega) (frSu hf1 rfl) (by omega) (fun j a b => by
                  show uZ (s1 15) i _ j = _
                  by_cases e : j = i
                  · rw [e, uZ_self, if_neg (fun h => c_79_1 h)]
                  · rw [uZ_ne _ _ e]; exact hres j a (by omega)) _ _ _ hH hS (lv_sub hl [0, 1] rfl)
              · refine z_iconst C dX3_readsRow_82 ?_
                refine z_goto C dX3_readsRow_83 (tgt := 87) (by decide) ?_
                refine m_iast C hOk hH hS 15 ⟨by decide, by decide⟩ (show 0 ≤ i ∧ i < (40 : Int) by omega) dX3_readsRow_87 (fun H locs hH hS => ?_)
                refine z_iinc C [(1, .int (iI (i + 1))), (0, .ref o)] dX3_readsRow_88 hl 0 rfl (by decide) rfl (fun ls hl => ?_)
                refine z_goto C dX3_readsRow_91 (tgt := 46) (by decide) ?_
                exact ih_46 ((i + 1)) ((su s1 15 i 1)) (by omega) (by omega) (frSu hf1 rfl) (by omega) (fun j a b => by
                  show uZ (s1 15) i _ j = _
                  by_cases e : j = i
                  · rw [e, uZ_self, if_pos c_79_1]
                  · rw [uZ_ne _ _ e]; exact hres j a (by omega)) _ _ _ hH hS (lv_sub hl [0, 1] rfl)
      exact J_46 _ 0 sb (Nat.lt_succ_self _) (by omega) (Fr.rf) (by omega) (fun j a b => absurd b (by omega)) _ _ _ hH hS (lv_sub hl [0, 1] rfl)
  · refine z_iconst C dX3_readsRow_9 ?_
    refine z_goto C dX3_readsRow_10 (tgt := 14) (by decide) ?_
    refine z_iconst C dX3_readsRow_14 ?_
    refine m_Vv C hH hS (mm_must hOk σ 1 1 tx n r (hp) (by decide) (by decide)) (cwV 2 C.1.2.2.2.2 (lw_V q2662 q2664 qs95 q133 q2665) rfl rfl rfl (by decide +kernel) ⟨Nat.le_of_ble_eq_true rfl, Nat.le_of_ble_eq_true rfl⟩) rfl hl rfl (Nat.le_of_ble_eq_true rfl) dX3_readsRow_15 ⟨Nat.le_refl _, Nat.le_refl _⟩ (fun sa H locs hp_15_1 hH hS => ?_)
    obtain ⟨hpa, hfa⟩ := hp_15_1
    have e15 : ndE r (decide ((1 : Int) = 1)) 1 = ndE r (kdE r 3) 1 := hp.kd (decide_eq_decide.mpr (by omega))
    rw [e15] at hpa
    have era := hpa.er
    refine z_aload_n C dX3_readsRow_18 hl 0 rfl ?_
    refine z_aload_n C dX3_readsRow_19 hl 0 rfl ?_
    refine m_getsZ C hH 33 ⟨by decide, by decide⟩ (σ 33 0) (by rw [hfa.at 33 rfl]) q2218 rfl dX3_readsRow_20 ?_
    refine z_aload_n C dX3_readsRow_23 hl 0 rfl ?_
    refine m_getsZ C hH 34 ⟨by decide, by decide⟩ (σ 34 0) (by rw [hfa.at 34 rfl]) q2219 rfl dX3_readsRow_24 ?_
    refine z_isub C dX3_readsRow_27 ?_
    refine z_aload_n C dX3_readsRow_28 hl 0 rfl ?_
    refine m_getsZ C hH 9 ⟨by decide, by decide⟩ wd (by rw [hfa.at 9 rfl]; exact h9) q2194 rfl dX3_readsRow_29 ?_
    refine z_icmpne C dX3_readsRow_32 (tgt := 39) (by decide) ⟨⟨by omega, by omega⟩, ⟨by omega, by omega⟩⟩ (fun c_32_1 => ?_) (fun c_32_1 => ?_)
    · refine z_iconst C dX3_readsRow_39 ?_
      refine z_iconst C dX3_readsRow_40 ?_
      refine m_Vv C hH hS (mm_must hOk sa 0 3 tx n ((ndE r (kdE r 3) 1)) (hpa) (by decide) (by decide)) (cwV 2 C.1.2.2.2.2 (lw_V q2662 q2664 qs95 q133 q2665) rfl rfl rfl (by decide +kernel) ⟨Nat.le_of_ble_eq_true rfl, Nat.le_of_ble_eq_true rfl⟩) rfl hl rfl (Nat.le_of_ble_eq_true rfl) dX3_readsRow_41 ⟨Nat.le_refl _, Nat.le_refl _⟩ (fun sb H locs hp_41_2 hH hS => ?_)
      obtain ⟨hpb, hfb⟩ := hp_41_2
      have e41 : ndE (ndE r (kdE r 3) 1) (decide ((0 : Int) = 1)) 3 = ndE (ndE r (kdE r 3) 1) (wB r wd) 3 := ndE_congr (fun x hx => by
        have h1 := (ndE_inr hx).1
        subst h1
        have h2 := hp.at
        show (decide ((0 : Int) = 1)) = decide (x.1 - x.2.1 = wd)
        exact decide_eq_decide.mpr (by omega))
      rw [e41] at hpb
      have erb := hpb.er
      obtain ⟨r2, hr2⟩ : ∃ y, y = ndE (ndE r (kdE r 3) 1) (wB r wd) 3 := ⟨_, rfl⟩
      rw [← hr2] at hpb
      have hgo9 : sb 37 0 = 0 → ∃ x, r = .inr x ∧ r2 = .inr x ∧ x.2.1 = σ 34 0 ∧ σ 33 0 - σ 34 0 = wd := fun h => by
        obtain ⟨x, hx⟩ := hpb.e0.mp h
        have h1 := ndE_inr (hr2.symm.trans hx)
        have h2 := (ndE_inr h1.1).1
        have h3 := h1.2
        subst h2
        have h4 := hp.at
        have h5 := of_decide_eq_true h3
        exact ⟨x, rfl, hx, by omega, by omega⟩
      refine z_iconst C dX3_readsRow_44 ?_
      refine z_istore_n C [(1, .int (iI 0)), (0, .ref o)] dX3_readsRow_45 hl (by decide) rfl (fun ls hl => ?_)
      have J_46 : ∀ (fu : Nat) (i : Int) (s1 : Sg), (wd - i).toNat < fu → (0 ≤ i ∧ i ≤ wd) → (Fr [15] sb s1) → (i = 0 ∨ sb 37 0 = 0) → (∀ j, 0 ≤ j → j < i → s1 15 j = (if tx (σ 34 0 + j) = 35 then 1 else 0)) → ∀ (H : Heap) (locs : List Loc) (ls : Array Slot), MH D dA A o ad s1 H → va_S A s0.heap H locs → lv_has ls 2 [(1, .int (iI i)), (0, .ref o)] → W pp l ee (rmL 5 0 0) s0 mm ([.ref o] : List Value).toArray below meth cc0 H locs 0 0 (MQ below (MQv D dA A o ad (fun σ' => PX σ' tx n (rowE tx n wd r) ∧ (∀ x', rowE tx n wd r = .inr x' → ∀ i, 0 ≤ i → i < wd → σ' 15 i = rowF tx r i) ∧ Fr [15, 33, 34, 35, 36, 37, 38] σ σ')) ([.ref o] : List Value).toArray s0 0 0 A) (F0 mm 46 ls []) := by
        intro fu
        induction fu with
        | zero => intro i s1 hn; exact absurd hn (Nat.not_lt_zero _)
        | succ fu ih_46 =>
          intro i s1 hn hi0 hf1 hi9 hres H locs ls hH hS hl
          refine z_iload_n C dX3_readsRow_46 hl 0 rfl ?_
          refine z_aload_n C dX3_readsRow_47 hl 1 rfl ?_
          refine m_getsZ C hH 9 ⟨by decide, by decide⟩ wd (by rw [hf1.at 9 rfl, hfb.at 9 rfl, hfa.at 9 rfl]; exact h9) q2194 rfl dX3_readsRow_48 ?_
          refine z_icmpge C dX3_readsRow_51 (tgt := 94) (by decide) ⟨⟨by omega, by omega⟩, ⟨by omega, by omega⟩⟩ (fun c_51_2 => ?_) (fun c_51_2 => ?_)
          · refine z_aload_n C dX3_readsRow_94 hl 1 rfl ?_
            refine m_Vv C hH hS (mm_goesOn hOk s1 tx n r2 (hpb.fr (fun k a b => hf1.at k (by rcases (show k = 31 ∨ k = 32 ∨ k = 33 ∨ k = 34 ∨ k = 35 ∨ k = 36 ∨ k = 37 ∨ k = 38 by omega) with h | h | h | h | h | h | h | h <;> subst h <;> rfl)))) (cwV 0 C.1.2.2.2.2 (lw_V q2650 q2652 qs92 q133 q2653) rfl rfl rfl (by decide +kernel) ⟨Nat.le_of_ble_eq_true rfl, Nat.le_of_ble_eq_true rfl⟩) rfl hl rfl (Nat.le_of_ble_eq_true rfl) dX3_readsRow_95 ⟨Nat.le_refl _, Nat.le_refl _⟩ (fun s_95_4 H locs hp_95_4 hH hS => ?_)
            obtain ⟨hpc, hfc⟩ := hp_95_4
            refine m_vret C hret hH hS dX3_readsRow_98 ?_
            refine ⟨by unfold rowE; rw [← hr2]; exact hpc, fun x' hx' i' a b => ?_, (((hfa.up rfl).th hfb rfl).th hf1 rfl).th hfc rfl⟩
            have hx2 : goE tx n r2 = .inr x' := by rw [hr2]; exact hx'
            obtain ⟨y, hy, -⟩ := goE_inr hx2
            obtain ⟨x, h1, h2, h3, h4⟩ := hgo9 (hpb.e0.mpr ⟨y, hy⟩)
            have h5 := hpb.e0.mpr ⟨y, hy⟩
            rw [hfc.at 15 rfl, hres i' a (by omega), h1]
            show _ = if tx (x.2.1 + i') = 35 then 1 else 0
            rw [h3]
          · refine z_aload_n C dX3_readsRow_54 hl 1 rfl ?_
            refine m_getsZ C hH 37 ⟨by decide, by decide⟩ (sb 37 0) (by rw [hf1.at 37 rfl]) q2222 rfl dX3_readsRow_55 ?_
            refine z_ifne C dX3_readsRow_58 (tgt := 94) (by decide) ⟨by omega, by omega⟩ (fun c_58_2 => ?_) (fun c_58_2 => ?_)
            · refine z_aload_n C dX3_readsRow_94 hl 1 rfl ?_
              refine m_Vv C hH hS (mm_goesOn hOk s1 tx n r2 (hpb.fr (fun k a b => hf1.at k (by rcases (show k = 31 ∨ k = 32 ∨ k = 33 ∨ k = 34 ∨ k = 35 ∨ k = 36 ∨ k = 37 ∨ k = 38 by omega) with h | h | h | h | h | h | h | h <;> subst h <;> rfl)))) (cwV 0 C.1.2.2.2.2 (lw_V q2650 q2652 qs92 q133 q2653) rfl rfl rfl (by decide +kernel) ⟨Nat.le_of_ble_eq_true rfl, Nat.le_of_ble_eq_true rfl⟩) rfl hl rfl (Nat.le_of_ble_eq_true rfl) dX3_readsRow_95 ⟨Nat.le_refl _, Nat.le_refl _⟩ (fun s_95_5 H locs hp_95_5 hH hS => ?_)
              obtain ⟨hpc, hfc⟩ := hp_95_5
              refine m_vret C hret hH hS dX3_readsRow_98 ?_
              refine ⟨by unfold rowE; rw [← hr2]; exact hpc, fun x' hx' i' a b => ?_, (((hfa.up rfl).th hfb rfl).th hf1 rfl).th hfc rfl⟩
              have hx2 : goE tx n r2 = .inr x' := by rw [hr2]; exact hx'
              obtain ⟨y, hy, -⟩ := goE_inr hx2
              obtain ⟨x, h1, h2, h3, h4⟩ := hgo9 (hpb.e0.mpr ⟨y, hy⟩)
              have h5 := hpb.e0.mpr ⟨y, hy⟩
              rw [hfc.at 15 rfl, hres i' a (by omega), h1]
              show _ = if tx (x.2.1 + i') = 35 then 1 else 0
              rw [h3]
            · obtain ⟨xg, hg1, hg2, hg3, hg4⟩ := hgo9 (by omega)
              have v4 := hx4 (σ 34 0 + i)
              refine z_aload_n C dX3_readsRow_61 hl 1 rfl ?_
              refine m_geta C hH 15 ⟨by decide, by decide⟩ q2200 rfl dX3_readsRow_62 ?_
              refine z_iload_n C dX3_readsRow_65 hl 0 rfl ?_
              refine z_aload_n C dX3_readsRow_66 hl 1 rfl ?_
              refine m_geta C hH 31 ⟨by decide, by decide⟩ q2216 rfl dX3_readsRow_67 ?_
              refine z_aload_n C dX3_readsRow_70 hl 1 rfl ?_
              refine m_getsZ C hH 34 ⟨by decide, by decide⟩ (σ 34 0) (by rw [hf1.at 34 rfl, hfb.at 34 rfl, hfa.at 34 rfl]) q2219 rfl dX3_readsRow_71 ?_
              refine z_iload_n C dX3_readsRow_74 hl 0 rfl ?_
              refine z_iadd C dX3_readsRow_75 ?_
              refine m_bald C hOk hH 31 ⟨by decide, by decide⟩ (show 0 ≤ ((σ 34 0) + i) ∧ ((σ 34 0) + i) < (900 : Int) by omega) dX3_readsRow_76 ?_
              refine z_topr (show s1 31 ((σ 34 0) + i) = tx (σ 34 0 + i) from by rw [hf1.at 31 rfl, hfb.at 31 rfl, hfa.at 31 rfl]; exact hx3 _ (by omega) (by omega)) ?_
              refine z_bipush C dX3_readsRow_77 (by decide +kernel) ?_
              refine z_icmpne C dX3_readsRow_79 (tgt := 86) (by decide) ⟨⟨by omega, by omega⟩, ⟨by omega, by omega⟩⟩ (fun c_79_2 => ?_) (fun c_79_2 => ?_)
              · refine z_iconst C dX3_readsRow_86 ?_
                refine m_iast C hOk hH hS 15 ⟨by decide, by decide⟩ (show 0 ≤ i ∧ i < (40 : Int) by omega) dX3_readsRow_87 (fun H locs hH hS => ?_)
                refine z_iinc C [(1, .int (iI (i + 1))), (0, .ref o)] dX3_readsRow_88 hl 0 rfl (by decide) rfl (fun ls hl => ?_)
                refine z_goto C dX3_readsRow_91 (tgt := 46) (by decide) ?_
                exact ih_46 ((i + 1)) ((su s1 15 i 0)) (by omega) (by omega) (frSu hf1 rfl) (by omega) (fun j a b => by
                  show uZ (s1 15) i _ j = _
                  by_cases e : j = i
                  · rw [e, uZ_self, if_neg (fun h => c_79_2 h)]
                  · rw [uZ_ne _ _ e]; exact hres j a (by omega)) _ _ _ hH hS (lv_sub hl [0, 1] rfl)
              · refine z_iconst C dX3_readsRow_82 ?_
                refine z_goto C dX3_readsRow_83 (tgt := 87) (by decide) ?_
                refine m_iast C hOk hH hS 15 ⟨by decide, by decide⟩ (show 0 ≤ i ∧ i < (40 : Int) by omega) dX3_readsRow_87 (fun H locs hH hS => ?_)
                refine z_iinc C [(1, .int (iI (i + 1))), (0, .ref o)] dX3_readsRow_88 hl 0 rfl (by decide) rfl (fun ls hl => ?_)
                refine z_goto C dX3_readsRow_91 (tgt := 46) (by decide) ?_
                exact ih_46 ((i + 1)) ((su s1 15 i 1)) (by omega) (by omega) (frSu hf1 rfl) (by omega) (fun j a b => by
                  show uZ (s1 15) i _ j = _
                  by_cases e : j = i
                  · rw [e, uZ_self, if_pos c_79_2]
                  · rw [uZ_ne _ _ e]; exact hres j a (by omega)) _ _ _ hH hS (lv_sub hl [0, 1] rfl)
      exact J_46 _ 0 sb (Nat.lt_succ_self _) (by omega) (Fr.rf) (by omega) (fun j a b => absurd b (by omega)) _ _ _ hH hS (lv_sub hl [0, 1] rfl)
    · refine z_iconst C dX3_readsRow_35 ?_
      refine z_goto C dX3_readsRow_36 (tgt := 40) (by decide) ?_
      refine z_iconst C dX3_readsRow_40 ?_
      refine m_Vv C hH hS (mm_must hOk sa 1 3 tx n ((ndE r (kdE r 3) 1)) (hpa) (by decide) (by decide)) (cwV 2 C.1.2.2.2.2 (lw_V q2662 q2664 qs95 q133 q2665) rfl rfl rfl (by decide +kernel) ⟨Nat.le_of_ble_eq_true rfl, Nat.le_of_ble_eq_true rfl⟩) rfl hl rfl (Nat.le_of_ble_eq_true rfl) dX3_readsRow_41 ⟨Nat.le_refl _, Nat.le_refl _⟩ (fun sb H locs hp_41_3 hH hS => ?_)
      obtain ⟨hpb, hfb⟩ := hp_41_3
      have e41 : ndE (ndE r (kdE r 3) 1) (decide ((1 : Int) = 1)) 3 = ndE (ndE r (kdE r 3) 1) (wB r wd) 3 := ndE_congr (fun x hx => by
        have h1 := (ndE_inr hx).1
        subst h1
        have h2 := hp.at
        show (decide ((1 : Int) = 1)) = decide (x.1 - x.2.1 = wd)
        exact decide_eq_decide.mpr (by omega))
      rw [e41] at hpb
      have erb := hpb.er
      obtain ⟨r2, hr2⟩ : ∃ y, y = ndE (ndE r (kdE r 3) 1) (wB r wd) 3 := ⟨_, rfl⟩
      rw [← hr2] at hpb
      have hgo9 : sb 37 0 = 0 → ∃ x, r = .inr x ∧ r2 = .inr x ∧ x.2.1 = σ 34 0 ∧ σ 33 0 - σ 34 0 = wd := fun h => by
        obtain ⟨x, hx⟩ := hpb.e0.mp h
        have h1 := ndE_inr (hr2.symm.trans hx)
        have h2 := (ndE_inr h1.1).1
        have h3 := h1.2
        subst h2
        have h4 := hp.at
        have h5 := of_decide_eq_true h3
        exact ⟨x, rfl, hx, by omega, by omega⟩
      refine z_iconst C dX3_readsRow_44 ?_
      refine z_istore_n C [(1, .int (iI 0)), (0, .ref o)] dX3_readsRow_45 hl (by decide) rfl (fun ls hl => ?_)
      have J_46 : ∀ (fu : Nat) (i : Int) (s1 : Sg), (wd - i).toNat < fu → (0 ≤ i ∧ i ≤ wd) → (Fr [15] sb s1) → (i = 0 ∨ sb 37 0 = 0) → (∀ j, 0 ≤ j → j < i → s1 15 j = (if tx (σ 34 0 + j) = 35 then 1 else 0)) → ∀ (H : Heap) (locs : List Loc) (ls : Array Slot), MH D dA A o ad s1 H → va_S A s0.heap H locs → lv_has ls 2 [(1, .int (iI i)), (0, .ref o)] → W pp l ee (rmL 5 0 0) s0 mm ([.ref o] : List Value).toArray below meth cc0 H locs 0 0 (MQ below (MQv D dA A o ad (fun σ' => PX σ' tx n (rowE tx n wd r) ∧ (∀ x', rowE tx n wd r = .inr x' → ∀ i, 0 ≤ i → i < wd → σ' 15 i = rowF tx r i) ∧ Fr [15, 33, 34, 35, 36, 37, 38] σ σ')) ([.ref o] : List Value).toArray s0 0 0 A) (F0 mm 46 ls []) := by
        intro fu
        induction fu with
        | zero => intro i s1 hn; exact absurd hn (Nat.not_lt_zero _)
        | succ fu ih_46 =>
          intro i s1 hn hi0 hf1 hi9 hres H locs ls hH hS hl
          refine z_iload_n C dX3_readsRow_46 hl 0 rfl ?_
          refine z_aload_n C dX3_readsRow_47 hl 1 rfl ?_
          refine m_getsZ C hH 9 ⟨by decide, by decide⟩ wd (by rw [hf1.at 9 rfl, hfb.at 9 rfl, hfa.at 9 rfl]; exact h9) q2194 rfl dX3_readsRow_48 ?_
          refine z_icmpge C dX3_readsRow_51 (tgt := 94) (by decide) ⟨⟨by omega, by omega⟩, ⟨by omega, by omega⟩⟩ (fun c_51_3 => ?_) (fun c_51_3 => ?_)
          · refine z_aload_n C dX3_readsRow_94 hl 1 rfl ?_
            refine m_Vv C hH hS (mm_goesOn hOk s1 tx n r2 (hpb.fr (fun k a b => hf1.at k (by rcases (show k = 31 ∨ k = 32 ∨ k = 33 ∨ k = 34 ∨ k = 35 ∨ k = 36 ∨ k = 37 ∨ k = 38 by omega) with h | h | h | h | h | h | h | h <;> subst h <;> rfl)))) (cwV 0 C.1.2.2.2.2 (lw_V q2650 q2652 qs92 q133 q2653) rfl rfl rfl (by decide +kernel) ⟨Nat.le_of_ble_eq_true rfl, Nat.le_of_ble_eq_true rfl⟩) rfl hl rfl (Nat.le_of_ble_eq_true rfl) dX3_readsRow_95 ⟨Nat.le_refl _, Nat.le_refl _⟩ (fun s_95_6 H locs hp_95_6 hH hS => ?_)
            obtain ⟨hpc, hfc⟩ := hp_95_6
            refine m_vret C hret hH hS dX3_readsRow_98 ?_
            refine ⟨by unfold rowE; rw [← hr2]; exact hpc, fun x' hx' i' a b => ?_, (((hfa.up rfl).th hfb rfl).th hf1 rfl).th hfc rfl⟩
            have hx2 : goE tx n r2 = .inr x' := by rw [hr2]; exact hx'
            obtain ⟨y, hy, -⟩ := goE_inr hx2
            obtain ⟨x, h1, h2, h3, h4⟩ := hgo9 (hpb.e0.mpr ⟨y, hy⟩)
            have h5 := hpb.e0.mpr ⟨y, hy⟩
            rw [hfc.at 15 rfl, hres i' a (by omega), h1]
            show _ = if tx (x.2.1 + i') = 35 then 1 else 0
            rw [h3]
          · refine z_aload_n C dX3_readsRow_54 hl 1 rfl ?_
            refine m_getsZ C hH 37 ⟨by decide, by decide⟩ (sb 37 0) (by rw [hf1.at 37 rfl]) q2222 rfl dX3_readsRow_55 ?_
            refine z_ifne C dX3_readsRow_58 (tgt := 94) (by decide) ⟨by omega, by omega⟩ (fun c_58_3 => ?_) (fun c_58_3 => ?_)
            · refine z_aload_n C dX3_readsRow_94 hl 1 rfl ?_
              refine m_Vv C hH hS (mm_goesOn hOk s1 tx n r2 (hpb.fr (fun k a b => hf1.at k (by rcases (show k = 31 ∨ k = 32 ∨ k = 33 ∨ k = 34 ∨ k = 35 ∨ k = 36 ∨ k = 37 ∨ k = 38 by omega) with h | h | h | h | h | h | h | h <;> subst h <;> rfl)))) (cwV 0 C.1.2.2.2.2 (lw_V q2650 q2652 qs92 q133 q2653) rfl rfl rfl (by decide +kernel) ⟨Nat.le_of_ble_eq_true rfl, Nat.le_of_ble_eq_true rfl⟩) rfl hl rfl (Nat.le_of_ble_eq_true rfl) dX3_readsRow_95 ⟨Nat.le_refl _, Nat.le_refl _⟩ (fun s_95_7 H locs hp_95_7 hH hS => ?_)
              obtain ⟨hpc, hfc⟩ := hp_95_7
              refine m_vret C hret hH hS dX3_readsRow_98 ?_
              refine ⟨by unfold rowE; rw [← hr2]; exact hpc, fun x' hx' i' a b => ?_, (((hfa.up rfl).th hfb rfl).th hf1 rfl).th hfc rfl⟩
              have hx2 : goE tx n r2 = .inr x' := by rw [hr2]; exact hx'
              obtain ⟨y, hy, -⟩ := goE_inr hx2
              obtain ⟨x, h1, h2, h3, h4⟩ := hgo9 (hpb.e0.mpr ⟨y, hy⟩)
              have h5 := hpb.e0.mpr ⟨y, hy⟩
              rw [hfc.at 15 rfl, hres i' a (by omega), h1]
              show _ = if tx (x.2.1 + i') = 35 then 1 else 0
              rw [h3]
            · obtain ⟨xg, hg1, hg2, hg3, hg4⟩ := hgo9 (by omega)
              have v4 := hx4 (σ 34 0 + i)
              refine z_aload_n C dX3_readsRow_61 hl 1 rfl ?_
              refine m_geta C hH 15 ⟨by decide, by decide⟩ q2200 rfl dX3_readsRow_62 ?_
              refine z_iload_n C dX3_readsRow_65 hl 0 rfl ?_
              refine z_aload_n C dX3_readsRow_66 hl 1 rfl ?_
              refine m_geta C hH 31 ⟨by decide, by decide⟩ q2216 rfl dX3_readsRow_67 ?_
              refine z_aload_n C dX3_readsRow_70 hl 1 rfl ?_
              refine m_getsZ C hH 34 ⟨by decide, by decide⟩ (σ 34 0) (by rw [hf1.at 34 rfl, hfb.at 34 rfl, hfa.at 34 rfl]) q2219 rfl dX3_readsRow_71 ?_
              refine z_iload_n C dX3_readsRow_74 hl 0 rfl ?_
              refine z_iadd C dX3_readsRow_75 ?_
              refine m_bald C hOk hH 31 ⟨by decide, by decide⟩ (show 0 ≤ ((σ 34 0) + i) ∧ ((σ 34 0) + i) < (900 : Int) by omega) dX3_readsRow_76 ?_
              refine z_topr (show s1 31 ((σ 34 0) + i) = tx (σ 34 0 + i) from by rw [hf1.at 31 rfl, hfb.at 31 rfl, hfa.at 31 rfl]; exact hx3 _ (by omega) (by omega)) ?_
              refine z_bipush C dX3_readsRow_77 (by decide +kernel) ?_
              refine z_icmpne C dX3_readsRow_79 (tgt := 86) (by decide) ⟨⟨by omega, by omega⟩, ⟨by omega, by omega⟩⟩ (fun c_79_3 => ?_) (fun c_79_3 => ?_)
              · refine z_iconst C dX3_readsRow_86 ?_
                refine m_iast C hOk hH hS 15 ⟨by decide, by decide⟩ (show 0 ≤ i ∧ i < (40 : Int) by omega) dX3_readsRow_87 (fun H locs hH hS => ?_)
                refine z_iinc C [(1, .int (iI (i + 1))), (0, .ref o)] dX3_readsRow_88 hl 0 rfl (by decide) rfl (fun ls hl => ?_)
                refine z_goto C dX3_readsRow_91 (tgt := 46) (by decide) ?_
                exact ih_46 ((i + 1)) ((su s1 15 i 0)) (by omega) (by omega) (frSu hf1 rfl) (by omega) (fun j a b => by
                  show uZ (s1 15) i _ j = _
                  by_cases e : j = i
                  · rw [e, uZ_self, if_neg (fun h => c_79_3 h)]
                  · rw [uZ_ne _ _ e]; exact hres j a (by omega)) _ _ _ hH hS (lv_sub hl [0, 1] rfl)
              · refine z_iconst C dX3_readsRow_82 ?_
                refine z_goto C dX3_readsRow_83 (tgt := 87) (by decide) ?_
                refine m_iast C hOk hH hS 15 ⟨by decide, by decide⟩ (show 0 ≤ i ∧ i < (40 : Int) by omega) dX3_readsRow_87 (fun H locs hH hS => ?_)
                refine z_iinc C [(1, .int (iI (i + 1))), (0, .ref o)] dX3_readsRow_88 hl 0 rfl (by decide) rfl (fun ls hl => ?_)
                refine z_goto C dX3_readsRow_91 (tgt := 46) (by decide) ?_
                exact ih_46 ((i + 1)) ((su s1 15 i 1)) (by omega) (by omega) (frSu hf1 rfl) (by omega) (fun j a b => by
                  show uZ (s1 15) i _ j = _
                  by_cases e : j = i
                  · rw [e, uZ_self, if_pos c_79_3]
                  · rw [uZ_ne _ _ e]; exact hres j a (by omega)) _ _ _ hH hS (lv_sub hl [0, 1] rfl)
      exact J_46 _ 0 sb (Nat.lt_succ_self _) (by omega) (Fr.rf) (by omega) (fun j a b => absurd b (by omega)) _ _ _ hH hS (lv_sub hl [0, 1] rfl)
