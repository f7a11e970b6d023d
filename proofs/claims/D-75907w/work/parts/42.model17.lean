/-! the reference's methods, 17 (written by gen/model17.py) -/
set_option maxRecDepth 100000
set_option maxHeartbeats 1000000 in
theorem mm_readsAbove {l : Launch} {D : va_G} {dA : Nat → ClassId} {A : Nat → Prop} {o : Nat} {ad : Nat → Nat} (hOk : mOk o ad) (σ : Sg) (tx : Int → Int) (n : Int) (r : Er LX) (wd : Int) (u : Int → Int) (hp : PX σ tx n r) (hW : 8 ≤ wd ∧ wd ≤ 40) (h9 : σ 9 0 = wd) (hD : WdAt σ) (hu : ∀ j, 0 ≤ j → j < wd → σ 7 j = u j) (hb : ∀ j, u j = 0 ∨ u j = 1) (hq : RdAt σ rd0) : Met l yX3_readsAbove (ws_ yX3_readsAbove cX3_readsAbove 1 none) (rmL 7 0 0) (MP D dA A o ad [.ref o] σ) (MQv D dA A o ad (fun σ' => PX σ' tx n (abE wd (abR tx n wd u r)) ∧ (∀ y, abE wd (abR tx n wd u r) = .inr y → ∀ i, 0 ≤ i → i < 40 → σ' 15 i = (abR tx n wd u r).2.2.2 i) ∧ Fr [15, 16, 17, 33, 34, 35, 36, 37, 38] σ σ')) 0 0 A := by
  refine z_ofW (by decide) rfl ?_
  intro pp ee s0 mm below meth cc0 ls C hret hname hl hH hS
  have hl : lv_has ls 1 [(0, .ref o)] := hl
  have hTx := hp.1
  obtain ⟨hx1, hx2, hx3, hx4⟩ := hTx
  have hRx := hp.2.1
  obtain ⟨g1, g2, g3, g4, g5, g6, g7, g8, g9⟩ := hRx
  have h160 : σ 16 0 = -1 := hq.1
  have J_0 : ∀ (fu : Nat) (s1 : Sg) (T : AbT), abQ wd T < fu → (PX s1 tx n T.1) → (abI wd T) → (∀ y, T.1 = .inr y → RdAt s1 T.2) → (-1 ≤ s1 16 0 ∧ s1 16 0 ≤ wd) → (Fr [15, 16, 17, 33, 34, 35, 36, 37, 38] σ s1) → (itN (abS tx n wd u) (abC tx) 100 T = abR tx n wd u r) → ∀ (H : Heap) (locs : List Loc) (ls : Array Slot), MH D dA A o ad s1 H → va_S A s0.heap H locs → lv_has ls 1 [(0, .ref o)] → W pp l ee (rmL 7 0 0) s0 mm ([.ref o] : List Value).toArray below meth cc0 H locs 0 0 (MQ below (MQv D dA A o ad (fun σ' => PX σ' tx n (abE wd (abR tx n wd u r)) ∧ (∀ y, abE wd (abR tx n wd u r) = .inr y → ∀ i, 0 ≤ i → i < 40 → σ' 15 i = (abR tx n wd u r).2.2.2 i) ∧ Fr [15, 16, 17, 33, 34, 35, 36, 37, 38] σ σ')) ([.ref o] : List Value).toArray s0 0 0 A) (F0 mm 0 ls []) := by
    intro fu
    induction fu with
    | zero => intro s1 T hn; exact absurd hn (Nat.not_lt_zero _)
    | succ fu ih_0 =>
      intro s1 T hn hPX hI hrd h16 hfr hR H locs ls hH hS hl
      have er1 := hPX.er
      have lr1 := hPX.2.1
      obtain ⟨-, -, -, t4, t5, -, -, -, -⟩ := lr1
      refine z_aload_n C dX3_readsAbove_0 hl 0 rfl ?_
      refine m_getsZ C hH 37 ⟨by decide, by decide⟩ (s1 37 0) rfl q2222 rfl dX3_readsAbove_1 ?_
      refine z_ifne C dX3_readsAbove_4 (tgt := 28) (by decide) ⟨by omega, by omega⟩ (fun c_4 => ?_) (fun c_4 => ?_)
      · have hCn : ¬ abC tx T = true := fun hC => by
          have h1 := of_decide_eq_true hC
          cases hT1 : T.1 with
          | inl e => rw [hT1] at h1; exact absurd h1 (show ¬ (6 : Int) ≤ -1 by decide)
          | inr x =>
            have h4 := hPX.e0.mpr ⟨x, hT1⟩
            first
              | (exfalso; omega)
              | (rw [hwE] at h1; omega)
        have hRT : abR tx n wd u r = T := by rw [← hR]; exact abR_end hCn
        refine z_aload_n C dX3_readsAbove_28 hl 0 rfl ?_
        refine z_aload_n C dX3_readsAbove_29 hl 0 rfl ?_
        refine m_getsZ C hH 35 ⟨by decide, by decide⟩ (s1 35 0) rfl q2220 rfl dX3_readsAbove_30 ?_
        refine z_iconst C dX3_readsAbove_33 ?_
        refine z_icmpne C dX3_readsAbove_34 (tgt := 41) (by decide) ⟨⟨by omega, by omega⟩, ⟨by omega, by omega⟩⟩ (fun c_34 => ?_) (fun c_34 => ?_)
        · refine z_iconst C dX3_readsAbove_41 ?_
          refine z_iconst C dX3_readsAbove_42 ?_
          refine m_Vv C hH hS (mm_must hOk s1 0 1 tx n T.1 (hPX) (by decide) (by decide)) (cwV 2 C.1.2.2.2.2 (lw_V q2662 q2664 qs95 q133 q2665) rfl rfl rfl (by decide +kernel) ⟨Nat.le_of_ble_eq_true rfl, Nat.le_of_ble_eq_true rfl⟩) rfl hl rfl (Nat.le_of_ble_eq_true rfl) dX3_readsAbove_43 ⟨Nat.le_refl _, Nat.le_refl _⟩ (fun td H locs hp_43 hH hS => ?_)
          obtain ⟨hpd, hfd⟩ := hp_43
          have e43 : ndE T.1 (decide ((0 : Int) = 1)) 1 = ndE T.1 (kdE T.1 4) 1 := hPX.kd (decide_eq_decide.mpr (by omega))
          rw [e43] at hpd
          refine z_aload_n C dX3_readsAbove_46 hl 0 rfl ?_
          refine z_aload_n C dX3_readsAbove_47 hl 0 rfl ?_
          refine m_getsZ C hH 16 ⟨by decide, by decide⟩ (s1 16 0) (by rw [hfd.at 16 rfl]) q2201 rfl dX3_readsAbove_48 ?_
          refine z_aload_n C dX3_readsAbove_51 hl 0 rfl ?_
          refine m_getsZ C hH 9 ⟨by decide, by decide⟩ wd (by rw [hfd.at 9 rfl, hfr.at 9 rfl]; exact h9) q2194 rfl dX3_readsAbove_52 ?_
          refine z_icmpne C dX3_readsAbove_55 (tgt := 62) (by decide) ⟨⟨by omega, by omega⟩, ⟨by omega, by omega⟩⟩ (fun c_55 => ?_) (fun c_55 => ?_)
          · refine z_iconst C dX3_readsAbove_62 ?_
            refine z_iconst C dX3_readsAbove_63 ?_
            refine m_Vv C hH hS (mm_must hOk td 0 3 tx n ((ndE T.1 (kdE T.1 4) 1)) (hpd) (by decide) (by decide)) (cwV 2 C.1.2.2.2.2 (lw_V q2662 q2664 qs95 q133 q2665) rfl rfl rfl (by decide +kernel) ⟨Nat.le_of_ble_eq_true rfl, Nat.le_of_ble_eq_true rfl⟩) rfl hl rfl (Nat.le_of_ble_eq_true rfl) dX3_readsAbove_64 ⟨Nat.le_refl _, Nat.le_refl _⟩ (fun te H locs hp_64 hH hS => ?_)
            obtain ⟨hpe, hfe⟩ := hp_64
            have e64 : ndE (ndE T.1 (kdE T.1 4) 1) (decide ((0 : Int) = 1)) 3 = abE wd T := ndE_congr (fun x hx => by
              have h1 := hrd x (ndE_inr hx).1
              have h2 := h1.1
              exact decide_eq_decide.mpr (by omega))
            rw [e64] at hpe
            refine m_vret C hret hH hS dX3_readsAbove_67 ?_
            rw [hRT]
            exact ⟨hpe, fun y h i a b => by rw [hfe.at 15 rfl, hfd.at 15 rfl]; exact (hrd y (ndE_inr (ndE_inr h).1).1).2.2 i a b, (hfr.th hfd rfl).th hfe rfl⟩
          · refine z_iconst C dX3_readsAbove_58 ?_
            refine z_goto C dX3_readsAbove_59 (tgt := 63) (by decide) ?_
            refine z_iconst C dX3_readsAbove_63 ?_
            refine m_Vv C hH hS (mm_must hOk td 1 3 tx n ((ndE T.1 (kdE T.1 4) 1)) (hpd) (by decide) (by decide)) (cwV 2 C.1.2.2.2.2 (lw_V q2662 q2664 qs95 q133 q2665) rfl rfl rfl (by decide +kernel) ⟨Nat.le_of_ble_eq_true rfl, Nat.le_of_ble_eq_true rfl⟩) rfl hl rfl (Nat.le_of_ble_eq_true rfl) dX3_readsAbove_64 ⟨Nat.le_refl _, Nat.le_refl _⟩ (fun te H locs hp_64_1 hH hS => ?_)
            obtain ⟨hpe, hfe⟩ := hp_64_1
            have e64 : ndE (ndE T.1 (kdE T.1 4) 1) (decide ((1 : Int) = 1)) 3 = abE wd T := ndE_congr (fun x hx => by
              have h1 := hrd x (ndE_inr hx).1
              have h2 := h1.1
              exact decide_eq_decide.mpr (by omega))
            rw [e64] at hpe
            refine m_vret C hret hH hS dX3_readsAbove_67 ?_
            rw [hRT]
            exact ⟨hpe, fun y h i a b => by rw [hfe.at 15 rfl, hfd.at 15 rfl]; exact (hrd y (ndE_inr (ndE_inr h).1).1).2.2 i a b, (hfr.th hfd rfl).th hfe rfl⟩
        · refine z_iconst C dX3_readsAbove_37 ?_
          refine z_goto C dX3_readsAbove_38 (tgt := 42) (by decide) ?_
          refine z_iconst C dX3_readsAbove_42 ?_
          refine m_Vv C hH hS (mm_must hOk s1 1 1 tx n T.1 (hPX) (by decide) (by decide)) (cwV 2 C.1.2.2.2.2 (lw_V q2662 q2664 qs95 q133 q2665) rfl rfl rfl (by decide +kernel) ⟨Nat.le_of_ble_eq_true rfl, Nat.le_of_ble_eq_true rfl⟩) rfl hl rfl (Nat.le_of_ble_eq_true rfl) dX3_readsAbove_43 ⟨Nat.le_refl _, Nat.le_refl _⟩ (fun td H locs hp_43_1 hH hS => ?_)
          obtain ⟨hpd, hfd⟩ := hp_43_1
          have e43 : ndE T.1 (decide ((1 : Int) = 1)) 1 = ndE T.1 (kdE T.1 4) 1 := hPX.kd (decide_eq_decide.mpr (by omega))
          rw [e43] at hpd
          refine z_aload_n C dX3_readsAbove_46 hl 0 rfl ?_
          refine z_aload_n C dX3_readsAbove_47 hl 0 rfl ?_
          refine m_getsZ C hH 16 ⟨by decide, by decide⟩ (s1 16 0) (by rw [hfd.at 16 rfl]) q2201 rfl dX3_readsAbove_48 ?_
          refine z_aload_n C dX3_readsAbove_51 hl 0 rfl ?_
          refine m_getsZ C hH 9 ⟨by decide, by decide⟩ wd (by rw [hfd.at 9 rfl, hfr.at 9 rfl]; exact h9) q2194 rfl dX3_readsAbove_52 ?_
          refine z_icmpne C dX3_readsAbove_55 (tgt := 62) (by decide) ⟨⟨by omega, by omega⟩, ⟨by omega, by omega⟩⟩ (fun c_55_1 => ?_) (fun c_55_1 => ?_)
          · refine z_iconst C dX3_readsAbove_62 ?_
            refine z_iconst C dX3_readsAbove_63 ?_
            refine m_Vv C hH hS (mm_must hOk td 0 3 tx n ((ndE T.1 (kdE T.1 4) 1)) (hpd) (by decide) (by decide)) (cwV 2 C.1.2.2.2.2 (lw_V q2662 q2664 qs95 q133 q2665) rfl rfl rfl (by decide +kernel) ⟨Nat.le_of_ble_eq_true rfl, Nat.le_of_ble_eq_true rfl⟩) rfl hl rfl (Nat.le_of_ble_eq_true rfl) dX3_readsAbove_64 ⟨Nat.le_refl _, Nat.le_refl _⟩ (fun te H locs hp_64_2 hH hS => ?_)
            obtain ⟨hpe, hfe⟩ := hp_64_2
            have e64 : ndE (ndE T.1 (kdE T.1 4) 1) (decide ((0 : Int) = 1)) 3 = abE wd T := ndE_congr (fun x hx => by
              have h1 := hrd x (ndE_inr hx).1
              have h2 := h1.1
              exact decide_eq_decide.mpr (by omega))
            rw [e64] at hpe
            refine m_vret C hret hH hS dX3_readsAbove_67 ?_
            rw [hRT]
            exact ⟨hpe, fun y h i a b => by rw [hfe.at 15 rfl, hfd.at 15 rfl]; exact (hrd y (ndE_inr (ndE_inr h).1).1).2.2 i a b, (hfr.th hfd rfl).th hfe rfl⟩
          · refine z_iconst C dX3_readsAbove_58 ?_
            refine z_goto C dX3_readsAbove_59 (tgt := 63) (by decide) ?_
            refine z_iconst C dX3_readsAbove_63 ?_
            refine m_Vv C hH hS (mm_must hOk td 1 3 tx n ((ndE T.1 (kdE T.1 4) 1)) (hpd) (by decide) (by decide)) (cwV 2 C.1.2.2.2.2 (lw_V q2662 q2664 qs95 q133 q2665) rfl rfl rfl (by decide +kernel) ⟨Nat.le_of_ble_eq_true rfl, Nat.le_of_ble_eq_true rfl⟩) rfl hl rfl (Nat.le_of_ble_eq_true rfl) dX3_readsAbove_64 ⟨Nat.le_refl _, Nat.le_refl _⟩ (fun te H locs hp_64_3 hH hS => ?_)
            obtain ⟨hpe, hfe⟩ := hp_64_3
            have e64 : ndE (ndE T.1 (kdE T.1 4) 1) (decide ((1 : Int) = 1)) 3 = abE wd T := ndE_congr (fun x hx => by
              have h1 := hrd x (ndE_inr hx).1
              have h2 := h1.1
              exact decide_eq_decide.mpr (by omega))
            rw [e64] at hpe
            refine m_vret C hret hH hS dX3_readsAbove_67 ?_
            rw [hRT]
            exact ⟨hpe, fun y h i a b => by rw [hfe.at 15 rfl, hfd.at 15 rfl]; exact (hrd y (ndE_inr (ndE_inr h).1).1).2.2 i a b, (hfr.th hfd rfl).th hfe rfl⟩
      · obtain ⟨y, hy⟩ := hPX.e0.mp (by omega)
        have hPy : PX s1 tx n (.inr y) := by rw [← hy]; exact hPX
        have wr := wix_in tx y
        have hwE : wixE tx T.1 = wix tx y := by rw [hy]; rfl
        refine z_aload_n C dX3_readsAbove_7 hl 0 rfl ?_
        refine m_ViF C hH hS (mm_wordHere hOk s1 tx n y (hPy) (fun j a b => by rw [hfr.at 39 rfl]; exact hD j a b)) (cwV 0 C.1.2.2.2.2 (lw_V q2646 q2648 qs91 q133 q2649) rfl rfl rfl (by decide +kernel) ⟨Nat.le_of_ble_eq_true rfl, Nat.le_of_ble_eq_true rfl⟩) rfl hl rfl (Nat.le_of_ble_eq_true rfl) dX3_readsAbove_8 ⟨Nat.le_refl _, Nat.le_refl _⟩ (fun H locs hH hS => ?_)
        refine z_bipush C dX3_readsAbove_11 (by decide +kernel) ?_
        refine z_bipush C dX3_readsAbove_13 (by decide +kernel) ?_
        refine m_SiF C hH hS (mm_in hOk s1 (wix tx y) 6 8 (⟨by omega, by omega⟩) (⟨by omega, by omega⟩) (⟨by omega, by omega⟩)) (va_cwS 3 C.1.2.2.2.2 (lw_S q2321 q2322 q133 q2323) rfl rfl rfl (by decide +kernel) ⟨Nat.le_of_ble_eq_true rfl, Nat.le_of_ble_eq_true rfl⟩) rfl hl rfl (Nat.le_of_ble_eq_true rfl) dX3_readsAbove_15 ⟨Nat.le_refl _, Nat.le_refl _⟩ (fun H locs hH hS => ?_)
        refine z_topi (fun z_15 hz_15 => ?_)
        have q_15 := inZ_or (wix tx y) 6 8
        rw [← hz_15] at q_15
        refine z_ifeq C dX3_readsAbove_18 (tgt := 28) (by decide) ⟨by omega, by omega⟩ (fun c_18 => ?_) (fun c_18 => ?_)
        · have hCn : ¬ abC tx T = true := fun hC => by
            have h1 := of_decide_eq_true hC
            cases hT1 : T.1 with
            | inl e => rw [hT1] at h1; exact absurd h1 (show ¬ (6 : Int) ≤ -1 by decide)
            | inr x =>
              have h4 := hPX.e0.mpr ⟨x, hT1⟩
              first
                | (exfalso; omega)
                | (rw [hwE] at h1; omega)
          have hRT : abR tx n wd u r = T := by rw [← hR]; exact abR_end hCn
          refine z_aload_n C dX3_readsAbove_28 hl 0 rfl ?_
          refine z_aload_n C dX3_readsAbove_29 hl 0 rfl ?_
          refine m_getsZ C hH 35 ⟨by decide, by decide⟩ (s1 35 0) rfl q2220 rfl dX3_readsAbove_30 ?_
          refine z_iconst C dX3_readsAbove_33 ?_
          refine z_icmpne C dX3_readsAbove_34 (tgt := 41) (by decide) ⟨⟨by omega, by omega⟩, ⟨by omega, by omega⟩⟩ (fun c_34_1 => ?_) (fun c_34_1 => ?_)
          · refine z_iconst C dX3_readsAbove_41 ?_
            refine z_iconst C dX3_readsAbove_42 ?_
            refine m_Vv C hH hS (mm_must hOk s1 0 1 tx n T.1 (hPX) (by decide) (by decide)) (cwV 2 C.1.2.2.2.2 (lw_V q2662 q2664 qs95 q133 q2665) rfl rfl rfl (by decide +kernel) ⟨Nat.le_of_ble_eq_true rfl, Nat.le_of_ble_eq_true rfl⟩) rfl hl rfl (Nat.le_of_ble_eq_true rfl) dX3_readsAbove_43 ⟨Nat.le_refl _, Nat.le_refl _⟩ (fun td H locs hp_43_2 hH hS => ?_)
            obtain ⟨hpd, hfd⟩ := hp_43_2
            have e43 : ndE T.1 (decide ((0 : Int) = 1)) 1 = ndE T.1 (kdE T.1 4) 1 := hPX.kd (decide_eq_decide.mpr (by omega))
            rw [e43] at hpd
            refine z_aload_n C dX3_readsAbove_46 hl 0 rfl ?_
            refine z_aload_n C dX3_readsAbove_47 hl 0 rfl ?_
            refine m_getsZ C hH 16 ⟨by decide, by decide⟩ (s1 16 0) (by rw [hfd.at 16 rfl]) q2201 rfl dX3_readsAbove_48 ?_
            refine z_aload_n C dX3_readsAbove_51 hl 0 rfl ?_
            refine m_getsZ C hH 9 ⟨by decide, by decide⟩ wd (by rw [hfd.at 9 rfl, hfr.at 9 rfl]; exact h9) q2194 rfl dX3_readsAbove_52 ?_
            refine z_icmpne C dX3_readsAbove_55 (tgt := 62) (by decide) ⟨⟨by omega, by omega⟩, ⟨by omega, by omega⟩⟩ (fun c_55_2 => ?_) (fun c_55_2 => ?_)
            · refine z_iconst C dX3_readsAbove_62 ?_
              refine z_iconst C dX3_readsAbove_63 ?_
              refine m_Vv C hH hS (mm_must hOk td 0 3 tx n ((ndE T.1 (kdE T.1 4) 1)) (hpd) (by decide) (by decide)) (cwV 2 C.1.2.2.2.2 (lw_V q2662 q2664 qs95 q133 q2665) rfl rfl rfl (by decide +kernel) ⟨Nat.le_of_ble_eq_true rfl, Nat.le_of_ble_eq_true rfl⟩) rfl hl rfl (Nat.le_of_ble_eq_true rfl) dX3_readsAbove_64 ⟨Nat.le_refl _, Nat.le_refl _⟩ (fun te H locs hp_64_4 hH hS => ?_)
              obtain ⟨hpe, hfe⟩ := hp_64_4
              have e64 : ndE (ndE T.1 (kdE T.1 4) 1) (decide ((0 : Int) = 1)) 3 = abE wd T := ndE_congr (fun x hx => by
                have h1 := hrd x (ndE_inr hx).1
                have h2 := h1.1
                exact decide_eq_decide.mpr (by omega))
              rw [e64] at hpe
              refine m_vret C hret hH hS dX3_readsAbove_67 ?_
              rw [hRT]
              exact ⟨hpe, fun y h i a b => by rw [hfe.at 15 rfl, hfd.at 15 rfl]; exact (hrd y (ndE_inr (ndE_inr h).1).1).2.2 i a b, (hfr.th hfd rfl).th hfe rfl⟩
            · refine z_iconst C dX3_readsAbove_58 ?_
              refine z_goto C dX3_readsAbove_59 (tgt := 63) (by decide) ?_
              refine z_iconst C dX3_readsAbove_63 ?_
              refine m_Vv C hH hS (mm_must hOk td 1 3 tx n ((ndE T.1 (kdE T.1 4) 1)) (hpd) (by decide) (by decide)) (cwV 2 C.1.2.2.2.2 (lw_V q2662 q2664 qs95 q133 q2665) rfl rfl rfl (by decide +kernel) ⟨Nat.le_of_ble_eq_true rfl, Nat.le_of_ble_eq_true rfl⟩) rfl hl rfl (Nat.le_of_ble_eq_true rfl) dX3_readsAbove_64 ⟨Nat.le_refl _, Nat.le_refl _⟩ (fun te H locs hp_64_5 hH hS => ?_)
              obtain ⟨hpe, hfe⟩ := hp_64_5
              have e64 : ndE (ndE T.1 (kdE T.1 4) 1) (decide ((1 : Int) = 1)) 3 = abE wd T := ndE_congr (fun x hx => by
                have h1 := hrd x (ndE_inr hx).1
                have h2 := h1.1
                exact decide_eq_decide.mpr (by omega))
              rw [e64] at hpe
              refine m_vret C hret hH hS dX3_readsAbove_67 ?_
              rw [hRT]
              exact ⟨hpe, fun y h i a b => by rw [hfe.at 15 rfl, hfd.at 15 rfl]; exact (hrd y (ndE_inr (ndE_inr h).1).1).2.2 i a b, (hfr.th hfd rfl).th hfe rfl⟩
          · refine z_iconst C dX3_readsAbove_37 ?_
            refine z_goto C dX3_readsAbove_38 (tgt := 42) (by decide) ?_
            refine z_iconst C dX3_readsAbove_42 ?_
            refine m_Vv C hH hS (mm_must hOk s1 1 1 tx n T.1 (hPX) (by decide) (by decide)) (cwV 2 C.1.2.2.2.2 (lw_V q2662 q2664 qs95 q133 q2665) rfl rfl rfl (by decide +kernel) ⟨Nat.le_of_ble_eq_true rfl, Nat.le_of_ble_eq_true rfl⟩) rfl hl rfl (Nat.le_of_ble_eq_true rfl) dX3_readsAbove_43 ⟨Nat.le_refl _, Nat.le_refl _⟩ (fun td H locs hp_43_3 hH hS => ?_)
            obtain ⟨hpd, hfd⟩ := hp_43_3
            have e43 : ndE T.1 (decide ((1 : Int) = 1)) 1 = ndE T.1 (kdE T.1 4) 1 := hPX.kd (decide_eq_decide.mpr (by omega))
            rw [e43] at hpd
            refine z_aload_n C dX3_readsAbove_46 hl 0 rfl ?_
            refine z_aload_n C dX3_readsAbove_47 hl 0 rfl ?_
            refine m_getsZ C hH 16 ⟨by decide, by decide⟩ (s1 16 0) (by rw [hfd.at 16 rfl]) q2201 rfl dX3_readsAbove_48 ?_
            refine z_aload_n C dX3_readsAbove_51 hl 0 rfl ?_
            refine m_getsZ C hH 9 ⟨by decide, by decide⟩ wd (by rw [hfd.at 9 rfl, hfr.at 9 rfl]; exact h9) q2194 rfl dX3_readsAbove_52 ?_
            refine z_icmpne C dX3_readsAbove_55 (tgt := 62) (by decide) ⟨⟨by omega, by omega⟩, ⟨by omega, by omega⟩⟩ (fun c_55_3 => ?_) (fun c_55_3 => ?_)
            · refine z_iconst C dX3_readsAbove_62 ?_
              refine z_iconst C dX3_readsAbove_63 ?_
              refine m_Vv C hH hS (mm_must hOk td 0 3 tx n ((ndE T.1 (kdE T.1 4) 1)) (hpd) (by decide) (by decide)) (cwV 2 C.1.2.2.2.2 (lw_V q2662 q2664 qs95 q133 q2665) rfl rfl rfl (by decide +kernel) ⟨Nat.le_of_ble_eq_true rfl, Nat.le_of_ble_eq_true rfl⟩) rfl hl rfl (Nat.le_of_ble_eq_true rfl) dX3_readsAbove_64 ⟨Nat.le_refl _, Nat.le_refl _⟩ (fun te H locs hp_64_6 hH hS => ?_)
              obtain ⟨hpe, hfe⟩ := hp_64_6
              have e64 : ndE (ndE T.1 (kdE T.1 4) 1) (decide ((0 : Int) = 1)) 3 = abE wd T := ndE_congr (fun x hx => by
                have h1 := hrd x (ndE_inr hx).1
                have h2 := h1.1
                exact decide_eq_decide.mpr (by omega))
              rw [e64] at hpe
              refine m_vret C hret hH hS dX3_readsAbove_67 ?_
              rw [hRT]
              exact ⟨hpe, fun y h i a b => by rw [hfe.at 15 rfl, hfd.at 15 rfl]; exact (hrd y (ndE_inr (ndE_inr h).1).1).2.2 i a b, (hfr.th hfd rfl).th hfe rfl⟩
            · refine z_iconst C dX3_readsAbove_58 ?_
              refine z_goto C dX3_readsAbove_59 (tgt := 63) (by decide) ?_
              refine z_iconst C dX3_readsAbove_63 ?_
              refine m_Vv C hH hS (mm_must hOk td 1 3 tx n ((ndE T.1 (kdE T.1 4) 1)) (hpd) (by decide) (by decide)) (cwV 2 C.1.2.2.2.2 (lw_V q2662 q2664 qs95 q133 q2665) rfl rfl rfl (by decide +kernel) ⟨Nat.le_of_ble_eq_true rfl, Nat.le_of_ble_eq_true rfl⟩) rfl hl rfl (Nat.le_of_ble_eq_true rfl) dX3_readsAbove_64 ⟨Nat.le_refl _, Nat.le_refl _⟩ (fun te H locs hp_64_7 hH hS => ?_)
              obtain ⟨hpe, hfe⟩ := hp_64_7
              have e64 : ndE (ndE T.1 (kdE T.1 4) 1) (decide ((1 : Int) = 1)) 3 = abE wd T := ndE_congr (fun x hx => by
                have h1 := hrd x (ndE_inr hx).1
                have h2 := h1.1
                exact decide_eq_decide.mpr (by omega))
              rw [e64] at hpe
              refine m_vret C hret hH hS dX3_readsAbove_67 ?_
              rw [hRT]
              exact ⟨hpe, fun y h i a b => by rw [hfe.at 15 rfl, hfd.at 15 rfl]; exact (hrd y (ndE_inr (ndE_inr h).1).1).2.2 i a b, (hfr.th hfd rfl).th hfe rfl⟩
        · have hC : abC tx T = true := by unfold abC; rw [hwE]; exact decide_eq_true (by omega)
          have hT : abS tx n wd u (.inr y, T.2) = abS tx n wd u T := by rw [← hy]
          refine z_aload_n C dX3_readsAbove_21 hl 0 rfl ?_
          refine m_Vv C hH hS (mm_readsOne hOk s1 tx n y wd u T.2 (hPy) (hW) (by rw [hfr.at 9 rfl]; exact h9) (fun j a b => by rw [hfr.at 39 rfl]; exact hD j a b) (by omega) (fun j a b => by rw [hfr.at 7 rfl]; exact hu j a b) (hb) (hrd y hy) (hI)) (cwV 0 C.1.2.2.2.2 (lw_V q2690 q2692 qs102 q133 q2693) rfl rfl rfl (by decide +kernel) ⟨Nat.le_of_ble_eq_true rfl, Nat.le_of_ble_eq_true rfl⟩) rfl hl rfl (Nat.le_of_ble_eq_true rfl) dX3_readsAbove_22 ⟨Nat.le_refl _, Nat.le_refl _⟩ (fun ta H locs hp_22 hH hS => ?_)
          obtain ⟨hpa, hda, hha, hfa⟩ := hp_22
          refine z_goto C dX3_readsAbove_25 (tgt := 0) (by decide) ?_
          exact ih_0 ta ((abS tx n wd u T)) (by have := (abS_step (tx := tx) (n := n) (u := u) T hI hC).1; omega) (by rw [← hT]; exact hpa) ((abS_step (tx := tx) (n := n) (u := u) T hI hC).2) (by rw [← hT]; exact hda) (hha) (hfr.th hfa rfl) (by rw [← hR, abR_go hW hI hC]) _ _ _ hH hS (lv_sub hl [0] rfl)
  exact J_0 _ σ ((r, rd0)) (Nat.lt_succ_self _) (hp) (rd0_ok hW) (fun _ _ => hq) (by omega) (Fr.rf) (rfl) _ _ _ hH hS (lv_sub hl [0] rfl)
