/-! the reference's methods, 18 (written by gen/model18.py) -/
set_option maxRecDepth 100000
set_option maxHeartbeats 1000000 in
theorem mm_readsLine {l : Launch} {D : va_G} {dA : Nat → ClassId} {A : Nat → Prop} {o : Nat} {ad : Nat → Nat} (hOk : mOk o ad) (σ : Sg) (w : Int) (tx : Int → Int) (n : Int) (xx : LX) (P : Pg) (hp : PX σ tx n (.inr xx)) (hP : PgAt (σ 2) P) (ho : PgOk P) (hn : pN P < 20) (hD : WdAt σ) (hw : 0 ≤ w ∧ w ≤ 2) : Met l yX3_readsLine (ws_ yX3_readsLine cX3_readsLine 2 none) (rmL 8 0 0) (MP D dA A o ad [.ref o, .int (iI w)] σ) (MQv D dA A o ad (fun σ' => PX σ' tx n (ndE (lnR tx n w P (.inr xx)) (kdE (lnR tx n w P (.inr xx)) 4) 1) ∧ (∀ y, ndE (lnR tx n w P (.inr xx)) (kdE (lnR tx n w P (.inr xx)) 4) 1 = .inr y → PgAt (σ' 2) (adL P (lnF tx n w P (.inr xx)))) ∧ Fr [2, 7, 9, 15, 16, 17, 33, 34, 35, 36, 37, 38] σ σ')) 0 0 A := by
  refine z_ofW (by decide) rfl ?_
  intro pp ee s0 mm below meth cc0 ls C hret hname hl hH hS
  have hl : lv_has ls 2 [(0, .ref o), (1, .int (iI w))] := hl
  have hq := QXpg ho
  refine z_aload_n C dX3_readsLine_0 hl 0 rfl ?_
  refine m_Vv C hH hS (mm_laysTold hOk σ P (hP) (ho) (hn)) (cwV 0 C.1.2.2.2.2 (lw_V q2674 q2676 qs98 q133 q2677) rfl rfl rfl (by decide +kernel) ⟨Nat.le_of_ble_eq_true rfl, Nat.le_of_ble_eq_true rfl⟩) rfl hl rfl (Nat.le_of_ble_eq_true rfl) dX3_readsLine_1 ⟨Nat.le_refl _, Nat.le_refl _⟩ (fun ta H locs hp_1 hH hS => ?_)
  obtain ⟨h9a, h7a, hra, hfa⟩ := hp_1
  have hpa : PX ta tx n (.inr xx) := hp.fr (fun k a b => hfa.at k (by rcases (show k = 31 ∨ k = 32 ∨ k = 33 ∨ k = 34 ∨ k = 35 ∨ k = 36 ∨ k = 37 ∨ k = 38 by omega) with h | h | h | h | h | h | h | h <;> subst h <;> rfl))
  have J_31 : ∀ (s1 : Sg), (PX s1 tx n (lnR tx n w P (.inr xx))) → (∀ y, (lnR tx n w P (.inr xx)) = .inr y → ∀ i, 0 ≤ i → i < pW P → s1 15 i = (lnF tx n w P (.inr xx)) i) → (Fr [2, 7, 9, 15, 16, 17, 33, 34, 35, 36, 37, 38] σ s1) → (s1 2 = σ 2) → (s1 9 0 = pW P) → ∀ (H : Heap) (locs : List Loc) (ls : Array Slot), MH D dA A o ad s1 H → va_S A s0.heap H locs → lv_has ls 2 [(0, .ref o)] → W pp l ee (rmL 8 0 0) s0 mm ([.ref o, .int (iI w)] : List Value).toArray below meth cc0 H locs 0 0 (MQ below (MQv D dA A o ad (fun σ' => PX σ' tx n (ndE (lnR tx n w P (.inr xx)) (kdE (lnR tx n w P (.inr xx)) 4) 1) ∧ (∀ y, ndE (lnR tx n w P (.inr xx)) (kdE (lnR tx n w P (.inr xx)) 4) 1 = .inr y → PgAt (σ' 2) (adL P (lnF tx n w P (.inr xx)))) ∧ Fr [2, 7, 9, 15, 16, 17, 33, 34, 35, 36, 37, 38] σ σ')) ([.ref o, .int (iI w)] : List Value).toArray s0 0 0 A) (F0 mm 31 ls []) := by
    intro s1 hpr hdr hf1 h21 h91 H locs ls hH hS hl
    have lr1 := hpr.2.1
    obtain ⟨-, -, -, t4, t5, -, -, -, -⟩ := lr1
    refine z_aload_n C dX3_readsLine_31 hl 0 rfl ?_
    refine z_aload_n C dX3_readsLine_32 hl 0 rfl ?_
    refine m_getsZ C hH 35 ⟨by decide, by decide⟩ (s1 35 0) rfl q2220 rfl dX3_readsLine_33 ?_
    refine z_iconst C dX3_readsLine_36 ?_
    refine z_icmpne C dX3_readsLine_37 (tgt := 44) (by decide) ⟨⟨by omega, by omega⟩, ⟨by omega, by omega⟩⟩ (fun c_37 => ?_) (fun c_37 => ?_)
    · refine z_iconst C dX3_readsLine_44 ?_
      refine z_iconst C dX3_readsLine_45 ?_
      refine m_Vv C hH hS (mm_must hOk s1 0 1 tx n ((lnR tx n w P (.inr xx))) (hpr) (by decide) (by decide)) (cwV 2 C.1.2.2.2.2 (lw_V q2662 q2664 qs95 q133 q2665) rfl rfl rfl (by decide +kernel) ⟨Nat.le_of_ble_eq_true rfl, Nat.le_of_ble_eq_true rfl⟩) rfl hl rfl (Nat.le_of_ble_eq_true rfl) dX3_readsLine_46 ⟨Nat.le_refl _, Nat.le_refl _⟩ (fun td H locs hp_46 hH hS => ?_)
      obtain ⟨hpd, hfd⟩ := hp_46
      have e46 : ndE (lnR tx n w P (.inr xx)) (decide ((0 : Int) = 1)) 1 = ndE (lnR tx n w P (.inr xx)) (kdE (lnR tx n w P (.inr xx)) 4) 1 := hpr.kd (decide_eq_decide.mpr (by omega))
      rw [e46] at hpd
      refine z_aload_n C dX3_readsLine_49 hl 0 rfl ?_
      refine m_Vv C hH hS (mm_addsTold hOk td P ((lnF tx n w P (.inr xx))) (hpd.er) (by rw [hfd.at 9 rfl]; exact h91) (ho) (hn) (fun h => by
        obtain ⟨y, hy⟩ := hpd.e0.mp h
        exact ⟨by rw [hfd.at 2 rfl, h21]; exact hP, lnF_01 ho, fun i a b => by rw [hfd.at 15 rfl]; exact hdr y (ndE_inr hy).1 i a b⟩)) (cwV 0 C.1.2.2.2.2 (lw_V q2694 q2696 qs103 q133 q2697) rfl rfl rfl (by decide +kernel) ⟨Nat.le_of_ble_eq_true rfl, Nat.le_of_ble_eq_true rfl⟩) rfl hl rfl (Nat.le_of_ble_eq_true rfl) dX3_readsLine_50 ⟨Nat.le_refl _, Nat.le_refl _⟩ (fun te H locs hp_50 hH hS => ?_)
      obtain ⟨hde, hfe⟩ := hp_50
      refine m_vret C hret hH hS dX3_readsLine_53 ?_
      exact ⟨hpd.fr (fun k a b => hfe.at k (by rcases (show k = 31 ∨ k = 32 ∨ k = 33 ∨ k = 34 ∨ k = 35 ∨ k = 36 ∨ k = 37 ∨ k = 38 by omega) with h | h | h | h | h | h | h | h <;> subst h <;> rfl)), fun y hy => hde (hpd.e0.mpr ⟨y, hy⟩), (hf1.th hfd rfl).th hfe rfl⟩
    · refine z_iconst C dX3_readsLine_40 ?_
      refine z_goto C dX3_readsLine_41 (tgt := 45) (by decide) ?_
      refine z_iconst C dX3_readsLine_45 ?_
      refine m_Vv C hH hS (mm_must hOk s1 1 1 tx n ((lnR tx n w P (.inr xx))) (hpr) (by decide) (by decide)) (cwV 2 C.1.2.2.2.2 (lw_V q2662 q2664 qs95 q133 q2665) rfl rfl rfl (by decide +kernel) ⟨Nat.le_of_ble_eq_true rfl, Nat.le_of_ble_eq_true rfl⟩) rfl hl rfl (Nat.le_of_ble_eq_true rfl) dX3_readsLine_46 ⟨Nat.le_refl _, Nat.le_refl _⟩ (fun td H locs hp_46_1 hH hS => ?_)
      obtain ⟨hpd, hfd⟩ := hp_46_1
      have e46 : ndE (lnR tx n w P (.inr xx)) (decide ((1 : Int) = 1)) 1 = ndE (lnR tx n w P (.inr xx)) (kdE (lnR tx n w P (.inr xx)) 4) 1 := hpr.kd (decide_eq_decide.mpr (by omega))
      rw [e46] at hpd
      refine z_aload_n C dX3_readsLine_49 hl 0 rfl ?_
      refine m_Vv C hH hS (mm_addsTold hOk td P ((lnF tx n w P (.inr xx))) (hpd.er) (by rw [hfd.at 9 rfl]; exact h91) (ho) (hn) (fun h => by
        obtain ⟨y, hy⟩ := hpd.e0.mp h
        exact ⟨by rw [hfd.at 2 rfl, h21]; exact hP, lnF_01 ho, fun i a b => by rw [hfd.at 15 rfl]; exact hdr y (ndE_inr hy).1 i a b⟩)) (cwV 0 C.1.2.2.2.2 (lw_V q2694 q2696 qs103 q133 q2697) rfl rfl rfl (by decide +kernel) ⟨Nat.le_of_ble_eq_true rfl, Nat.le_of_ble_eq_true rfl⟩) rfl hl rfl (Nat.le_of_ble_eq_true rfl) dX3_readsLine_50 ⟨Nat.le_refl _, Nat.le_refl _⟩ (fun te H locs hp_50_1 hH hS => ?_)
      obtain ⟨hde, hfe⟩ := hp_50_1
      refine m_vret C hret hH hS dX3_readsLine_53 ?_
      exact ⟨hpd.fr (fun k a b => hfe.at k (by rcases (show k = 31 ∨ k = 32 ∨ k = 33 ∨ k = 34 ∨ k = 35 ∨ k = 36 ∨ k = 37 ∨ k = 38 by omega) with h | h | h | h | h | h | h | h <;> subst h <;> rfl)), fun y hy => hde (hpd.e0.mpr ⟨y, hy⟩), (hf1.th hfd rfl).th hfe rfl⟩
  refine z_iload_n C dX3_readsLine_4 hl 1 rfl ?_
  refine z_ifne C dX3_readsLine_5 (tgt := 15) (by decide) ⟨by omega, by omega⟩ (fun c_5 => ?_) (fun c_5 => ?_)
  · refine z_iload_n C dX3_readsLine_15 hl 1 rfl ?_
    refine z_iconst C dX3_readsLine_16 ?_
    refine z_icmpne C dX3_readsLine_17 (tgt := 27) (by decide) ⟨⟨by omega, by omega⟩, ⟨by omega, by omega⟩⟩ (fun c_17 => ?_) (fun c_17 => ?_)
    · refine z_aload_n C dX3_readsLine_27 hl 0 rfl ?_
      refine m_Vv C hH hS (mm_readsAbove hOk ta tx n ((.inr xx)) ((pW P)) ((upZ P (pN P))) (hpa) (⟨hq.1, hq.2.1⟩) (h9a) (fun j a b => by rw [hfa.at 39 rfl]; exact hD j a b) (h7a) (upZ_01 P _) (hra)) (cwV 0 C.1.2.2.2.2 (lw_V q2686 q2688 qs101 q133 q2689) rfl rfl rfl (by decide +kernel) ⟨Nat.le_of_ble_eq_true rfl, Nat.le_of_ble_eq_true rfl⟩) rfl hl rfl (Nat.le_of_ble_eq_true rfl) dX3_readsLine_28 ⟨Nat.le_refl _, Nat.le_refl _⟩ (fun tb H locs hp_28 hH hS => ?_)
      obtain ⟨hpb, hdb, hfb⟩ := hp_28
      exact J_31 tb (by unfold lnR; rw [if_neg (by omega), if_neg (by omega)]; exact hpb) (fun y hy i a b => by unfold lnR at hy; rw [if_neg (by omega), if_neg (by omega)] at hy; unfold lnF; rw [if_neg (by omega), if_neg (by omega)]; exact hdb y hy i a (by omega)) ((hfa.up rfl).th hfb rfl) (by rw [hfb.at 2 rfl, hfa.at 2 rfl]) (by rw [hfb.at 9 rfl]; exact h9a) _ _ _ hH hS (lv_sub hl [0] rfl)
    · refine z_aload_n C dX3_readsLine_20 hl 0 rfl ?_
      refine m_Vv C hH hS (mm_readsAlone hOk ta tx n ((.inr xx)) ((pW P)) (hpa) (⟨hq.1, hq.2.1⟩) (h9a) (fun j a b => hra.2.2 j a b)) (cwV 0 C.1.2.2.2.2 (lw_V q2682 q2684 qs100 q133 q2685) rfl rfl rfl (by decide +kernel) ⟨Nat.le_of_ble_eq_true rfl, Nat.le_of_ble_eq_true rfl⟩) rfl hl rfl (Nat.le_of_ble_eq_true rfl) dX3_readsLine_21 ⟨Nat.le_refl _, Nat.le_refl _⟩ (fun tb H locs hp_21 hH hS => ?_)
      obtain ⟨hpb, hdb, hfb⟩ := hp_21
      refine z_goto C dX3_readsLine_24 (tgt := 31) (by decide) ?_
      exact J_31 tb (by unfold lnR; rw [if_neg (by omega), if_pos (by omega)]; exact hpb) (fun y hy i a b => by unfold lnR at hy; rw [if_neg (by omega), if_pos (by omega)] at hy; unfold lnF; rw [if_neg (by omega), if_pos (by omega)]; exact hdb i a (by omega)) ((hfa.up rfl).th hfb rfl) (by rw [hfb.at 2 rfl, hfa.at 2 rfl]) (by rw [hfb.at 9 rfl]; exact h9a) _ _ _ hH hS (lv_sub hl [0] rfl)
  · refine z_aload_n C dX3_readsLine_8 hl 0 rfl ?_
    refine m_Vv C hH hS (mm_readsRow hOk ta tx n ((.inr xx)) ((pW P)) (hpa) (⟨hq.1, hq.2.1⟩) (h9a)) (cwV 0 C.1.2.2.2.2 (lw_V q2678 q2680 qs99 q133 q2681) rfl rfl rfl (by decide +kernel) ⟨Nat.le_of_ble_eq_true rfl, Nat.le_of_ble_eq_true rfl⟩) rfl hl rfl (Nat.le_of_ble_eq_true rfl) dX3_readsLine_9 ⟨Nat.le_refl _, Nat.le_refl _⟩ (fun tb H locs hp_9 hH hS => ?_)
    obtain ⟨hpb, hdb, hfb⟩ := hp_9
    refine z_goto C dX3_readsLine_12 (tgt := 31) (by decide) ?_
    exact J_31 tb (by unfold lnR; rw [if_pos (by omega)]; exact hpb) (fun y hy i a b => by unfold lnR at hy; rw [if_pos (by omega)] at hy; unfold lnF; rw [if_pos (by omega)]; exact hdb y hy i a b) ((hfa.up rfl).th hfb rfl) (by rw [hfb.at 2 rfl, hfa.at 2 rfl]) (by rw [hfb.at 9 rfl]; exact h9a) _ _ _ hH hS (lv_sub hl [0] rfl)
set_option maxHeartbeats 1000000 in
theorem mm_readsStatement {l : Launch} {D : va_G} {dA : Nat → ClassId} {A : Nat → Prop} {o : Nat} {ad : Nat → Nat} (hOk : mOk o ad) (σ : Sg) (tx : Int → Int) (n : Int) (xx : LX) (P : Pg) (hp : PX σ tx n (.inr xx)) (hP : PgAt (σ 2) P) (ho : PgOk P) (hD : WdAt σ) : Met l yX3_readsStatement (ws_ yX3_readsStatement cX3_readsStatement 2 none) (rmL 9 0 0) (MP D dA A o ad [.ref o] σ) (MQv D dA A o ad (fun σ' => QX σ' tx n (staE tx n xx P) ∧ Fr [2, 7, 9, 15, 16, 17, 33, 34, 35, 36, 37, 38] σ σ')) 0 0 A := by
  refine z_ofW (by decide) rfl ?_
  intro pp ee s0 mm below meth cc0 ls C hret hname hl hH hS
  have hl : lv_has ls 2 [(0, .ref o)] := hl
  have hq := QXpg ho
  have wr := wix_in tx xx
  obtain ⟨w, hw⟩ : ∃ y, y = wix tx xx := ⟨_, rfl⟩
  rw [← hw] at wr
  refine z_aload_n C dX3_readsStatement_0 hl 0 rfl ?_
  refine m_ViF C hH hS (mm_wordHere hOk σ tx n xx (hp) (hD)) (cwV 0 C.1.2.2.2.2 (lw_V q2646 q2648 qs91 q133 q2649) rfl rfl rfl (by decide +kernel) ⟨Nat.le_of_ble_eq_true rfl, Nat.le_of_ble_eq_true rfl⟩) rfl hl rfl (Nat.le_of_ble_eq_true rfl) dX3_readsStatement_1 ⟨Nat.le_refl _, Nat.le_refl _⟩ (fun H locs hH hS => ?_)
  refine z_topr (show wix tx xx = w from hw.symm) ?_
  refine z_istore_n C [(1, .int (iI w)), (0, .ref o)] dX3_readsStatement_4 hl (by decide) rfl (fun ls hl => ?_)
  refine z_aload_n C dX3_readsStatement_5 hl 1 rfl ?_
  refine z_iload_n C dX3_readsStatement_6 hl 0 rfl ?_
  refine z_iconst C dX3_readsStatement_7 ?_
  refine z_iconst C dX3_readsStatement_8 ?_
  refine m_SiF C hH hS (mm_in hOk σ w 0 4 (⟨by omega, by omega⟩) (⟨by omega, by omega⟩) (⟨by omega, by omega⟩)) (va_cwS 3 C.1.2.2.2.2 (lw_S q2321 q2322 q133 q2323) rfl rfl rfl (by decide +kernel) ⟨Nat.le_of_ble_eq_true rfl, Nat.le_of_ble_eq_true rfl⟩) rfl hl rfl (Nat.le_of_ble_eq_true rfl) dX3_readsStatement_9 ⟨Nat.le_refl _, Nat.le_refl _⟩ (fun H locs hH hS => ?_)
  refine z_topi (fun z_9 hz_9 => ?_)
  have q_9 := inZ_or w 0 4
  rw [← hz_9] at q_9
  refine z_iconst C dX3_readsStatement_12 ?_
  refine m_Vv C hH hS (mm_must hOk σ z_9 1 tx n ((.inr xx)) (hp) (by omega) (by decide)) (cwV 2 C.1.2.2.2.2 (lw_V q2662 q2664 qs95 q133 q2665) rfl rfl rfl (by decide +kernel) ⟨Nat.le_of_ble_eq_true rfl, Nat.le_of_ble_eq_true rfl⟩) rfl hl rfl (Nat.le_of_ble_eq_true rfl) dX3_readsStatement_13 ⟨Nat.le_refl _, Nat.le_refl _⟩ (fun ta H locs hp_13 hH hS => ?_)
  obtain ⟨hpa, hfa⟩ := hp_13
  refine z_aload_n C dX3_readsStatement_16 hl 1 rfl ?_
  refine z_iload_n C dX3_readsStatement_17 hl 0 rfl ?_
  refine z_iconst C dX3_readsStatement_18 ?_
  refine z_icmpgt C dX3_readsStatement_19 (tgt := 33) (by decide) ⟨⟨by omega, by omega⟩, ⟨by omega, by omega⟩⟩ (fun c_19 => ?_) (fun c_19 => ?_)
  · refine z_iconst C dX3_readsStatement_33 ?_
    refine z_goto C dX3_readsStatement_34 (tgt := 38) (by decide) ?_
    refine z_iconst C dX3_readsStatement_38 ?_
    refine m_Vv C hH hS (mm_must hOk ta 1 5 tx n ((ndE (.inr xx) (decide (z_9 = 1)) 1)) (hpa) (by decide) (by decide)) (cwV 2 C.1.2.2.2.2 (lw_V q2662 q2664 qs95 q133 q2665) rfl rfl rfl (by decide +kernel) ⟨Nat.le_of_ble_eq_true rfl, Nat.le_of_ble_eq_true rfl⟩) rfl hl rfl (Nat.le_of_ble_eq_true rfl) dX3_readsStatement_39 ⟨Nat.le_refl _, Nat.le_refl _⟩ (fun tb H locs hp_39 hH hS => ?_)
    obtain ⟨hpb, hfb⟩ := hp_39
    refine z_aload_n C dX3_readsStatement_42 hl 1 rfl ?_
    refine m_Vv C hH hS (mm_goesOn hOk tb tx n ((ndE (ndE (.inr xx) (decide (z_9 = 1)) 1) (decide ((1 : Int) = 1)) 5)) (hpb)) (cwV 0 C.1.2.2.2.2 (lw_V q2650 q2652 qs92 q133 q2653) rfl rfl rfl (by decide +kernel) ⟨Nat.le_of_ble_eq_true rfl, Nat.le_of_ble_eq_true rfl⟩) rfl hl rfl (Nat.le_of_ble_eq_true rfl) dX3_readsStatement_43 ⟨Nat.le_refl _, Nat.le_refl _⟩ (fun tc H locs hp_43 hH hS => ?_)
    obtain ⟨hpc, hfc⟩ := hp_43
    have erc := hpc.er
    have hfc9 : Fr [33, 34, 35, 36, 37, 38] σ tc := ((hfa.up rfl).th hfb rfl).th hfc rfl
    refine z_aload_n C dX3_readsStatement_46 hl 1 rfl ?_
    refine m_getsZ C hH 37 ⟨by decide, by decide⟩ (tc 37 0) rfl q2222 rfl dX3_readsStatement_47 ?_
    refine z_ifle C dX3_readsStatement_50 (tgt := 54) (by decide) ⟨by omega, by omega⟩ (fun c_50 => ?_) (fun c_50 => ?_)
    · have hgd : PX tc tx n (.inr (nxt tx n xx.1)) ∧ z_9 = 1 ∧ (w ≤ 2 → pN P < 20) := by
        obtain ⟨x, hx⟩ := hpc.e0.mp (by omega)
        rcases (show z_9 = 0 ∨ z_9 = 1 by omega) with h | h
        · rw [show decide (z_9 = 1) = false from decide_eq_false (by omega)] at hx
          have hx : (Sum.inl (1, xx.2.1) : Er LX) = .inr x := hx
          cases hx
        · rw [show decide (z_9 = 1) = true from decide_eq_true h] at hpc hx
          first
            | exact ⟨hpc, h, fun _ => by omega⟩
            | (have hx : (Sum.inl (5, xx.2.1) : Er LX) = .inr x := hx; cases hx)
      obtain ⟨hpn, hz1, hnn⟩ := hgd
      have J_83 : ∀ (s1 : Sg) (R : Er LX) (PG : Pg), (PX s1 tx n R) → (∀ y, R = .inr y → PgAt (s1 2) PG ∧ PgOk PG) → (staE tx n xx P = mpE (seE tx n R) PG) → (Fr [2, 7, 9, 15, 16, 17, 33, 34, 35, 36, 37, 38] σ s1) → ∀ (H : Heap) (locs : List Loc) (ls : Array Slot), MH D dA A o ad s1 H → va_S A s0.heap H locs → lv_has ls 2 [(0, .ref o)] → W pp l ee (rmL 9 0 0) s0 mm ([.ref o] : List Value).toArray below meth cc0 H locs 0 0 (MQ below (MQv D dA A o ad (fun σ' => QX σ' tx n (staE tx n xx P) ∧ Fr [2, 7, 9, 15, 16, 17, 33, 34, 35, 36, 37, 38] σ σ')) ([.ref o] : List Value).toArray s0 0 0 A) (F0 mm 83 ls []) := by
        intro s1 R PG hpr hpg hE hf1 H locs ls hH hS hl
        have lr1 := hpr.2.1
        obtain ⟨-, -, -, t4, t5, -, -, -, -⟩ := lr1
        refine z_aload_n C dX3_readsStatement_83 hl 0 rfl ?_
        refine z_aload_n C dX3_readsStatement_84 hl 0 rfl ?_
        refine m_getsZ C hH 35 ⟨by decide, by decide⟩ (s1 35 0) rfl q2220 rfl dX3_readsStatement_85 ?_
        refine z_iconst C dX3_readsStatement_88 ?_
        refine z_icmpne C dX3_readsStatement_89 (tgt := 96) (by decide) ⟨⟨by omega, by omega⟩, ⟨by omega, by omega⟩⟩ (fun c_89 => ?_) (fun c_89 => ?_)
        · refine z_iconst C dX3_readsStatement_96 ?_
          refine z_iconst C dX3_readsStatement_97 ?_
          refine m_Vv C hH hS (mm_must hOk s1 0 1 tx n R (hpr) (by decide) (by decide)) (cwV 2 C.1.2.2.2.2 (lw_V q2662 q2664 qs95 q133 q2665) rfl rfl rfl (by decide +kernel) ⟨Nat.le_of_ble_eq_true rfl, Nat.le_of_ble_eq_true rfl⟩) rfl hl rfl (Nat.le_of_ble_eq_true rfl) dX3_readsStatement_98 ⟨Nat.le_refl _, Nat.le_refl _⟩ (fun te H locs hp_98 hH hS => ?_)
          obtain ⟨hpe, hfe⟩ := hp_98
          have e98 : ndE R (decide ((0 : Int) = 1)) 1 = ndE R (kdE R 4) 1 := hpr.kd (decide_eq_decide.mpr (by omega))
          rw [e98] at hpe
          refine z_aload_n C dX3_readsStatement_101 hl 0 rfl ?_
          refine m_Vv C hH hS (mm_goesOn hOk te tx n ((ndE R (kdE R 4) 1)) (hpe)) (cwV 0 C.1.2.2.2.2 (lw_V q2650 q2652 qs92 q133 q2653) rfl rfl rfl (by decide +kernel) ⟨Nat.le_of_ble_eq_true rfl, Nat.le_of_ble_eq_true rfl⟩) rfl hl rfl (Nat.le_of_ble_eq_true rfl) dX3_readsStatement_102 ⟨Nat.le_refl _, Nat.le_refl _⟩ (fun tf H locs hp_102 hH hS => ?_)
          obtain ⟨hpf, hff⟩ := hp_102
          refine m_vret C hret hH hS dX3_readsStatement_105 ?_
          refine ⟨?_, (hf1.th hfe rfl).th hff rfl⟩
          rw [hE]
          refine QX.mp hpf (fun x hx => ?_)
          obtain ⟨y, hy, -⟩ := goE_inr hx
          have h1 := hpg y (ndE_inr hy).1
          exact ⟨by rw [hff.at 2 rfl, hfe.at 2 rfl]; exact h1.1, h1.2⟩
        · refine z_iconst C dX3_readsStatement_92 ?_
          refine z_goto C dX3_readsStatement_93 (tgt := 97) (by decide) ?_
          refine z_iconst C dX3_readsStatement_97 ?_
          refine m_Vv C hH hS (mm_must hOk s1 1 1 tx n R (hpr) (by decide) (by decide)) (cwV 2 C.1.2.2.2.2 (lw_V q2662 q2664 qs95 q133 q2665) rfl rfl rfl (by decide +kernel) ⟨Nat.le_of_ble_eq_true rfl, Nat.le_of_ble_eq_true rfl⟩) rfl hl rfl (Nat.le_of_ble_eq_true rfl) dX3_readsStatement_98 ⟨Nat.le_refl _, Nat.le_refl _⟩ (fun te H locs hp_98_1 hH hS => ?_)
          obtain ⟨hpe, hfe⟩ := hp_98_1
          have e98 : ndE R (decide ((1 : Int) = 1)) 1 = ndE R (kdE R 4) 1 := hpr.kd (decide_eq_decide.mpr (by omega))
          rw [e98] at hpe
          refine z_aload_n C dX3_readsStatement_101 hl 0 rfl ?_
          refine m_Vv C hH hS (mm_goesOn hOk te tx n ((ndE R (kdE R 4) 1)) (hpe)) (cwV 0 C.1.2.2.2.2 (lw_V q2650 q2652 qs92 q133 q2653) rfl rfl rfl (by decide +kernel) ⟨Nat.le_of_ble_eq_true rfl, Nat.le_of_ble_eq_true rfl⟩) rfl hl rfl (Nat.le_of_ble_eq_true rfl) dX3_readsStatement_102 ⟨Nat.le_refl _, Nat.le_refl _⟩ (fun tf H locs hp_102_1 hH hS => ?_)
          obtain ⟨hpf, hff⟩ := hp_102_1
          refine m_vret C hret hH hS dX3_readsStatement_105 ?_
          refine ⟨?_, (hf1.th hfe rfl).th hff rfl⟩
          rw [hE]
          refine QX.mp hpf (fun x hx => ?_)
          obtain ⟨y, hy, -⟩ := goE_inr hx
          have h1 := hpg y (ndE_inr hy).1
          exact ⟨by rw [hff.at 2 rfl, hfe.at 2 rfl]; exact h1.1, h1.2⟩
      refine z_iload_n C dX3_readsStatement_54 hl 0 rfl ?_
      refine z_iconst C dX3_readsStatement_55 ?_
      refine z_icmpgt C dX3_readsStatement_56 (tgt := 67) (by decide) ⟨⟨by omega, by omega⟩, ⟨by omega, by omega⟩⟩ (fun c_56 => ?_) (fun c_56 => ?_)
      · refine z_iload_n C dX3_readsStatement_67 hl 0 rfl ?_
        refine z_iconst C dX3_readsStatement_68 ?_
        refine z_icmpne C dX3_readsStatement_69 (tgt := 79) (by decide) ⟨⟨by omega, by omega⟩, ⟨by omega, by omega⟩⟩ (fun c_69 => ?_) (fun c_69 => ?_)
        · refine z_aload_n C dX3_readsStatement_79 hl 1 rfl ?_
          refine m_Vv C hH hS (mm_readsLoss hOk tc tx n ((.inr (nxt tx n xx.1))) P (hpn) (ho) (fun _ _ => by rw [hfc9.at 2 rfl]; exact hP)) (cwV 0 C.1.2.2.2.2 (lw_V q2702 q2704 qs105 q133 q2705) rfl rfl rfl (by decide +kernel) ⟨Nat.le_of_ble_eq_true rfl, Nat.le_of_ble_eq_true rfl⟩) rfl hl rfl (Nat.le_of_ble_eq_true rfl) dX3_readsStatement_80 ⟨Nat.le_refl _, Nat.le_refl _⟩ (fun td H locs hp_80 hH hS => ?_)
          obtain ⟨hpd, hdd, hfd⟩ := hp_80
          exact J_83 td ((goE tx n (lkE (goE tx n (lkE (.inr (nxt tx n xx.1)) 0 19)) 0 5))) ((eLose P (lkV (.inr (nxt tx n xx.1)) 0 19) (lkV (goE tx n (lkE (.inr (nxt tx n xx.1)) 0 19)) 0 5))) (hpd) (fun y hy => ⟨hdd y hy, ho.lose (lkV_in (by decide))⟩) (by rw [stE_los (by omega)]; rfl) ((hfc9.up rfl).th hfd rfl) _ _ _ hH hS (lv_sub hl [1] rfl)
        · refine z_aload_n C dX3_readsStatement_72 hl 1 rfl ?_
          refine m_Vv C hH hS (mm_readsSetting hOk tc tx n ((.inr (nxt tx n xx.1))) P (hpn) (ho) (fun _ _ => by rw [hfc9.at 2 rfl]; exact hP)) (cwV 0 C.1.2.2.2.2 (lw_V q2698 q2700 qs104 q133 q2701) rfl rfl rfl (by decide +kernel) ⟨Nat.le_of_ble_eq_true rfl, Nat.le_of_ble_eq_true rfl⟩) rfl hl rfl (Nat.le_of_ble_eq_true rfl) dX3_readsStatement_73 ⟨Nat.le_refl _, Nat.le_refl _⟩ (fun td H locs hp_73 hH hS => ?_)
          obtain ⟨hpd, hdd, hfd⟩ := hp_73
          have kr := lkV_in (r := .inr (nxt tx n xx.1)) (show (0 : Int) ≤ 5 by decide)
          have hh := hiZ_in (lkV (.inr (nxt tx n xx.1)) 0 5)
          have ll : loK (lkV (.inr (nxt tx n xx.1)) 0 5) = if lkV (.inr (nxt tx n xx.1)) 0 5 = 0 then 1 else 0 := rfl
          have ll2 : loK (lkV (.inr (nxt tx n xx.1)) 0 5) ≤ 1 := by rw [ll]; split <;> decide
          refine z_goto C dX3_readsStatement_76 (tgt := 83) (by decide) ?_
          exact J_83 td ((goE tx n (lkE (goE tx n (lkE (.inr (nxt tx n xx.1)) 0 5)) (loK (lkV (.inr (nxt tx n xx.1)) 0 5)) (hiZ (lkV (.inr (nxt tx n xx.1)) 0 5))))) ((eSet P (lkV (.inr (nxt tx n xx.1)) 0 5) (lkV (goE tx n (lkE (.inr (nxt tx n xx.1)) 0 5)) (loK (lkV (.inr (nxt tx n xx.1)) 0 5)) (hiZ (lkV (.inr (nxt tx n xx.1)) 0 5))))) (hpd) (fun y hy => ⟨hdd y hy, ho.set kr (lkV_in (by omega))⟩) (by rw [stE_set (by omega)]; rfl) ((hfc9.up rfl).th hfd rfl) _ _ _ hH hS (lv_sub hl [1] rfl)
      · refine z_aload_n C dX3_readsStatement_59 hl 1 rfl ?_
        refine z_iload_n C dX3_readsStatement_60 hl 0 rfl ?_
        refine m_Vv C hH hS (mm_readsLine hOk tc w tx n ((nxt tx n xx.1)) P (hpn) (by rw [hfc9.at 2 rfl]; exact hP) (ho) (hnn (by omega)) (fun j a b => by rw [hfc9.at 39 rfl]; exact hD j a b) (⟨by omega, by omega⟩)) (cwV 1 C.1.2.2.2.2 (lw_V q2670 q2672 qs97 q133 q2673) rfl rfl rfl (by decide +kernel) ⟨Nat.le_of_ble_eq_true rfl, Nat.le_of_ble_eq_true rfl⟩) rfl hl rfl (Nat.le_of_ble_eq_true rfl) dX3_readsStatement_61 ⟨Nat.le_refl _, Nat.le_refl _⟩ (fun td H locs hp_61 hH hS => ?_)
        obtain ⟨hpd, hdd, hfd⟩ := hp_61
        refine z_goto C dX3_readsStatement_64 (tgt := 83) (by decide) ?_
        exact J_83 td ((ndE (lnR tx n w P (.inr (nxt tx n xx.1))) (kdE (lnR tx n w P (.inr (nxt tx n xx.1))) 4) 1)) ((adL P (lnF tx n w P (.inr (nxt tx n xx.1))))) (hpd) (fun y hy => ⟨hdd y hy, ho.adL (hnn (by omega)) _⟩) (by rw [stE_ln (by omega) (hnn (by omega)), ← hw, lnE_eq]; unfold seE; rw [nd2]) ((hfc9.up rfl).th hfd rfl) _ _ _ hH hS (lv_sub hl [1] rfl)
    · refine m_vret C hret hH hS dX3_readsStatement_53 ?_
      refine ⟨?_, hfc9.up rfl⟩
      obtain ⟨e, he⟩ := hpc.e1 (by omega)
      rcases (show z_9 = 0 ∨ z_9 = 1 by omega) with h | h
      · rw [stE_bad (by omega)]
        rw [show decide (z_9 = 1) = false from decide_eq_false (by omega)] at hpc
        exact ⟨hpc, fun q hq => by cases hq⟩
      · rw [show decide (z_9 = 1) = true from decide_eq_true h] at hpc he
        first
          | (have he : (Sum.inr (nxt tx n xx.1) : Er LX) = .inl e := he; cases he)
          | (rw [stE_full (by omega) (by omega)]
             exact ⟨hpc, fun q hq => by cases hq⟩)
  · refine z_aload_n C dX3_readsStatement_22 hl 1 rfl ?_
    refine m_geta C hH 2 ⟨by decide, by decide⟩ q2187 rfl dX3_readsStatement_23 ?_
    refine z_iconst C dX3_readsStatement_26 ?_
    refine m_ialdZ C hOk hH 2 ⟨by decide, by decide⟩ 1 (pN P) (by rw [hfa.at 2 rfl]; exact hP.2.1) (show 0 ≤ 1 ∧ 1 < (828 : Int) by omega) dX3_readsStatement_27 ?_
    refine z_bipush C dX3_readsStatement_28 (by decide +kernel) ?_
    refine z_icmpge C dX3_readsStatement_30 (tgt := 37) (by decide) ⟨⟨by omega, by omega⟩, ⟨by omega, by omega⟩⟩ (fun c_30 => ?_) (fun c_30 => ?_)
    · refine z_iconst C dX3_readsStatement_37 ?_
      refine z_iconst C dX3_readsStatement_38 ?_
      refine m_Vv C hH hS (mm_must hOk ta 0 5 tx n ((ndE (.inr xx) (decide (z_9 = 1)) 1)) (hpa) (by decide) (by decide)) (cwV 2 C.1.2.2.2.2 (lw_V q2662 q2664 qs95 q133 q2665) rfl rfl rfl (by decide +kernel) ⟨Nat.le_of_ble_eq_true rfl, Nat.le_of_ble_eq_true rfl⟩) rfl hl rfl (Nat.le_of_ble_eq_true rfl) dX3_readsStatement_39 ⟨Nat.le_refl _, Nat.le_refl _⟩ (fun tb H locs hp_39_1 hH hS => ?_)
      obtain ⟨hpb, hfb⟩ := hp_39_1
      refine z_aload_n C dX3_readsStatement_42 hl 1 rfl ?_
      refine m_Vv C hH hS (mm_goesOn hOk tb tx n ((ndE (ndE (.inr xx) (decide (z_9 = 1)) 1) (decide ((0 : Int) = 1)) 5)) (hpb)) (cwV 0 C.1.2.2.2.2 (lw_V q2650 q2652 qs92 q133 q2653) rfl rfl rfl (by decide +kernel) ⟨Nat.le_of_ble_eq_true rfl, Nat.le_of_ble_eq_true rfl⟩) rfl hl rfl (Nat.le_of_ble_eq_true rfl) dX3_readsStatement_43 ⟨Nat.le_refl _, Nat.le_refl _⟩ (fun tc H locs hp_43_1 hH hS => ?_)
      obtain ⟨hpc, hfc⟩ := hp_43_1
      have erc := hpc.er
      have hfc9 : Fr [33, 34, 35, 36, 37, 38] σ tc := ((hfa.up rfl).th hfb rfl).th hfc rfl
      refine z_aload_n C dX3_readsStatement_46 hl 1 rfl ?_
      refine m_getsZ C hH 37 ⟨by decide, by decide⟩ (tc 37 0) rfl q2222 rfl dX3_readsStatement_47 ?_
      refine z_ifle C dX3_readsStatement_50 (tgt := 54) (by decide) ⟨by omega, by omega⟩ (fun c_50_1 => ?_) (fun c_50_1 => ?_)
      · have hgd : PX tc tx n (.inr (nxt tx n xx.1)) ∧ z_9 = 1 ∧ (w ≤ 2 → pN P < 20) := by
          obtain ⟨x, hx⟩ := hpc.e0.mp (by omega)
          rcases (show z_9 = 0 ∨ z_9 = 1 by omega) with h | h
          · rw [show decide (z_9 = 1) = false from decide_eq_false (by omega)] at hx
            have hx : (Sum.inl (1, xx.2.1) : Er LX) = .inr x := hx
            cases hx
          · rw [show decide (z_9 = 1) = true from decide_eq_true h] at hpc hx
            first
              | exact ⟨hpc, h, fun _ => by omega⟩
              | (have hx : (Sum.inl (5, xx.2.1) : Er LX) = .inr x := hx; cases hx)
        obtain ⟨hpn, hz1, hnn⟩ := hgd
        have J_83 : ∀ (s1 : Sg) (R : Er LX) (PG : Pg), (PX s1 tx n R) → (∀ y, R = .inr y → PgAt (s1 2) PG ∧ PgOk PG) → (staE tx n xx P = mpE (seE tx n R) PG) → (Fr [2, 7, 9, 15, 16, 17, 33, 34, 35, 36, 37, 38] σ s1) → ∀ (H : Heap) (locs : List Loc) (ls : Array Slot), MH D dA A o ad s1 H → va_S A s0.heap H locs → lv_has ls 2 [(0, .ref o)] → W pp l ee (rmL 9 0 0) s0 mm ([.ref o] : List Value).toArray below meth cc0 H locs 0 0 (MQ below (MQv D dA A o ad (fun σ' => QX σ' tx n (staE tx n xx P) ∧ Fr [2, 7, 9, 15, 16, 17, 33, 34, 35, 36, 37, 38] σ σ')) ([.ref o] : List Value).toArray s0 0 0 A) (F0 mm 83 ls []) := by
          intro s1 R PG hpr hpg hE hf1 H locs ls hH hS hl
          have lr1 := hpr.2.1
          obtain ⟨-, -, -, t4, t5, -, -, -, -⟩ := lr1
          refine z_aload_n C dX3_readsStatement_83 hl 0 rfl ?_
          refine z_aload_n C dX3_readsStatement_84 hl 0 rfl ?_
          refine m_getsZ C hH 35 ⟨by decide, by decide⟩ (s1 35 0) rfl q2220 rfl dX3_readsStatement_85 ?_
          refine z_iconst C dX3_readsStatement_88 ?_
          refine z_icmpne C dX3_readsStatement_89 (tgt := 96) (by decide) ⟨⟨by omega, by omega⟩, ⟨by omega, by omega⟩⟩ (fun c_89_1 => ?_) (fun c_89_1 => ?_)
          · refine z_iconst C dX3_readsStatement_96 ?_
            refine z_iconst C dX3_readsStatement_97 ?_
            refine m_Vv C hH hS (mm_must hOk s1 0 1 tx n R (hpr) (by decide) (by decide)) (cwV 2 C.1.2.2.2.2 (lw_V q2662 q2664 qs95 q133 q2665) rfl rfl rfl (by decide +kernel) ⟨Nat.le_of_ble_eq_true rfl, Nat.le_of_ble_eq_true rfl⟩) rfl hl rfl (Nat.le_of_ble_eq_true rfl) dX3_readsStatement_98 ⟨Nat.le_refl _, Nat.le_refl _⟩ (fun te H locs hp_98_2 hH hS => ?_)
            obtain ⟨hpe, hfe⟩ := hp_98_2
            have e98 : ndE R (decide ((0 : Int) = 1)) 1 = ndE R (kdE R 4) 1 := hpr.kd (decide_eq_decide.mpr (by omega))
            rw [e98] at hpe
            refine z_aload_n C dX3_readsStatement_101 hl 0 rfl ?_
            refine m_Vv C hH hS (mm_goesOn hOk te tx n ((ndE R (kdE R 4) 1)) (hpe)) (cwV 0 C.1.2.2.2.2 (lw_V q2650 q2652 qs92 q133 q2653) rfl rfl rfl (by decide +kernel) ⟨Nat.le_of_ble_eq_true rfl, Nat.le_of_ble_eq_true rfl⟩) rfl hl rfl (Nat.le_of_ble_eq_true rfl) dX3_readsStatement_102 ⟨Nat.le_refl _, Nat.le_refl _⟩ (fun tf H locs hp_102_2 hH hS => ?_)
            obtain ⟨hpf, hff⟩ := hp_102_2
            refine m_vret C hret hH hS dX3_readsStatement_105 ?_
            refine ⟨?_, (hf1.th hfe rfl).th hff rfl⟩
            rw [hE]
            refine QX.mp hpf (fun x hx => ?_)
            obtain ⟨y, hy, -⟩ := goE_inr hx
            have h1 := hpg y (ndE_inr hy).1
            exact ⟨by rw [hff.at 2 rfl, hfe.at 2 rfl]; exact h1.1, h1.2⟩
          · refine z_iconst C dX3_readsStatement_92 ?_
            refine z_goto C dX3_readsStatement_93 (tgt := 97) (by decide) ?_
            refine z_iconst C dX3_readsStatement_97 ?_
            refine m_Vv C hH hS (mm_must hOk s1 1 1 tx n R (hpr) (by decide) (by decide)) (cwV 2 C.1.2.2.2.2 (lw_V q2662 q2664 qs95 q133 q2665) rfl rfl rfl (by decide +kernel) ⟨Nat.le_of_ble_eq_true rfl, Nat.le_of_ble_eq_true rfl⟩) rfl hl rfl (Nat.le_of_ble_eq_true rfl) dX3_readsStatement_98 ⟨Nat.le_refl _, Nat.le_refl _⟩ (fun te H locs hp_98_3 hH hS => ?_)
            obtain ⟨hpe, hfe⟩ := hp_98_3
            have e98 : ndE R (decide ((1 : Int) = 1)) 1 = ndE R (kdE R 4) 1 := hpr.kd (decide_eq_decide.mpr (by omega))
            rw [e98] at hpe
            refine z_aload_n C dX3_readsStatement_101 hl 0 rfl ?_
            refine m_Vv C hH hS (mm_goesOn hOk te tx n ((ndE R (kdE R 4) 1)) (hpe)) (cwV 0 C.1.2.2.2.2 (lw_V q2650 q2652 qs92 q133 q2653) rfl rfl rfl (by decide +kernel) ⟨Nat.le_of_ble_eq_true rfl, Nat.le_of_ble_eq_true rfl⟩) rfl hl rfl (Nat.le_of_ble_eq_true rfl) dX3_readsStatement_102 ⟨Nat.le_refl _, Nat.le_refl _⟩ (fun tf H locs hp_102_3 hH hS => ?_)
            obtain ⟨hpf, hff⟩ := hp_102_3
            refine m_vret C hret hH hS dX3_readsStatement_105 ?_
            refine ⟨?_, (hf1.th hfe rfl).th hff rfl⟩
            rw [hE]
            refine QX.mp hpf (fun x hx => ?_)
            obtain ⟨y, hy, -⟩ := goE_inr hx
            have h1 := hpg y (ndE_inr hy).1
            exact ⟨by rw [hff.at 2 rfl, hfe.at 2 rfl]; exact h1.1, h1.2⟩
        refine z_iload_n C dX3_readsStatement_54 hl 0 rfl ?_
        refine z_iconst C dX3_readsStatement_55 ?_
        refine z_icmpgt C dX3_readsStatement_56 (tgt := 67) (by decide) ⟨⟨by omega, by omega⟩, ⟨by omega, by omega⟩⟩ (fun c_56_1 => ?_) (fun c_56_1 => ?_)
        · refine z_iload_n C dX3_readsStatement_67 hl 0 rfl ?_
          refine z_iconst C dX3_readsStatement_68 ?_
          refine z_icmpne C dX3_readsStatement_69 (tgt := 79) (by decide) ⟨⟨by omega, by omega⟩, ⟨by omega, by omega⟩⟩ (fun c_69_1 => ?_) (fun c_69_1 => ?_)
          · refine z_aload_n C dX3_readsStatement_79 hl 1 rfl ?_
            refine m_Vv C hH hS (mm_readsLoss hOk tc tx n ((.inr (nxt tx n xx.1))) P (hpn) (ho) (fun _ _ => by rw [hfc9.at 2 rfl]; exact hP)) (cwV 0 C.1.2.2.2.2 (lw_V q2702 q2704 qs105 q133 q2705) rfl rfl rfl (by decide +kernel) ⟨Nat.le_of_ble_eq_true rfl, Nat.le_of_ble_eq_true rfl⟩) rfl hl rfl (Nat.le_of_ble_eq_true rfl) dX3_readsStatement_80 ⟨Nat.le_refl _, Nat.le_refl _⟩ (fun td H locs hp_80_1 hH hS => ?_)
            obtain ⟨hpd, hdd, hfd⟩ := hp_80_1
            exact J_83 td ((goE tx n (lkE (goE tx n (lkE (.inr (nxt tx n xx.1)) 0 19)) 0 5))) ((eLose P (lkV (.inr (nxt tx n xx.1)) 0 19) (lkV (goE tx n (lkE (.inr (nxt tx n xx.1)) 0 19)) 0 5))) (hpd) (fun y hy => ⟨hdd y hy, ho.lose (lkV_in (by decide))⟩) (by rw [stE_los (by omega)]; rfl) ((hfc9.up rfl).th hfd rfl) _ _ _ hH hS (lv_sub hl [1] rfl)
          · refine z_aload_n C dX3_readsStatement_72 hl 1 rfl ?_
            refine m_Vv C hH hS (mm_readsSetting hOk tc tx n ((.inr (nxt tx n xx.1))) P (hpn) (ho) (fun _ _ => by rw [hfc9.at 2 rfl]; exact hP)) (cwV 0 C.1.2.2.2.2 (lw_V q2698 q2700 qs104 q133 q2701) rfl rfl rfl (by decide +kernel) ⟨Nat.le_of_ble_eq_true rfl, Nat.le_of_ble_eq_true rfl⟩) rfl hl rfl (Nat.le_of_ble_eq_true rfl) dX3_readsStatement_73 ⟨Nat.le_refl _, Nat.le_refl _⟩ (fun td H locs hp_73_1 hH hS => ?_)
            obtain ⟨hpd, hdd, hfd⟩ := hp_73_1
            have kr := lkV_in (r := .inr (nxt tx n xx.1)) (show (0 : Int) ≤ 5 by decide)
            have hh := hiZ_in (lkV (.inr (nxt tx n xx.1)) 0 5)
            have ll : loK (lkV (.inr (nxt tx n xx.1)) 0 5) = if lkV (.inr (nxt tx n xx.1)) 0 5 = 0 then 1 else 0 := rfl
            have ll2 : loK (lkV (.inr (nxt tx n xx.1)) 0 5) ≤ 1 := by rw [ll]; split <;> decide
            refine z_goto C dX3_readsStatement_76 (tgt := 83) (by decide) ?_
            exact J_83 td ((goE tx n (lkE (goE tx n (lkE (.inr (nxt tx n xx.1)) 0 5)) (loK (lkV (.inr (nxt tx n xx.1)) 0 5)) (hiZ (lkV (.inr (nxt tx n xx.1)) 0 5))))) ((eSet P (lkV (.inr (nxt tx n xx.1)) 0 5) (lkV (goE tx n (lkE (.inr (nxt tx n xx.1)) 0 5)) (loK (lkV (.inr (nxt tx n xx.1)) 0 5)) (hiZ (lkV (.inr (nxt tx n xx.1)) 0 5))))) (hpd) (fun y hy => ⟨hdd y hy, ho.set kr (lkV_in (by omega))⟩) (by rw [stE_set (by omega)]; rfl) ((hfc9.up rfl).th hfd rfl) _ _ _ hH hS (lv_sub hl [1] rfl)
        · refine z_aload_n C dX3_readsStatement_59 hl 1 rfl ?_
          refine z_iload_n C dX3_readsStatement_60 hl 0 rfl ?_
          refine m_Vv C hH hS (mm_readsLine hOk tc w tx n ((nxt tx n xx.1)) P (hpn) (by rw [hfc9.at 2 rfl]; exact hP) (ho) (hnn (by omega)) (fun j a b => by rw [hfc9.at 39 rfl]; exact hD j a b) (⟨by omega, by omega⟩)) (cwV 1 C.1.2.2.2.2 (lw_V q2670 q2672 qs97 q133 q2673) rfl rfl rfl (by decide +kernel) ⟨Nat.le_of_ble_eq_true rfl, Nat.le_of_ble_eq_true rfl⟩) rfl hl rfl (Nat.le_of_ble_eq_true rfl) dX3_readsStatement_61 ⟨Nat.le_refl _, Nat.le_refl _⟩ (fun td H locs hp_61_1 hH hS => ?_)
          obtain ⟨hpd, hdd, hfd⟩ := hp_61_1
          refine z_goto C dX3_readsStatement_64 (tgt := 83) (by decide) ?_
          exact J_83 td ((ndE (lnR tx n w P (.inr (nxt tx n xx.1))) (kdE (lnR tx n w P (.inr (nxt tx n xx.1))) 4) 1)) ((adL P (lnF tx n w P (.inr (nxt tx n xx.1))))) (hpd) (fun y hy => ⟨hdd y hy, ho.adL (hnn (by omega)) _⟩) (by rw [stE_ln (by omega) (hnn (by omega)), ← hw, lnE_eq]; unfold seE; rw [nd2]) ((hfc9.up rfl).th hfd rfl) _ _ _ hH hS (lv_sub hl [1] rfl)
      · refine m_vret C hret hH hS dX3_readsStatement_53 ?_
        refine ⟨?_, hfc9.up rfl⟩
        obtain ⟨e, he⟩ := hpc.e1 (by omega)
        rcases (show z_9 = 0 ∨ z_9 = 1 by omega) with h | h
        · rw [stE_bad (by omega)]
          rw [show decide (z_9 = 1) = false from decide_eq_false (by omega)] at hpc
          exact ⟨hpc, fun q hq => by cases hq⟩
        · rw [show decide (z_9 = 1) = true from decide_eq_true h] at hpc he
          first
            | (have he : (Sum.inr (nxt tx n xx.1) : Er LX) = .inl e := he; cases he)
            | (rw [stE_full (by omega) (by omega)]
               exact ⟨hpc, fun q hq => by cases hq⟩)
    · refine z_iconst C dX3_readsStatement_33 ?_
      refine z_goto C dX3_readsStatement_34 (tgt := 38) (by decide) ?_
      refine z_iconst C dX3_readsStatement_38 ?_
      refine m_Vv C hH hS (mm_must hOk ta 1 5 tx n ((ndE (.inr xx) (decide (z_9 = 1)) 1)) (hpa) (by decide) (by decide)) (cwV 2 C.1.2.2.2.2 (lw_V q2662 q2664 qs95 q133 q2665) rfl rfl rfl (by decide +kernel) ⟨Nat.le_of_ble_eq_true rfl, Nat.le_of_ble_eq_true rfl⟩) rfl hl rfl (Nat.le_of_ble_eq_true rfl) dX3_readsStatement_39 ⟨Nat.le_refl _, Nat.le_refl _⟩ (fun tb H locs hp_39_2 hH hS => ?_)
      obtain ⟨hpb, hfb⟩ := hp_39_2
      refine z_aload_n C dX3_readsStatement_42 hl 1 rfl ?_
      refine m_Vv C hH hS (mm_goesOn hOk tb tx n ((ndE (ndE (.inr xx) (decide (z_9 = 1)) 1) (decide ((1 : Int) = 1)) 5)) (hpb)) (cwV 0 C.1.2.2.2.2 (lw_V q2650 q2652 qs92 q133 q2653) rfl rfl rfl (by decide +kernel) ⟨Nat.le_of_ble_eq_true rfl, Nat.le_of_ble_eq_true rfl⟩) rfl hl rfl (Nat.le_of_ble_eq_true rfl) dX3_readsStatement_43 ⟨Nat.le_refl _, Nat.le_refl _⟩ (fun tc H locs hp_43_2 hH hS => ?_)
      obtain ⟨hpc, hfc⟩ := hp_43_2
      have erc := hpc.er
      have hfc9 : Fr [33, 34, 35, 36, 37, 38] σ tc := ((hfa.up rfl).th hfb rfl).th hfc rfl
      refine z_aload_n C dX3_readsStatement_46 hl 1 rfl ?_
      refine m_getsZ C hH 37 ⟨by decide, by decide⟩ (tc 37 0) rfl q2222 rfl dX3_readsStatement_47 ?_
      refine z_ifle C dX3_readsStatement_50 (tgt := 54) (by decide) ⟨by omega, by omega⟩ (fun c_50_2 => ?_) (fun c_50_2 => ?_)
      · have hgd : PX tc tx n (.inr (nxt tx n xx.1)) ∧ z_9 = 1 ∧ (w ≤ 2 → pN P < 20) := by
          obtain ⟨x, hx⟩ := hpc.e0.mp (by omega)
          rcases (show z_9 = 0 ∨ z_9 = 1 by omega) with h | h
          · rw [show decide (z_9 = 1) = false from decide_eq_false (by omega)] at hx
            have hx : (Sum.inl (1, xx.2.1) : Er LX) = .inr x := hx
            cases hx
          · rw [show decide (z_9 = 1) = true from decide_eq_true h] at hpc hx
            first
              | exact ⟨hpc, h, fun _ => by omega⟩
              | (have hx : (Sum.inl (5, xx.2.1) : Er LX) = .inr x := hx; cases hx)
        obtain ⟨hpn, hz1, hnn⟩ := hgd
        have J_83 : ∀ (s1 : Sg) (R : Er LX) (PG : Pg), (PX s1 tx n R) → (∀ y, R = .inr y → PgAt (s1 2) PG ∧ PgOk PG) → (staE tx n xx P = mpE (seE tx n R) PG) → (Fr [2, 7, 9, 15, 16, 17, 33, 34, 35, 36, 37, 38] σ s1) → ∀ (H : Heap) (locs : List Loc) (ls : Array Slot), MH D dA A o ad s1 H → va_S A s0.heap H locs → lv_has ls 2 [(0, .ref o)] → W pp l ee (rmL 9 0 0) s0 mm ([.ref o] : List Value).toArray below meth cc0 H locs 0 0 (MQ below (MQv D dA A o ad (fun σ' => QX σ' tx n (staE tx n xx P) ∧ Fr [2, 7, 9, 15, 16, 17, 33, 34, 35, 36, 37, 38] σ σ')) ([.ref o] : List Value).toArray s0 0 0 A) (F0 mm 83 ls []) := by
          intro s1 R PG hpr hpg hE hf1 H locs ls hH hS hl
          have lr1 := hpr.2.1
          obtain ⟨-, -, -, t4, t5, -, -, -, -⟩ := lr1
          refine z_aload_n C dX3_readsStatement_83 hl 0 rfl ?_
          refine z_aload_n C dX3_readsStatement_84 hl 0 rfl ?_
          refine m_getsZ C hH 35 ⟨by decide, by decide⟩ (s1 35 0) rfl q2220 rfl dX3_readsStatement_85 ?_
          refine z_iconst C dX3_readsStatement_88 ?_
          refine z_icmpne C dX3_readsStatement_89 (tgt := 96) (by decide) ⟨⟨by omega, by omega⟩, ⟨by omega, by omega⟩⟩ (fun c_89_2 => ?_) (fun c_89_2 => ?_)
          · refine z_iconst C dX3_readsStatement_96 ?_
            refine z_iconst C dX3_readsStatement_97 ?_
            refine m_Vv C hH hS (mm_must hOk s1 0 1 tx n R (hpr) (by decide) (by decide)) (cwV 2 C.1.2.2.2.2 (lw_V q2662 q2664 qs95 q133 q2665) rfl rfl rfl (by decide +kernel) ⟨Nat.le_of_ble_eq_true rfl, Nat.le_of_ble_eq_true rfl⟩) rfl hl rfl (Nat.le_of_ble_eq_true rfl) dX3_readsStatement_98 ⟨Nat.le_refl _, Nat.le_refl _⟩ (fun te H locs hp_98_4 hH hS => ?_)
            obtain ⟨hpe, hfe⟩ := hp_98_4
            have e98 : ndE R (decide ((0 : Int) = 1)) 1 = ndE R (kdE R 4) 1 := hpr.kd (decide_eq_decide.mpr (by omega))
            rw [e98] at hpe
            refine z_aload_n C dX3_readsStatement_101 hl 0 rfl ?_
            refine m_Vv C hH hS (mm_goesOn hOk te tx n ((ndE R (kdE R 4) 1)) (hpe)) (cwV 0 C.1.2.2.2.2 (lw_V q2650 q2652 qs92 q133 q2653) rfl rfl rfl (by decide +kernel) ⟨Nat.le_of_ble_eq_true rfl, Nat.le_of_ble_eq_true rfl⟩) rfl hl rfl (Nat.le_of_ble_eq_true rfl) dX3_readsStatement_102 ⟨Nat.le_refl _, Nat.le_refl _⟩ (fun tf H locs hp_102_4 hH hS => ?_)
            obtain ⟨hpf, hff⟩ := hp_102_4
            refine m_vret C hret hH hS dX3_readsStatement_105 ?_
            refine ⟨?_, (hf1.th hfe rfl).th hff rfl⟩
            rw [hE]
            refine QX.mp hpf (fun x hx => ?_)
            obtain ⟨y, hy, -⟩ := goE_inr hx
            have h1 := hpg y (ndE_inr hy).1
            exact ⟨by rw [hff.at 2 rfl, hfe.at 2 rfl]; exact h1.1, h1.2⟩
          · refine z_iconst C dX3_readsStatement_92 ?_
            refine z_goto C dX3_readsStatement_93 (tgt := 97) (by decide) ?_
            refine z_iconst C dX3_readsStatement_97 ?_
            refine m_Vv C hH hS (mm_must hOk s1 1 1 tx n R (hpr) (by decide) (by decide)) (cwV 2 C.1.2.2.2.2 (lw_V q2662 q2664 qs95 q133 q2665) rfl rfl rfl (by decide +kernel) ⟨Nat.le_of_ble_eq_true rfl, Nat.le_of_ble_eq_true rfl⟩) rfl hl rfl (Nat.le_of_ble_eq_true rfl) dX3_readsStatement_98 ⟨Nat.le_refl _, Nat.le_refl _⟩ (fun te H locs hp_98_5 hH hS => ?_)
            obtain ⟨hpe, hfe⟩ := hp_98_5
            have e98 : ndE R (decide ((1 : Int) = 1)) 1 = ndE R (kdE R 4) 1 := hpr.kd (decide_eq_decide.mpr (by omega))
            rw [e98] at hpe
            refine z_aload_n C dX3_readsStatement_101 hl 0 rfl ?_
            refine m_Vv C hH hS (mm_goesOn hOk te tx n ((ndE R (kdE R 4) 1)) (hpe)) (cwV 0 C.1.2.2.2.2 (lw_V q2650 q2652 qs92 q133 q2653) rfl rfl rfl (by decide +kernel) ⟨Nat.le_of_ble_eq_true rfl, Nat.le_of_ble_eq_true rfl⟩) rfl hl rfl (Nat.le_of_ble_eq_true rfl) dX3_readsStatement_102 ⟨Nat.le_refl _, Nat.le_refl _⟩ (fun tf H locs hp_102_5 hH hS => ?_)
            obtain ⟨hpf, hff⟩ := hp_102_5
            refine m_vret C hret hH hS dX3_readsStatement_105 ?_
            refine ⟨?_, (hf1.th hfe rfl).th hff rfl⟩
            rw [hE]
            refine QX.mp hpf (fun x hx => ?_)
            obtain ⟨y, hy, -⟩ := goE_inr hx
            have h1 := hpg y (ndE_inr hy).1
            exact ⟨by rw [hff.at 2 rfl, hfe.at 2 rfl]; exact h1.1, h1.2⟩
        refine z_iload_n C dX3_readsStatement_54 hl 0 rfl ?_
        refine z_iconst C dX3_readsStatement_55 ?_
        refine z_icmpgt C dX3_readsStatement_56 (tgt := 67) (by decide) ⟨⟨by omega, by omega⟩, ⟨by omega, by omega⟩⟩ (fun c_56_2 => ?_) (fun c_56_2 => ?_)
        · refine z_iload_n C dX3_readsStatement_67 hl 0 rfl ?_
          refine z_iconst C dX3_readsStatement_68 ?_
          refine z_icmpne C dX3_readsStatement_69 (tgt := 79) (by decide) ⟨⟨by omega, by omega⟩, ⟨by omega, by omega⟩⟩ (fun c_69_2 => ?_) (fun c_69_2 => ?_)
          · refine z_aload_n C dX3_readsStatement_79 hl 1 rfl ?_
            refine m_Vv C hH hS (mm_readsLoss hOk tc tx n ((.inr (nxt tx n xx.1))) P (hpn) (ho) (fun _ _ => by rw [hfc9.at 2 rfl]; exact hP)) (cwV 0 C.1.2.2.2.2 (lw_V q2702 q2704 qs105 q133 q2705) rfl rfl rfl (by decide +kernel) ⟨Nat.le_of_ble_eq_true rfl, Nat.le_of_ble_eq_true rfl⟩) rfl hl rfl (Nat.le_of_ble_eq_true rfl) dX3_readsStatement_80 ⟨Nat.le_refl _, Nat.le_refl _⟩ (fun td H locs hp_80_2 hH hS => ?_)
            obtain ⟨hpd, hdd, hfd⟩ := hp_80_2
            exact J_83 td ((goE tx n (lkE (goE tx n (lkE (.inr (nxt tx n xx.1)) 0 19)) 0 5))) ((eLose P (lkV (.inr (nxt tx n xx.1)) 0 19) (lkV (goE tx n (lkE (.inr (nxt tx n xx.1)) 0 19)) 0 5))) (hpd) (fun y hy => ⟨hdd y hy, ho.lose (lkV_in (by decide))⟩) (by rw [stE_los (by omega)]; rfl) ((hfc9.up rfl).th hfd rfl) _ _ _ hH hS (lv_sub hl [1] rfl)
          · refine z_aload_n C dX3_readsStatement_72 hl 1 rfl ?_
            refine m_Vv C hH hS (mm_readsSetting hOk tc tx n ((.inr (nxt tx n xx.1))) P (hpn) (ho) (fun _ _ => by rw [hfc9.at 2 rfl]; exact hP)) (cwV 0 C.1.2.2.2.2 (lw_V q2698 q2700 qs104 q133 q2701) rfl rfl rfl (by decide +kernel) ⟨Nat.le_of_ble_eq_true rfl, Nat.le_of_ble_eq_true rfl⟩) rfl hl rfl (Nat.le_of_ble_eq_true rfl) dX3_readsStatement_73 ⟨Nat.le_refl _, Nat.le_refl _⟩ (fun td H locs hp_73_2 hH hS => ?_)
            obtain ⟨hpd, hdd, hfd⟩ := hp_73_2
            have kr := lkV_in (r := .inr (nxt tx n xx.1)) (show (0 : Int) ≤ 5 by decide)
            have hh := hiZ_in (lkV (.inr (nxt tx n xx.1)) 0 5)
            have ll : loK (lkV (.inr (nxt tx n xx.1)) 0 5) = if lkV (.inr (nxt tx n xx.1)) 0 5 = 0 then 1 else 0 := rfl
            have ll2 : loK (lkV (.inr (nxt tx n xx.1)) 0 5) ≤ 1 := by rw [ll]; split <;> decide
            refine z_goto C dX3_readsStatement_76 (tgt := 83) (by decide) ?_
            exact J_83 td ((goE tx n (lkE (goE tx n (lkE (.inr (nxt tx n xx.1)) 0 5)) (loK (lkV (.inr (nxt tx n xx.1)) 0 5)) (hiZ (lkV (.inr (nxt tx n xx.1)) 0 5))))) ((eSet P (lkV (.inr (nxt tx n xx.1)) 0 5) (lkV (goE tx n (lkE (.inr (nxt tx n xx.1)) 0 5)) (loK (lkV (.inr (nxt tx n xx.1)) 0 5)) (hiZ (lkV (.inr (nxt tx n xx.1)) 0 5))))) (hpd) (fun y hy => ⟨hdd y hy, ho.set kr (lkV_in (by omega))⟩) (by rw [stE_set (by omega)]; rfl) ((hfc9.up rfl).th hfd rfl) _ _ _ hH hS (lv_sub hl [1] rfl)
        · refine z_aload_n C dX3_readsStatement_59 hl 1 rfl ?_
          refine z_iload_n C dX3_readsStatement_60 hl 0 rfl ?_
          refine m_Vv C hH hS (mm_readsLine hOk tc w tx n ((nxt tx n xx.1)) P (hpn) (by rw [hfc9.at 2 rfl]; exact hP) (ho) (hnn (by omega)) (fun j a b => by rw [hfc9.at 39 rfl]; exact hD j a b) (⟨by omega, by omega⟩)) (cwV 1 C.1.2.2.2.2 (lw_V q2670 q2672 qs97 q133 q2673) rfl rfl rfl (by decide +kernel) ⟨Nat.le_of_ble_eq_true rfl, Nat.le_of_ble_eq_true rfl⟩) rfl hl rfl (Nat.le_of_ble_eq_true rfl) dX3_readsStatement_61 ⟨Nat.le_refl _, Nat.le_refl _⟩ (fun td H locs hp_61_2 hH hS => ?_)
          obtain ⟨hpd, hdd, hfd⟩ := hp_61_2
          refine z_goto C dX3_readsStatement_64 (tgt := 83) (by decide) ?_
          exact J_83 td ((ndE (lnR tx n w P (.inr (nxt tx n xx.1))) (kdE (lnR tx n w P (.inr (nxt tx n xx.1))) 4) 1)) ((adL P (lnF tx n w P (.inr (nxt tx n xx.1))))) (hpd) (fun y hy => ⟨hdd y hy, ho.adL (hnn (by omega)) _⟩) (by rw [stE_ln (by omega) (hnn (by omega)), ← hw, lnE_eq]; unfold seE; rw [nd2]) ((hfc9.up rfl).th hfd rfl) _ _ _ hH hS (lv_sub hl [1] rfl)
      · refine m_vret C hret hH hS dX3_readsStatement_53 ?_
        refine ⟨?_, hfc9.up rfl⟩
        obtain ⟨e, he⟩ := hpc.e1 (by omega)
        rcases (show z_9 = 0 ∨ z_9 = 1 by omega) with h | h
        · rw [stE_bad (by omega)]
          rw [show decide (z_9 = 1) = false from decide_eq_false (by omega)] at hpc
          exact ⟨hpc, fun q hq => by cases hq⟩
        · rw [show decide (z_9 = 1) = true from decide_eq_true h] at hpc he
          first
            | (have he : (Sum.inr (nxt tx n xx.1) : Er LX) = .inl e := he; cases he)
            | (rw [stE_full (by omega) (by omega)]
               exact ⟨hpc, fun q hq => by cases hq⟩)
