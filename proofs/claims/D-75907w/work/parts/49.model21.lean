/-! the reference's methods, 21 (written by gen/model21.py) -/
set_option maxRecDepth 100000
set_option maxHeartbeats 1000000 in
theorem mm_printsWord {l : Launch} {D : va_G} {dA : Nat → ClassId} {A : Nat → Prop} {o : Nat} {ad : Nat → Nat} (hOk : mOk o ad) (σ : Sg) (w : Int) (ou : List Int) (hO : OuAt σ ou) (hw : w = 1 ∨ w = 2) (hD : WdAt σ) (hlen : ou.length + 5 ≤ 600) : Met l yX3_printsWord (ws_ yX3_printsWord cX3_printsWord 4 none) (rmL 2 0 0) (MP D dA A o ad [.ref o, .int (iI w)] σ) (MQv D dA A o ad (fun σ' => OuAt σ' (ou ++ worL w) ∧ Fr [40, 41] σ σ')) 0 0 A := by
  refine z_ofW (by decide) rfl ?_
  intro pp ee s0 mm below meth cc0 ls C hret hname hl hH hS
  have hl : lv_has ls 4 [(0, .ref o), (1, .int (iI w))] := hl
  have hln : wln w = 5 := by rcases hw with rfl | rfl <;> rfl
  have hpw : (w = 1 ∧ wpl w = 5) ∨ (w = 2 ∧ wpl w = 11) := by rcases hw with rfl | rfl; exact Or.inl ⟨rfl, rfl⟩; exact Or.inr ⟨rfl, rfl⟩
  have hwl := worL_len w
  refine z_iconst C dX3_printsWord_0 ?_
  refine z_istore_n C [(2, .int (iI 0)), (0, .ref o), (1, .int (iI w))] dX3_printsWord_1 hl (by decide) rfl (fun ls hl => ?_)
  refine z_iload_n C dX3_printsWord_2 hl 2 rfl ?_
  refine z_istore_n C [(3, .int (iI w)), (2, .int (iI 0)), (0, .ref o), (1, .int (iI w))] dX3_printsWord_3 hl (by decide) rfl (fun ls hl => ?_)
  have J_4 : ∀ (fu : Nat) (k : Int) (lf : Int), (11 - k).toNat < fu → (0 ≤ k ∧ k ≤ wpl w) → ((k ≤ 4 ∧ lf = w) ∨ (4 < k ∧ k ≤ 10 ∧ lf = w - 1) ∨ (10 < k ∧ lf = w - 2)) → ∀ (H : Heap) (locs : List Loc) (ls : Array Slot), MH D dA A o ad σ H → va_S A s0.heap H locs → lv_has ls 4 [(3, .int (iI lf)), (2, .int (iI k)), (0, .ref o), (1, .int (iI w))] → W pp l ee (rmL 2 0 0) s0 mm ([.ref o, .int (iI w)] : List Value).toArray below meth cc0 H locs 0 0 (MQ below (MQv D dA A o ad (fun σ' => OuAt σ' (ou ++ worL w) ∧ Fr [40, 41] σ σ')) ([.ref o, .int (iI w)] : List Value).toArray s0 0 0 A) (F0 mm 4 ls []) := by
    intro fu
    induction fu with
    | zero => intro k lf hn; exact absurd hn (Nat.not_lt_zero _)
    | succ fu ih_4 =>
      intro k lf hn hk0 hlf H locs ls hH hS hl
      refine z_iload_n C dX3_printsWord_4 hl 0 rfl ?_
      refine z_ifle C dX3_printsWord_5 (tgt := 33) (by decide) ⟨by omega, by omega⟩ (fun c_5 => ?_) (fun c_5 => ?_)
      · have J_33 : ∀ (fu : Nat) (q : Int) (s1 : Sg), (wpl w + 5 - q).toNat < fu → (wpl w ≤ q ∧ q ≤ wpl w + 5) → (OuAt s1 (ou ++ (worL w).take (q - wpl w).toNat)) → (Fr [40, 41] σ s1) → ∀ (H : Heap) (locs : List Loc) (ls : Array Slot), MH D dA A o ad s1 H → va_S A s0.heap H locs → lv_has ls 4 [(3, .int (iI lf)), (2, .int (iI q)), (0, .ref o), (1, .int (iI w))] → W pp l ee (rmL 2 0 0) s0 mm ([.ref o, .int (iI w)] : List Value).toArray below meth cc0 H locs 0 0 (MQ below (MQv D dA A o ad (fun σ' => OuAt σ' (ou ++ worL w) ∧ Fr [40, 41] σ σ')) ([.ref o, .int (iI w)] : List Value).toArray s0 0 0 A) (F0 mm 33 ls []) := by
          intro fu
          induction fu with
          | zero => intro q s1 hn; exact absurd hn (Nat.not_lt_zero _)
          | succ fu ih_33 =>
            intro q s1 hn hq hO1 hf1 H locs ls hH hS hl
            have wc := wd_ch (w := w) (k := q - wpl w) (by omega) (by omega)
            rw [show wpl w + (q - wpl w) = q by omega] at wc
            refine z_aload_n C dX3_printsWord_33 hl 2 rfl ?_
            refine m_geta C hH 39 ⟨by decide, by decide⟩ q2224 rfl dX3_printsWord_34 ?_
            refine z_iload_n C dX3_printsWord_37 hl 1 rfl ?_
            refine m_bald C hOk hH 39 ⟨by decide, by decide⟩ (show 0 ≤ q ∧ q < (37 : Int) by omega) dX3_printsWord_38 ?_
            refine z_topr (show s1 39 q = wds q from by rw [hf1.at 39 rfl]; exact hD _ (by omega) (by omega)) ?_
            refine z_bipush C dX3_printsWord_39 (by decide +kernel) ?_
            refine z_icmpeq C dX3_printsWord_41 (tgt := 60) (by decide) ⟨⟨by omega, by omega⟩, ⟨by omega, by omega⟩⟩ (fun c_41 => ?_) (fun c_41 => ?_)
            · refine m_vret C hret hH hS dX3_printsWord_60 ?_
              refine ⟨?_, hf1⟩
              rw [List.take_of_length_le (by omega)] at hO1; exact hO1
            · refine z_aload_n C dX3_printsWord_44 hl 2 rfl ?_
              refine z_aload_n C dX3_printsWord_45 hl 2 rfl ?_
              refine m_geta C hH 39 ⟨by decide, by decide⟩ q2224 rfl dX3_printsWord_46 ?_
              refine z_iload_n C dX3_printsWord_49 hl 1 rfl ?_
              refine m_bald C hOk hH 39 ⟨by decide, by decide⟩ (show 0 ≤ q ∧ q < (37 : Int) by omega) dX3_printsWord_50 ?_
              refine z_topr (show s1 39 q = wds q from by rw [hf1.at 39 rfl]; exact hD _ (by omega) (by omega)) ?_
              refine m_Vv C hH hS (mm_prints hOk s1 (wds q) ((ou ++ (worL w).take (q - wpl w).toNat)) (hO1) (by omega) (by rw [List.length_append, List.length_take]; omega)) (cwV 1 C.1.2.2.2.2 (lw_V q2722 q2724 qs107 q133 q2725) rfl rfl rfl (by decide +kernel) ⟨Nat.le_of_ble_eq_true rfl, Nat.le_of_ble_eq_true rfl⟩) rfl hl rfl (Nat.le_of_ble_eq_true rfl) dX3_printsWord_51 ⟨Nat.le_refl _, Nat.le_refl _⟩ (fun s_51 H locs hp_51 hH hS => ?_)
              obtain ⟨ho51, hf51⟩ := hp_51
              refine z_iinc C [(2, .int (iI (q + 1))), (3, .int (iI lf)), (0, .ref o), (1, .int (iI w))] dX3_printsWord_54 hl 1 rfl (by decide) rfl (fun ls hl => ?_)
              refine z_goto C dX3_printsWord_57 (tgt := 33) (by decide) ?_
              exact ih_33 ((q + 1)) s_51 (by omega) (by omega) (by rw [show q + 1 - wpl w = q - wpl w + 1 by omega, take_go (d := 0) (by omega) (by rw [hwl]; omega), (wor_at hw (k := q - wpl w) (by omega)).1, ← List.append_assoc, show wpl w + (q - wpl w) = q by omega]; exact ho51) (hf1.th hf51 rfl) _ _ _ hH hS (lv_sub hl [1, 0, 2, 3] rfl)
        exact J_33 _ k σ (Nat.lt_succ_self _) (by omega) (by rw [show (k - wpl w).toNat = 0 by omega, List.take_zero, List.append_nil]; exact hO) (Fr.rf) _ _ _ hH hS (lv_sub hl [0, 1, 2, 3] rfl)
      · have wk := wsp (k := k) (by omega)
        refine z_iload_n C dX3_printsWord_8 hl 0 rfl ?_
        refine z_aload_n C dX3_printsWord_9 hl 2 rfl ?_
        refine m_geta C hH 39 ⟨by decide, by decide⟩ q2224 rfl dX3_printsWord_10 ?_
        refine z_iload_n C dX3_printsWord_13 hl 1 rfl ?_
        refine m_bald C hOk hH 39 ⟨by decide, by decide⟩ (show 0 ≤ k ∧ k < (37 : Int) by omega) dX3_printsWord_14 ?_
        refine z_topr (show σ 39 k = wds k from hD _ (by omega) (by omega)) ?_
        refine z_bipush C dX3_printsWord_15 (by decide +kernel) ?_
        refine z_icmpne C dX3_printsWord_17 (tgt := 24) (by decide) ⟨⟨by omega, by omega⟩, ⟨by omega, by omega⟩⟩ (fun c_17 => ?_) (fun c_17 => ?_)
        · refine z_iconst C dX3_printsWord_24 ?_
          refine z_isub C dX3_printsWord_25 ?_
          refine z_istore_n C [(3, .int (iI (lf - 0))), (2, .int (iI k)), (0, .ref o), (1, .int (iI w))] dX3_printsWord_26 hl (by decide) rfl (fun ls hl => ?_)
          refine z_iinc C [(2, .int (iI (k + 1))), (3, .int (iI (lf - 0))), (0, .ref o), (1, .int (iI w))] dX3_printsWord_27 hl 1 rfl (by decide) rfl (fun ls hl => ?_)
          refine z_goto C dX3_printsWord_30 (tgt := 4) (by decide) ?_
          exact ih_4 ((k + 1)) ((lf - 0)) (by omega) (by omega) (by omega) _ _ _ hH hS (lv_sub hl [1, 0, 2, 3] rfl)
        · refine z_iconst C dX3_printsWord_20 ?_
          refine z_goto C dX3_printsWord_21 (tgt := 25) (by decide) ?_
          refine z_isub C dX3_printsWord_25 ?_
          refine z_istore_n C [(3, .int (iI (lf - 1))), (2, .int (iI k)), (0, .ref o), (1, .int (iI w))] dX3_printsWord_26 hl (by decide) rfl (fun ls hl => ?_)
          refine z_iinc C [(2, .int (iI (k + 1))), (3, .int (iI (lf - 1))), (0, .ref o), (1, .int (iI w))] dX3_printsWord_27 hl 1 rfl (by decide) rfl (fun ls hl => ?_)
          refine z_goto C dX3_printsWord_30 (tgt := 4) (by decide) ?_
          exact ih_4 ((k + 1)) ((lf - 1)) (by omega) (by omega) (by omega) _ _ _ hH hS (lv_sub hl [1, 0, 2, 3] rfl)
  exact J_4 _ 0 w (Nat.lt_succ_self _) (by omega) (by omega) _ _ _ hH hS (lv_sub hl [0, 1, 2, 3] rfl)
set_option maxHeartbeats 1000000 in
theorem mm_write {l : Launch} {D : va_G} {dA : Nat → ClassId} {A : Nat → Prop} {o : Nat} {ad : Nat → Nat} (hOk : mOk o ad) (σ : Sg) (ln : Int) (P : Pg) (hP : PgAt (σ 1) P) (hk : PgOk P) (hr : zR ln) (hD : WdAt σ) : Met l yX3_write (ws_ yX3_write cX3_write 4 (some .int)) (rmL 6 0 0) (MP D dA A o ad [.ref o, .int (iI ln)] σ) (MQi D dA A o ad (fun r σ' => σ' 0 0 = (if 0 ≤ ln ∧ ln ≤ pN P - 1 then 0 else 1) ∧ (σ' 0 0 = 0 → r = ((wriL P ln).length : Int) ∧ OuAt σ' (wriL P ln)) ∧ (σ' 0 0 ≠ 0 → σ' 40 = σ 40 ∧ σ' 41 = σ 41) ∧ Fr [0, 7, 8, 9, 10, 11, 12, 13, 14, 18, 19, 40, 41] σ σ')) 0 0 A := by
  refine z_ofW (by decide) rfl ?_
  intro pp ee s0 mm below meth cc0 ls C hret hname hl hH hS
  have hl : lv_has ls 4 [(0, .ref o), (1, .int (iI ln))] := hl
  have hk9 := hk
  have hP9 := hP
  obtain ⟨k1, k2, k3, k4, k5, k6, k7, k8, k9, k10, k11⟩ := hk
  obtain ⟨p1, p2, p3, p4, p5⟩ := hP
  have pn0 : 0 ≤ pN P := by show (0 : Int) ≤ ((pB P).length : Int); omega
  have hr_1 := hr.1
  have hr_2 := hr.2
  refine z_aload_n C dX3_write_0 hl 0 rfl ?_
  refine z_aload_n C dX3_write_1 hl 0 rfl ?_
  refine z_iload_n C dX3_write_2 hl 1 rfl ?_
  refine m_ViF C hH hS (mm_isLine hOk σ ln P (hP9) (hk9) (⟨by omega, by omega⟩)) (cwV 1 C.1.2.2.2.2 (lw_V q2413 q2415 qs63 q133 q2416) rfl rfl rfl (by decide +kernel) ⟨Nat.le_of_ble_eq_true rfl, Nat.le_of_ble_eq_true rfl⟩) rfl hl rfl (Nat.le_of_ble_eq_true rfl) dX3_write_3 ⟨Nat.le_refl _, Nat.le_refl _⟩ (fun H locs hH hS => ?_)
  refine z_topi (fun z_3 hz_3 => ?_)
  have q_3 := inZ_or ln 0 (pN P - 1)
  rw [← hz_3] at q_3
  refine z_ifeq C dX3_write_6 (tgt := 13) (by decide) ⟨by omega, by omega⟩ (fun c_6 => ?_) (fun c_6 => ?_)
  · refine z_iconst C dX3_write_13 ?_
    refine m_puts C hH hS 0 ⟨by decide, by decide⟩ q2185 rfl ⟨rfl, rfl⟩ dX3_write_14 (fun H locs hH hS => ?_)
    refine z_aload_n C dX3_write_17 hl 0 rfl ?_
    refine m_getsZ C hH 0 ⟨by decide, by decide⟩ 1 rfl q2185 rfl dX3_write_18 ?_
    refine z_ifle C dX3_write_21 (tgt := 26) (by decide) ⟨by omega, by omega⟩ (fun c_21 => ?_) (fun c_21 => ?_)
    · exact absurd c_21 (by decide)
    · refine z_iconst C dX3_write_24 ?_
      refine m_iret C hret hH hS dX3_write_25 ?_
      exact ⟨by rw [su_self, if_neg (by omega)], fun h => absurd (show (1 : Int) = 0 from h) (by decide), fun _ => ⟨rfl, rfl⟩, frSu Fr.rf rfl⟩
  · refine z_iconst C dX3_write_9 ?_
    refine z_goto C dX3_write_10 (tgt := 14) (by decide) ?_
    refine m_puts C hH hS 0 ⟨by decide, by decide⟩ q2185 rfl ⟨rfl, rfl⟩ dX3_write_14 (fun H locs hH hS => ?_)
    refine z_aload_n C dX3_write_17 hl 0 rfl ?_
    refine m_getsZ C hH 0 ⟨by decide, by decide⟩ 0 rfl q2185 rfl dX3_write_18 ?_
    refine z_ifle C dX3_write_21 (tgt := 26) (by decide) ⟨by omega, by omega⟩ (fun c_21_1 => ?_) (fun c_21_1 => ?_)
    · refine z_aload_n C dX3_write_26 hl 0 rfl ?_
      refine z_iload_n C dX3_write_27 hl 1 rfl ?_
      refine m_Vi C hH hS (mm_isMark hOk (su σ 0 0 0) ln P ((pS P 0)) (hP9) (hk9) (by omega) (p3 0 (by omega) (by omega)) (by omega)) (cwV 1 C.1.2.2.2.2 (lw_V q2343 q2345 qs48 q133 q2346) rfl rfl rfl (by decide +kernel) ⟨Nat.le_of_ble_eq_true rfl, Nat.le_of_ble_eq_true rfl⟩) rfl hl rfl (Nat.le_of_ble_eq_true rfl) dX3_write_28 ⟨Nat.le_refl _, Nat.le_refl _⟩ (fun mk ta H locs hp_28 hH hS => ?_)
      obtain ⟨hmk, hfa⟩ := hp_28
      have mk01 := isMk_01 P (pS P 0) ln
      rw [← hmk] at mk01
      refine z_istore_n C [(2, .int (iI mk)), (0, .ref o), (1, .int (iI ln))] dX3_write_31 hl (by decide) rfl (fun ls hl => ?_)
      refine z_aload_n C dX3_write_32 hl 1 rfl ?_
      refine z_iload_n C dX3_write_33 hl 2 rfl ?_
      refine m_Vv C hH hS (mm_codesLine hOk ta ln P (by rw [hfa.at 1 rfl]; exact hP9) (hk9) (by omega)) (cwV 1 C.1.2.2.2.2 (lw_V q2347 q2349 qs49 q133 q2350) rfl rfl rfl (by decide +kernel) ⟨Nat.le_of_ble_eq_true rfl, Nat.le_of_ble_eq_true rfl⟩) rfl hl rfl (Nat.le_of_ble_eq_true rfl) dX3_write_34 ⟨Nat.le_refl _, Nat.le_refl _⟩ (fun tb H locs hp_34 hH hS => ?_)
      obtain ⟨hc34, hfb⟩ := hp_34
      obtain ⟨c1, c2, c3, c4, c5⟩ := hc34
      have l1 : ((pR P ln).length : Int) ≤ pW P + 1 := rns_len (lnZ P ln) (show 0 ≤ pW P by omega)
      have l2 : ((pC P ln).length : Int) ≤ pW P + 1 := cds_len (upZ P ln) (lnZ P ln) (show 0 ≤ pW P by omega)
      have hrn : ∀ r ∈ pR P ln, 0 ≤ r ∧ r ≤ 99 := fun r hr => by have := rns_in (lnZ P ln) (show 0 ≤ pW P by omega) r hr; omega
      have hmd : ∀ m ∈ pC P ln, MdOk 40 m := fun m hm => (cds_ok (upZ P ln) (lnZ P ln) (show 0 ≤ pW P by omega) m hm).up (by omega)
      have htb0 : tb 0 0 = 0 := by rw [hfb.at 0 rfl, hfa.at 0 rfl]; exact su_self _ _ _ _
      refine z_aload_n C dX3_write_37 hl 1 rfl ?_
      refine z_iconst C dX3_write_38 ?_
      refine m_puts C hH hS 41 ⟨by decide, by decide⟩ q2226 rfl ⟨rfl, rfl⟩ dX3_write_39 (fun H locs hH hS => ?_)
      refine z_aload_n C dX3_write_42 hl 1 rfl ?_
      refine z_iload_n C dX3_write_43 hl 0 rfl ?_
      refine z_ifeq C dX3_write_44 (tgt := 51) (by decide) ⟨by omega, by omega⟩ (fun c_44 => ?_) (fun c_44 => ?_)
      · refine z_iconst C dX3_write_51 ?_
        refine m_Vv C hH hS (mm_printsWord hOk (su tb 41 0 0) 2 ([]) (⟨su_self _ _ _ _, (fun j hj => absurd hj (Nat.not_lt_zero _)), Nat.zero_le _⟩) (by decide) (fun j a b => by show tb 39 j = _; rw [hfb.at 39 rfl, hfa.at 39 rfl]; exact hD j a b) (by decide)) (cwV 1 C.1.2.2.2.2 (lw_V q2718 q2720 qs106 q133 q2721) rfl rfl rfl (by decide +kernel) ⟨Nat.le_of_ble_eq_true rfl, Nat.le_of_ble_eq_true rfl⟩) rfl hl rfl (Nat.le_of_ble_eq_true rfl) dX3_write_52 ⟨Nat.le_refl _, Nat.le_refl _⟩ (fun tc H locs hp_52 hH hS => ?_)
        obtain ⟨hoc, hfc⟩ := hp_52
        obtain ⟨wl, hwl, hwl5⟩ : ∃ y : List Int, y = worL 2 ∧ y.length = 5 := ⟨_, rfl, worL_len _⟩
        rw [List.nil_append, ← hwl] at hoc
        have hfc9 : Fr [40, 41] tb tc := (frSu Fr.rf rfl).th hfc rfl
        refine z_iconst C dX3_write_55 ?_
        refine z_istore_n C [(3, .int (iI 0)), (2, .int (iI mk)), (0, .ref o), (1, .int (iI ln))] dX3_write_56 hl (by decide) rfl (fun ls hl => ?_)
        have J_57 : ∀ (fu : Nat) (k : Int) (s1 : Sg), (((pR P ln).length : Int) - k).toNat < fu → (0 ≤ k ∧ k ≤ ((pR P ln).length : Int)) → (OuAt s1 (wl ++ runL ((pR P ln).take k.toNat))) → (Fr [40, 41] tb s1) → (k = 0 ∨ mk = 1) → ∀ (H : Heap) (locs : List Loc) (ls : Array Slot), MH D dA A o ad s1 H → va_S A s0.heap H locs → lv_has ls 4 [(3, .int (iI k)), (2, .int (iI mk)), (0, .ref o), (1, .int (iI ln))] → W pp l ee (rmL 6 0 0) s0 mm ([.ref o, .int (iI ln)] : List Value).toArray below meth cc0 H locs 0 0 (MQ below (MQi D dA A o ad (fun r σ' => σ' 0 0 = (if 0 ≤ ln ∧ ln ≤ pN P - 1 then 0 else 1) ∧ (σ' 0 0 = 0 → r = ((wriL P ln).length : Int) ∧ OuAt σ' (wriL P ln)) ∧ (σ' 0 0 ≠ 0 → σ' 40 = σ 40 ∧ σ' 41 = σ 41) ∧ Fr [0, 7, 8, 9, 10, 11, 12, 13, 14, 18, 19, 40, 41] σ σ')) ([.ref o, .int (iI ln)] : List Value).toArray s0 0 0 A) (F0 mm 57 ls []) := by
          intro fu
          induction fu with
          | zero => intro k s1 hn; exact absurd hn (Nat.not_lt_zero _)
          | succ fu ih_57 =>
            intro k s1 hn hk0 hO1 hf1 hmk1 H locs ls hH hS hl
            refine z_iload_n C dX3_write_57 hl 0 rfl ?_
            refine z_aload_n C dX3_write_58 hl 2 rfl ?_
            refine m_getsZ C hH 19 ⟨by decide, by decide⟩ (((pR P ln).length : Int)) (by rw [hf1.at 19 rfl]; exact c5.1) q2204 rfl dX3_write_59 ?_
            refine z_icmpge C dX3_write_62 (tgt := 91) (by decide) ⟨⟨by omega, by omega⟩, ⟨by omega, by omega⟩⟩ (fun c_62 => ?_) (fun c_62 => ?_)
            · obtain ⟨xl, hxl⟩ : ∃ y, y = wl ++ runL ((pR P ln).take k.toNat) := ⟨_, rfl⟩
              have hxl5 : xl.length ≤ 5 + (if mk = 1 then 3 * (pR P ln).length else 0) := by
                rw [hxl, List.length_append]
                by_cases h1 : mk = 1
                · rw [if_pos h1]; have := runL_tk hrn k.toNat; omega
                · rw [if_neg h1, show k.toNat = 0 by omega, List.take_zero]; show wl.length + 0 ≤ _; omega
              refine z_iconst C dX3_write_91 ?_
              refine z_istore_n C [(3, .int (iI 0)), (2, .int (iI mk)), (0, .ref o), (1, .int (iI ln))] dX3_write_92 hl (by decide) rfl (fun ls hl => ?_)
              have J_93 : ∀ (fu : Nat) (k2 : Int) (s2 : Sg), (((pC P ln).length : Int) - k2).toNat < fu → (0 ≤ k2 ∧ k2 ≤ ((pC P ln).length : Int)) → (OuAt s2 (xl ++ mdsL ((pC P ln).take k2.toNat))) → (Fr [40, 41] tb s2) → (k2 = 0 ∨ mk = 0) → ∀ (H : Heap) (locs : List Loc) (ls : Array Slot), MH D dA A o ad s2 H → va_S A s0.heap H locs → lv_has ls 4 [(3, .int (iI k2)), (2, .int (iI mk)), (0, .ref o), (1, .int (iI ln))] → W pp l ee (rmL 6 0 0) s0 mm ([.ref o, .int (iI ln)] : List Value).toArray below meth cc0 H locs 0 0 (MQ below (MQi D dA A o ad (fun r σ' => σ' 0 0 = (if 0 ≤ ln ∧ ln ≤ pN P - 1 then 0 else 1) ∧ (σ' 0 0 = 0 → r = ((wriL P ln).length : Int) ∧ OuAt σ' (wriL P ln)) ∧ (σ' 0 0 ≠ 0 → σ' 40 = σ 40 ∧ σ' 41 = σ 41) ∧ Fr [0, 7, 8, 9, 10, 11, 12, 13, 14, 18, 19, 40, 41] σ σ')) ([.ref o, .int (iI ln)] : List Value).toArray s0 0 0 A) (F0 mm 93 ls []) := by
                intro fu
                induction fu with
                | zero => intro k2 s2 hn; exact absurd hn (Nat.not_lt_zero _)
                | succ fu ih_93 =>
                  intro k2 s2 hn hk2 hO2 hf2 hmk2 H locs ls hH hS hl
                  refine z_iload_n C dX3_write_93 hl 0 rfl ?_
                  refine z_aload_n C dX3_write_94 hl 2 rfl ?_
                  refine m_getsZ C hH 14 ⟨by decide, by decide⟩ (((pC P ln).length : Int)) (by rw [hf2.at 14 rfl]; exact c4.1) q2199 rfl dX3_write_95 ?_
                  refine z_icmpge C dX3_write_98 (tgt := 116) (by decide) ⟨⟨by omega, by omega⟩, ⟨by omega, by omega⟩⟩ (fun c_98 => ?_) (fun c_98 => ?_)
                  · refine z_aload_n C dX3_write_116 hl 2 rfl ?_
                    refine m_getsZ C hH 41 ⟨by decide, by decide⟩ (((xl ++ mdsL ((pC P ln).take k2.toNat)).length : Int)) (hO2.1) q2226 rfl dX3_write_117 ?_
                    refine m_iret C hret hH hS dX3_write_120 ?_
                    first
                      | (exfalso; omega)
                      | (have h00 : s2 0 0 = 0 := by rw [hf2.at 0 rfl]; exact htb0
                         have hL : xl ++ mdsL ((pC P ln).take k2.toNat) = wriL P ln := by
                           unfold wriL
                           first
                             | (rw [if_pos (by omega), hxl, hwl, show k2.toNat = 0 by omega, List.take_zero, List.take_of_length_le (by omega)]; show _ ++ [] = _; rw [List.append_nil])
                             | (rw [if_neg (by omega), hxl, hwl, show k.toNat = 0 by omega, List.take_zero, List.take_of_length_le (l := pC P ln) (by omega)]; show (_ ++ []) ++ _ = _; rw [List.append_nil])
                         rw [hL] at hO2 ⊢
                         exact ⟨by rw [h00, if_pos (by omega)], fun _ => ⟨rfl, hO2⟩, fun h => absurd h00 h, (((frSu Fr.rf rfl).th hfa rfl).th hfb rfl).th hf2 rfl⟩)
                  · refine z_iload_n C dX3_write_101 hl 1 rfl ?_
                    refine z_ifne C dX3_write_102 (tgt := 116) (by decide) ⟨by omega, by omega⟩ (fun c_102 => ?_) (fun c_102 => ?_)
                    · refine z_aload_n C dX3_write_116 hl 2 rfl ?_
                      refine m_getsZ C hH 41 ⟨by decide, by decide⟩ (((xl ++ mdsL ((pC P ln).take k2.toNat)).length : Int)) (hO2.1) q2226 rfl dX3_write_117 ?_
                      refine m_iret C hret hH hS dX3_write_120 ?_
                      first
                        | (exfalso; omega)
                        | (have h00 : s2 0 0 = 0 := by rw [hf2.at 0 rfl]; exact htb0
                           have hL : xl ++ mdsL ((pC P ln).take k2.toNat) = wriL P ln := by
                             unfold wriL
                             first
                               | (rw [if_pos (by omega), hxl, hwl, show k2.toNat = 0 by omega, List.take_zero, List.take_of_length_le (by omega)]; show _ ++ [] = _; rw [List.append_nil])
                               | (rw [if_neg (by omega), hxl, hwl, show k.toNat = 0 by omega, List.take_zero, List.take_of_length_le (l := pC P ln) (by omega)]; show (_ ++ []) ++ _ = _; rw [List.append_nil])
                           rw [hL] at hO2 ⊢
                           exact ⟨by rw [h00, if_pos (by omega)], fun _ => ⟨rfl, hO2⟩, fun h => absurd h00 h, (((frSu Fr.rf rfl).th hfa rfl).th hfb rfl).th hf2 rfl⟩)
                    · rw [if_neg (show ¬ mk = 1 by omega)] at hxl5
                      refine z_aload_n C dX3_write_105 hl 2 rfl ?_
                      refine z_iload_n C dX3_write_106 hl 0 rfl ?_
                      refine m_Vv C hH hS (mm_printsMode hOk s2 k2 ((xl ++ mdsL ((pC P ln).take k2.toNat))) ((gM (pC P ln) k2)) (hO2) (hmd _ (gM_mem hk2.1 (show k2 < ((pC P ln).length : Int) by omega))) (⟨by omega, by omega⟩) (by rw [hf2.at 10 rfl]; exact (c4.2 k2 hk2.1 (show k2 < ((pC P ln).length : Int) by omega)).1) (by rw [hf2.at 11 rfl]; exact (c4.2 k2 hk2.1 (show k2 < ((pC P ln).length : Int) by omega)).2.1) (by rw [hf2.at 12 rfl]; exact (c4.2 k2 hk2.1 (show k2 < ((pC P ln).length : Int) by omega)).2.2.1) (by have := mdsL_tk hmd k2.toNat; rw [List.length_append]; omega)) (cwV 1 C.1.2.2.2.2 (lw_V q2730 q2732 qs109 q133 q2733) rfl rfl rfl (by decide +kernel) ⟨Nat.le_of_ble_eq_true rfl, Nat.le_of_ble_eq_true rfl⟩) rfl hl rfl (Nat.le_of_ble_eq_true rfl) dX3_write_107 ⟨Nat.le_refl _, Nat.le_refl _⟩ (fun tg H locs hp_107 hH hS => ?_)
                      obtain ⟨hog, hfg⟩ := hp_107
                      refine z_iinc C [(3, .int (iI (k2 + 1))), (2, .int (iI mk)), (0, .ref o), (1, .int (iI ln))] dX3_write_110 hl 0 rfl (by decide) rfl (fun ls hl => ?_)
                      refine z_goto C dX3_write_113 (tgt := 93) (by decide) ?_
                      exact ih_93 ((k2 + 1)) tg (by omega) (by omega) (by rw [mdsL_go hk2.1 (by omega), ← List.append_assoc]; exact hog) (hf2.th hfg rfl) (by omega) _ _ _ hH hS (lv_sub hl [0, 1, 2, 3] rfl)
              exact J_93 _ 0 s1 (Nat.lt_succ_self _) (by omega) (by rw [show (0 : Int).toNat = 0 from rfl, List.take_zero]; show OuAt s1 (xl ++ []); rw [List.append_nil, hxl]; exact hO1) (hf1) (by omega) _ _ _ hH hS (lv_sub hl [0, 1, 2, 3] rfl)
            · refine z_iload_n C dX3_write_65 hl 1 rfl ?_
              refine z_ifeq C dX3_write_66 (tgt := 91) (by decide) ⟨by omega, by omega⟩ (fun c_66 => ?_) (fun c_66 => ?_)
              · obtain ⟨xl, hxl⟩ : ∃ y, y = wl ++ runL ((pR P ln).take k.toNat) := ⟨_, rfl⟩
                have hxl5 : xl.length ≤ 5 + (if mk = 1 then 3 * (pR P ln).length else 0) := by
                  rw [hxl, List.length_append]
                  by_cases h1 : mk = 1
                  · rw [if_pos h1]; have := runL_tk hrn k.toNat; omega
                  · rw [if_neg h1, show k.toNat = 0 by omega, List.take_zero]; show wl.length + 0 ≤ _; omega
                refine z_iconst C dX3_write_91 ?_
                refine z_istore_n C [(3, .int (iI 0)), (2, .int (iI mk)), (0, .ref o), (1, .int (iI ln))] dX3_write_92 hl (by decide) rfl (fun ls hl => ?_)
                have J_93 : ∀ (fu : Nat) (k2 : Int) (s2 : Sg), (((pC P ln).length : Int) - k2).toNat < fu → (0 ≤ k2 ∧ k2 ≤ ((pC P ln).length : Int)) → (OuAt s2 (xl ++ mdsL ((pC P ln).take k2.toNat))) → (Fr [40, 41] tb s2) → (k2 = 0 ∨ mk = 0) → ∀ (H : Heap) (locs : List Loc) (ls : Array Slot), MH D dA A o ad s2 H → va_S A s0.heap H locs → lv_has ls 4 [(3, .int (iI k2)), (2, .int (iI mk)), (0, .ref o), (1, .int (iI ln))] → W pp l ee (rmL 6 0 0) s0 mm ([.ref o, .int (iI ln)] : List Value).toArray below meth cc0 H locs 0 0 (MQ below (MQi D dA A o ad (fun r σ' => σ' 0 0 = (if 0 ≤ ln ∧ ln ≤ pN P - 1 then 0 else 1) ∧ (σ' 0 0 = 0 → r = ((wriL P ln).length : Int) ∧ OuAt σ' (wriL P ln)) ∧ (σ' 0 0 ≠ 0 → σ' 40 = σ 40 ∧ σ' 41 = σ 41) ∧ Fr [0, 7, 8, 9, 10, 11, 12, 13, 14, 18, 19, 40, 41] σ σ')) ([.ref o, .int (iI ln)] : List Value).toArray s0 0 0 A) (F0 mm 93 ls []) := by
                  intro fu
                  induction fu with
                  | zero => intro k2 s2 hn; exact absurd hn (Nat.not_lt_zero _)
                  | succ fu ih_93 =>
                    intro k2 s2 hn hk2 hO2 hf2 hmk2 H locs ls hH hS hl
                    refine z_iload_n C dX3_write_93 hl 0 rfl ?_
                    refine z_aload_n C dX3_write_94 hl 2 rfl ?_
                    refine m_getsZ C hH 14 ⟨by decide, by decide⟩ (((pC P ln).length : Int)) (by rw [hf2.at 14 rfl]; exact c4.1) q2199 rfl dX3_write_95 ?_
                    refine z_icmpge C dX3_write_98 (tgt := 116) (by decide) ⟨⟨by omega, by omega⟩, ⟨by omega, by omega⟩⟩ (fun c_98_1 => ?_) (fun c_98_1 => ?_)
                    · refine z_aload_n C dX3_write_116 hl 2 rfl ?_
                      refine m_getsZ C hH 41 ⟨by decide, by decide⟩ (((xl ++ mdsL ((pC P ln).take k2.toNat)).length : Int)) (hO2.1) q2226 rfl dX3_write_117 ?_
                      refine m_iret C hret hH hS dX3_write_120 ?_
                      first
                        | (exfalso; omega)
                        | (have h00 : s2 0 0 = 0 := by rw [hf2.at 0 rfl]; exact htb0
                           have hL : xl ++ mdsL ((pC P ln).take k2.toNat) = wriL P ln := by
                             unfold wriL
                             first
                               | (rw [if_pos (by omega), hxl, hwl, show k2.toNat = 0 by omega, List.take_zero, List.take_of_length_le (by omega)]; show _ ++ [] = _; rw [List.append_nil])
                               | (rw [if_neg (by omega), hxl, hwl, show k.toNat = 0 by omega, List.take_zero, List.take_of_length_le (l := pC P ln) (by omega)]; show (_ ++ []) ++ _ = _; rw [List.append_nil])
                           rw [hL] at hO2 ⊢
                           exact ⟨by rw [h00, if_pos (by omega)], fun _ => ⟨rfl, hO2⟩, fun h => absurd h00 h, (((frSu Fr.rf rfl).th hfa rfl).th hfb rfl).th hf2 rfl⟩)
                    · refine z_iload_n C dX3_write_101 hl 1 rfl ?_
                      refine z_ifne C dX3_write_102 (tgt := 116) (by decide) ⟨by omega, by omega⟩ (fun c_102_1 => ?_) (fun c_102_1 => ?_)
                      · refine z_aload_n C dX3_write_116 hl 2 rfl ?_
                        refine m_getsZ C hH 41 ⟨by decide, by decide⟩ (((xl ++ mdsL ((pC P ln).take k2.toNat)).length : Int)) (hO2.1) q2226 rfl dX3_write_117 ?_
                        refine m_iret C hret hH hS dX3_write_120 ?_
                        first
                          | (exfalso; omega)
                          | (have h00 : s2 0 0 = 0 := by rw [hf2.at 0 rfl]; exact htb0
                             have hL : xl ++ mdsL ((pC P ln).take k2.toNat) = wriL P ln := by
                               unfold wriL
                               first
                                 | (rw [if_pos (by omega), hxl, hwl, show k2.toNat = 0 by omega, List.take_zero, List.take_of_length_le (by omega)]; show _ ++ [] = _; rw [List.append_nil])
                                 | (rw [if_neg (by omega), hxl, hwl, show k.toNat = 0 by omega, List.take_zero, List.take_of_length_le (l := pC P ln) (by omega)]; show (_ ++ []) ++ _ = _; rw [List.append_nil])
                             rw [hL] at hO2 ⊢
                             exact ⟨by rw [h00, if_pos (by omega)], fun _ => ⟨rfl, hO2⟩, fun h => absurd h00 h, (((frSu Fr.rf rfl).th hfa rfl).th hfb rfl).th hf2 rfl⟩)
                      · rw [if_neg (show ¬ mk = 1 by omega)] at hxl5
                        refine z_aload_n C dX3_write_105 hl 2 rfl ?_
                        refine z_iload_n C dX3_write_106 hl 0 rfl ?_
                        refine m_Vv C hH hS (mm_printsMode hOk s2 k2 ((xl ++ mdsL ((pC P ln).take k2.toNat))) ((gM (pC P ln) k2)) (hO2) (hmd _ (gM_mem hk2.1 (show k2 < ((pC P ln).length : Int) by omega))) (⟨by omega, by omega⟩) (by rw [hf2.at 10 rfl]; exact (c4.2 k2 hk2.1 (show k2 < ((pC P ln).length : Int) by omega)).1) (by rw [hf2.at 11 rfl]; exact (c4.2 k2 hk2.1 (show k2 < ((pC P ln).length : Int) by omega)).2.1) (by rw [hf2.at 12 rfl]; exact (c4.2 k2 hk2.1 (show k2 < ((pC P ln).length : Int) by omega)).2.2.1) (by have := mdsL_tk hmd k2.toNat; rw [List.length_append]; omega)) (cwV 1 C.1.2.2.2.2 (lw_V q2730 q2732 qs109 q133 q2733) rfl rfl rfl (by decide +kernel) ⟨Nat.le_of_ble_eq_true rfl, Nat.le_of_ble_eq_true rfl⟩) rfl hl rfl (Nat.le_of_ble_eq_true rfl) dX3_write_107 ⟨Nat.le_refl _, Nat.le_refl _⟩ (fun tg H locs hp_107_1 hH hS => ?_)
                        obtain ⟨hog, hfg⟩ := hp_107_1
                        refine z_iinc C [(3, .int (iI (k2 + 1))), (2, .int (iI mk)), (0, .ref o), (1, .int (iI ln))] dX3_write_110 hl 0 rfl (by decide) rfl (fun ls hl => ?_)
                        refine z_goto C dX3_write_113 (tgt := 93) (by decide) ?_
                        exact ih_93 ((k2 + 1)) tg (by omega) (by omega) (by rw [mdsL_go hk2.1 (by omega), ← List.append_assoc]; exact hog) (hf2.th hfg rfl) (by omega) _ _ _ hH hS (lv_sub hl [0, 1, 2, 3] rfl)
                exact J_93 _ 0 s1 (Nat.lt_succ_self _) (by omega) (by rw [show (0 : Int).toNat = 0 from rfl, List.take_zero]; show OuAt s1 (xl ++ []); rw [List.append_nil, hxl]; exact hO1) (hf1) (by omega) _ _ _ hH hS (lv_sub hl [0, 1, 2, 3] rfl)
              · refine z_aload_n C dX3_write_69 hl 2 rfl ?_
                refine z_bipush C dX3_write_70 (by decide +kernel) ?_
                refine m_Vv C hH hS (mm_prints hOk s1 32 ((wl ++ runL ((pR P ln).take k.toNat))) (hO1) (by decide) (by have := runL_tk hrn k.toNat; rw [List.length_append]; omega)) (cwV 1 C.1.2.2.2.2 (lw_V q2722 q2724 qs107 q133 q2725) rfl rfl rfl (by decide +kernel) ⟨Nat.le_of_ble_eq_true rfl, Nat.le_of_ble_eq_true rfl⟩) rfl hl rfl (Nat.le_of_ble_eq_true rfl) dX3_write_72 ⟨Nat.le_refl _, Nat.le_refl _⟩ (fun td H locs hp_72 hH hS => ?_)
                obtain ⟨hod, hfd⟩ := hp_72
                refine z_aload_n C dX3_write_75 hl 2 rfl ?_
                refine z_aload_n C dX3_write_76 hl 2 rfl ?_
                refine m_geta C hH 18 ⟨by decide, by decide⟩ q2203 rfl dX3_write_77 ?_
                refine z_iload_n C dX3_write_80 hl 0 rfl ?_
                refine m_ialdZ C hOk hH 18 ⟨by decide, by decide⟩ k (gR (pR P ln) k) (by rw [hfd.at 18 rfl, hf1.at 18 rfl]; exact c5.2 k hk0.1 (show k < ((pR P ln).length : Int) by omega)) (show 0 ≤ k ∧ k < (44 : Int) by omega) dX3_write_81 ?_
                refine m_Vv C hH hS (mm_printsNumber hOk td (gR (pR P ln) k) ((wl ++ runL ((pR P ln).take k.toNat) ++ [32])) (hod) (by have := hrn _ (gR_mem hk0.1 (show k < ((pR P ln).length : Int) by omega)); omega) (by have := runL_tk hrn k.toNat; simp only [List.length_append, List.length_singleton]; omega)) (cwV 1 C.1.2.2.2.2 (lw_V q2726 q2728 qs108 q133 q2729) rfl rfl rfl (by decide +kernel) ⟨Nat.le_of_ble_eq_true rfl, Nat.le_of_ble_eq_true rfl⟩) rfl hl rfl (Nat.le_of_ble_eq_true rfl) dX3_write_82 ⟨Nat.le_refl _, Nat.le_refl _⟩ (fun te H locs hp_82 hH hS => ?_)
                obtain ⟨hoe, hfe⟩ := hp_82
                refine z_iinc C [(3, .int (iI (k + 1))), (2, .int (iI mk)), (0, .ref o), (1, .int (iI ln))] dX3_write_85 hl 0 rfl (by decide) rfl (fun ls hl => ?_)
                refine z_goto C dX3_write_88 (tgt := 57) (by decide) ?_
                exact ih_57 ((k + 1)) te (by omega) (by omega) (by rw [runL_go hk0.1 (by omega)]; simp only [List.append_assoc, List.cons_append, List.nil_append] at hoe ⊢; exact hoe) ((hf1.th hfd rfl).th hfe rfl) (by omega) _ _ _ hH hS (lv_sub hl [0, 1, 2, 3] rfl)
        exact J_57 _ 0 tc (Nat.lt_succ_self _) (by omega) (by rw [show (0 : Int).toNat = 0 from rfl, List.take_zero]; show OuAt tc (wl ++ []); rw [List.append_nil]; exact hoc) (hfc9) (by omega) _ _ _ hH hS (lv_sub hl [0, 1, 2, 3] rfl)
      · refine z_iconst C dX3_write_47 ?_
        refine z_goto C dX3_write_48 (tgt := 52) (by decide) ?_
        refine m_Vv C hH hS (mm_printsWord hOk (su tb 41 0 0) 1 ([]) (⟨su_self _ _ _ _, (fun j hj => absurd hj (Nat.not_lt_zero _)), Nat.zero_le _⟩) (by decide) (fun j a b => by show tb 39 j = _; rw [hfb.at 39 rfl, hfa.at 39 rfl]; exact hD j a b) (by decide)) (cwV 1 C.1.2.2.2.2 (lw_V q2718 q2720 qs106 q133 q2721) rfl rfl rfl (by decide +kernel) ⟨Nat.le_of_ble_eq_true rfl, Nat.le_of_ble_eq_true rfl⟩) rfl hl rfl (Nat.le_of_ble_eq_true rfl) dX3_write_52 ⟨Nat.le_refl _, Nat.le_refl _⟩ (fun tc H locs hp_52_1 hH hS => ?_)
        obtain ⟨hoc, hfc⟩ := hp_52_1
        obtain ⟨wl, hwl, hwl5⟩ : ∃ y : List Int, y = worL 1 ∧ y.length = 5 := ⟨_, rfl, worL_len _⟩
        rw [List.nil_append, ← hwl] at hoc
        have hfc9 : Fr [40, 41] tb tc := (frSu Fr.rf rfl).th hfc rfl
        refine z_iconst C dX3_write_55 ?_
        refine z_istore_n C [(3, .int (iI 0)), (2, .int (iI mk)), (0, .ref o), (1, .int (iI ln))] dX3_write_56 hl (by decide) rfl (fun ls hl => ?_)
        have J_57 : ∀ (fu : Nat) (k : Int) (s1 : Sg), (((pR P ln).length : Int) - k).toNat < fu → (0 ≤ k ∧ k ≤ ((pR P ln).length : Int)) → (OuAt s1 (wl ++ runL ((pR P ln).take k.toNat))) → (Fr [40, 41] tb s1) → (k = 0 ∨ mk = 1) → ∀ (H : Heap) (locs : List Loc) (ls : Array Slot), MH D dA A o ad s1 H → va_S A s0.heap H locs → lv_has ls 4 [(3, .int (iI k)), (2, .int (iI mk)), (0, .ref o), (1, .int (iI ln))] → W pp l ee (rmL 6 0 0) s0 mm ([.ref o, .int (iI ln)] : List Value).toArray below meth cc0 H locs 0 0 (MQ below (MQi D dA A o ad (fun r σ' => σ' 0 0 = (if 0 ≤ ln ∧ ln ≤ pN P - 1 then 0 else 1) ∧ (σ' 0 0 = 0 → r = ((wriL P ln).length : Int) ∧ OuAt σ' (wriL P ln)) ∧ (σ' 0 0 ≠ 0 → σ' 40 = σ 40 ∧ σ' 41 = σ 41) ∧ Fr [0, 7, 8, 9, 10, 11, 12, 13, 14, 18, 19, 40, 41] σ σ')) ([.ref o, .int (iI ln)] : List Value).toArray s0 0 0 A) (F0 mm 57 ls []) := by
          intro fu
          induction fu with
          | zero => intro k s1 hn; exact absurd hn (Nat.not_lt_zero _)
          | succ fu ih_57 =>
            intro k s1 hn hk0 hO1 hf1 hmk1 H locs ls hH hS hl
            refine z_iload_n C dX3_write_57 hl 0 rfl ?_
            refine z_aload_n C dX3_write_58 hl 2 rfl ?_
            refine m_getsZ C hH 19 ⟨by decide, by decide⟩ (((pR P ln).length : Int)) (by rw [hf1.at 19 rfl]; exact c5.1) q2204 rfl dX3_write_59 ?_
            refine z_icmpge C dX3_write_62 (tgt := 91) (by decide) ⟨⟨by omega, by omega⟩, ⟨by omega, by omega⟩⟩ (fun c_62_1 => ?_) (fun c_62_1 => ?_)
            · obtain ⟨xl, hxl⟩ : ∃ y, y = wl ++ runL ((pR P ln).take k.toNat) := ⟨_, rfl⟩
              have hxl5 : xl.length ≤ 5 + (if mk = 1 then 3 * (pR P ln).length else 0) := by
                rw [hxl, List.length_append]
                by_cases h1 : mk = 1
                · rw [if_pos h1]; have := runL_tk hrn k.toNat; omega
                · rw [if_neg h1, show k.toNat = 0 by omega, List.take_zero]; show wl.length + 0 ≤ _; omega
              refine z_iconst C dX3_write_91 ?_
              refine z_istore_n C [(3, .int (iI 0)), (2, .int (iI mk)), (0, .ref o), (1, .int (iI ln))] dX3_write_92 hl (by decide) rfl (fun ls hl => ?_)
              have J_93 : ∀ (fu : Nat) (k2 : Int) (s2 : Sg), (((pC P ln).length : Int) - k2).toNat < fu → (0 ≤ k2 ∧ k2 ≤ ((pC P ln).length : Int)) → (OuAt s2 (xl ++ mdsL ((pC P ln).take k2.toNat))) → (Fr [40, 41] tb s2) → (k2 = 0 ∨ mk = 0) → ∀ (H : Heap) (locs : List Loc) (ls : Array Slot), MH D dA A o ad s2 H → va_S A s0.heap H locs → lv_has ls 4 [(3, .int (iI k2)), (2, .int (iI mk)), (0, .ref o), (1, .int (iI ln))] → W pp l ee (rmL 6 0 0) s0 mm ([.ref o, .int (iI ln)] : List Value).toArray below meth cc0 H locs 0 0 (MQ below (MQi D dA A o ad (fun r σ' => σ' 0 0 = (if 0 ≤ ln ∧ ln ≤ pN P - 1 then 0 else 1) ∧ (σ' 0 0 = 0 → r = ((wriL P ln).length : Int) ∧ OuAt σ' (wriL P ln)) ∧ (σ' 0 0 ≠ 0 → σ' 40 = σ 40 ∧ σ' 41 = σ 41) ∧ Fr [0, 7, 8, 9, 10, 11, 12, 13, 14, 18, 19, 40, 41] σ σ')) ([.ref o, .int (iI ln)] : List Value).toArray s0 0 0 A) (F0 mm 93 ls []) := by
                intro fu
                induction fu with
                | zero => intro k2 s2 hn; exact absurd hn (Nat.not_lt_zero _)
                | succ fu ih_93 =>
                  intro k2 s2 hn hk2 hO2 hf2 hmk2 H locs ls hH hS hl
                  refine z_iload_n C dX3_write_93 hl 0 rfl ?_
                  refine z_aload_n C dX3_write_94 hl 2 rfl ?_
                  refine m_getsZ C hH 14 ⟨by decide, by decide⟩ (((pC P ln).length : Int)) (by rw [hf2.at 14 rfl]; exact c4.1) q2199 rfl dX3_write_95 ?_
                  refine z_icmpge C dX3_write_98 (tgt := 116) (by decide) ⟨⟨by omega, by omega⟩, ⟨by omega, by omega⟩⟩ (fun c_98_2 => ?_) (fun c_98_2 => ?_)
                  · refine z_aload_n C dX3_write_116 hl 2 rfl ?_
                    refine m_getsZ C hH 41 ⟨by decide, by decide⟩ (((xl ++ mdsL ((pC P ln).take k2.toNat)).length : Int)) (hO2.1) q2226 rfl dX3_write_117 ?_
                    refine m_iret C hret hH hS dX3_write_120 ?_
                    first
                      | (exfalso; omega)
                      | (have h00 : s2 0 0 = 0 := by rw [hf2.at 0 rfl]; exact htb0
                         have hL : xl ++ mdsL ((pC P ln).take k2.toNat) = wriL P ln := by
                           unfold wriL
                           first
                             | (rw [if_pos (by omega), hxl, hwl, show k2.toNat = 0 by omega, List.take_zero, List.take_of_length_le (by omega)]; show _ ++ [] = _; rw [List.append_nil])
                             | (rw [if_neg (by omega), hxl, hwl, show k.toNat = 0 by omega, List.take_zero, List.take_of_length_le (l := pC P ln) (by omega)]; show (_ ++ []) ++ _ = _; rw [List.append_nil])
                         rw [hL] at hO2 ⊢
                         exact ⟨by rw [h00, if_pos (by omega)], fun _ => ⟨rfl, hO2⟩, fun h => absurd h00 h, (((frSu Fr.rf rfl).th hfa rfl).th hfb rfl).th hf2 rfl⟩)
                  · refine z_iload_n C dX3_write_101 hl 1 rfl ?_
                    refine z_ifne C dX3_write_102 (tgt := 116) (by decide) ⟨by omega, by omega⟩ (fun c_102_2 => ?_) (fun c_102_2 => ?_)
                    · refine z_aload_n C dX3_write_116 hl 2 rfl ?_
                      refine m_getsZ C hH 41 ⟨by decide, by decide⟩ (((xl ++ mdsL ((pC P ln).take k2.toNat)).length : Int)) (hO2.1) q2226 rfl dX3_write_117 ?_
                      refine m_iret C hret hH hS dX3_write_120 ?_
                      first
                        | (exfalso; omega)
                        | (have h00 : s2 0 0 = 0 := by rw [hf2.at 0 rfl]; exact htb0
                           have hL : xl ++ mdsL ((pC P ln).take k2.toNat) = wriL P ln := by
                             unfold wriL
                             first
                               | (rw [if_pos (by omega), hxl, hwl, show k2.toNat = 0 by omega, List.take_zero, List.take_of_length_le (by omega)]; show _ ++ [] = _; rw [List.append_nil])
                               | (rw [if_neg (by omega), hxl, hwl, show k.toNat = 0 by omega, List.take_zero, List.take_of_length_le (l := pC P ln) (by omega)]; show (_ ++ []) ++ _ = _; rw [List.append_nil])
                           rw [hL] at hO2 ⊢
                           exact ⟨by rw [h00, if_pos (by omega)], fun _ => ⟨rfl, hO2⟩, fun h => absurd h00 h, (((frSu Fr.rf rfl).th hfa rfl).th hfb rfl).th hf2 rfl⟩)
                    · rw [if_neg (show ¬ mk = 1 by omega)] at hxl5
                      refine z_aload_n C dX3_write_105 hl 2 rfl ?_
                      refine z_iload_n C dX3_write_106 hl 0 rfl ?_
                      refine m_Vv C hH hS (mm_printsMode hOk s2 k2 ((xl ++ mdsL ((pC P ln).take k2.toNat))) ((gM (pC P ln) k2)) (hO2) (hmd _ (gM_mem hk2.1 (show k2 < ((pC P ln).length : Int) by omega))) (⟨by omega, by omega⟩) (by rw [hf2.at 10 rfl]; exact (c4.2 k2 hk2.1 (show k2 < ((pC P ln).length : Int) by omega)).1) (by rw [hf2.at 11 rfl]; exact (c4.2 k2 hk2.1 (show k2 < ((pC P ln).length : Int) by omega)).2.1) (by rw [hf2.at 12 rfl]; exact (c4.2 k2 hk2.1 (show k2 < ((pC P ln).length : Int) by omega)).2.2.1) (by have := mdsL_tk hmd k2.toNat; rw [List.length_append]; omega)) (cwV 1 C.1.2.2.2.2 (lw_V q2730 q2732 qs109 q133 q2733) rfl rfl rfl (by decide +kernel) ⟨Nat.le_of_ble_eq_true rfl, Nat.le_of_ble_eq_true rfl⟩) rfl hl rfl (Nat.le_of_ble_eq_true rfl) dX3_write_107 ⟨Nat.le_refl _, Nat.le_refl _⟩ (fun tg H locs hp_107_2 hH hS => ?_)
                      obtain ⟨hog, hfg⟩ := hp_107_2
                      refine z_iinc C [(3, .int (iI (k2 + 1))), (2, .int (iI mk)), (0, .ref o), (1, .int (iI ln))] dX3_write_110 hl 0 rfl (by decide) rfl (fun ls hl => ?_)
                      refine z_goto C dX3_write_113 (tgt := 93) (by decide) ?_
                      exact ih_93 ((k2 + 1)) tg (by omega) (by omega) (by rw [mdsL_go hk2.1 (by omega), ← List.append_assoc]; exact hog) (hf2.th hfg rfl) (by omega) _ _ _ hH hS (lv_sub hl [0, 1, 2, 3] rfl)
              exact J_93 _ 0 s1 (Nat.lt_succ_self _) (by omega) (by rw [show (0 : Int).toNat = 0 from rfl, List.take_zero]; show OuAt s1 (xl ++ []); rw [List.append_nil, hxl]; exact hO1) (hf1) (by omega) _ _ _ hH hS (lv_sub hl [0, 1, 2, 3] rfl)
            · refine z_iload_n C dX3_write_65 hl 1 rfl ?_
              refine z_ifeq C dX3_write_66 (tgt := 91) (by decide) ⟨by omega, by omega⟩ (fun c_66_1 => ?_) (fun c_66_1 => ?_)
              · obtain ⟨xl, hxl⟩ : ∃ y, y = wl ++ runL ((pR P ln).take k.toNat) := ⟨_, rfl⟩
                have hxl5 : xl.length ≤ 5 + (if mk = 1 then 3 * (pR P ln).length else 0) := by
                  rw [hxl, List.length_append]
                  by_cases h1 : mk = 1
                  · rw [if_pos h1]; have := runL_tk hrn k.toNat; omega
                  · rw [if_neg h1, show k.toNat = 0 by omega, List.take_zero]; show wl.length + 0 ≤ _; omega
                refine z_iconst C dX3_write_91 ?_
                refine z_istore_n C [(3, .int (iI 0)), (2, .int (iI mk)), (0, .ref o), (1, .int (iI ln))] dX3_write_92 hl (by decide) rfl (fun ls hl => ?_)
                have J_93 : ∀ (fu : Nat) (k2 : Int) (s2 : Sg), (((pC P ln).length : Int) - k2).toNat < fu → (0 ≤ k2 ∧ k2 ≤ ((pC P ln).length : Int)) → (OuAt s2 (xl ++ mdsL ((pC P ln).take k2.toNat))) → (Fr [40, 41] tb s2) → (k2 = 0 ∨ mk = 0) → ∀ (H : Heap) (locs : List Loc) (ls : Array Slot), MH D dA A o ad s2 H → va_S A s0.heap H locs → lv_has ls 4 [(3, .int (iI k2)), (2, .int (iI mk)), (0, .ref o), (1, .int (iI ln))] → W pp l ee (rmL 6 0 0) s0 mm ([.ref o, .int (iI ln)] : List Value).toArray below meth cc0 H locs 0 0 (MQ below (MQi D dA A o ad (fun r σ' => σ' 0 0 = (if 0 ≤ ln ∧ ln ≤ pN P - 1 then 0 else 1) ∧ (σ' 0 0 = 0 → r = ((wriL P ln).length : Int) ∧ OuAt σ' (wriL P ln)) ∧ (σ' 0 0 ≠ 0 → σ' 40 = σ 40 ∧ σ' 41 = σ 41) ∧ Fr [0, 7, 8, 9, 10, 11, 12, 13, 14, 18, 19, 40, 41] σ σ')) ([.ref o, .int (iI ln)] : List Value).toArray s0 0 0 A) (F0 mm 93 ls []) := by
                  intro fu
                  induction fu with
                  | zero => intro k2 s2 hn; exact absurd hn (Nat.not_lt_zero _)
                  | succ fu ih_93 =>
                    intro k2 s2 hn hk2 hO2 hf2 hmk2 H locs ls hH hS hl
                    refine z_iload_n C dX3_write_93 hl 0 rfl ?_
                    refine z_aload_n C dX3_write_94 hl 2 rfl ?_
                    refine m_getsZ C hH 14 ⟨by decide, by decide⟩ (((pC P ln).length : Int)) (by rw [hf2.at 14 rfl]; exact c4.1) q2199 rfl dX3_write_95 ?_
                    refine z_icmpge C dX3_write_98 (tgt := 116) (by decide) ⟨⟨by omega, by omega⟩, ⟨by omega, by omega⟩⟩ (fun c_98_3 => ?_) (fun c_98_3 => ?_)
                    · refine z_aload_n C dX3_write_116 hl 2 rfl ?_
                      refine m_getsZ C hH 41 ⟨by decide, by decide⟩ (((xl ++ mdsL ((pC P ln).take k2.toNat)).length : Int)) (hO2.1) q2226 rfl dX3_write_117 ?_
                      refine m_iret C hret hH hS dX3_write_120 ?_
                      first
                        | (exfalso; omega)
                        | (have h00 : s2 0 0 = 0 := by rw [hf2.at 0 rfl]; exact htb0
                           have hL : xl ++ mdsL ((pC P ln).take k2.toNat) = wriL P ln := by
                             unfold wriL
                             first
                               | (rw [if_pos (by omega), hxl, hwl, show k2.toNat = 0 by omega, List.take_zero, List.take_of_length_le (by omega)]; show _ ++ [] = _; rw [List.append_nil])
                               | (rw [if_neg (by omega), hxl, hwl, show k.toNat = 0 by omega, List.take_zero, List.take_of_length_le (l := pC P ln) (by omega)]; show (_ ++ []) ++ _ = _; rw [List.append_nil])
                           rw [hL] at hO2 ⊢
                           exact ⟨by rw [h00, if_pos (by omega)], fun _ => ⟨rfl, hO2⟩, fun h => absurd h00 h, (((frSu Fr.rf rfl).th hfa rfl).th hfb rfl).th hf2 rfl⟩)
                    · refine z_iload_n C dX3_write_101 hl 1 rfl ?_
                      refine z_ifne C dX3_write_102 (tgt := 116) (by decide) ⟨by omega, by omega⟩ (fun c_102_3 => ?_) (fun c_102_3 => ?_)
                      · refine z_aload_n C dX3_write_116 hl 2 rfl ?_
                        refine m_getsZ C hH 41 ⟨by decide, by decide⟩ (((xl ++ mdsL ((pC P ln).take k2.toNat)).length : Int)) (hO2.1) q2226 rfl dX3_write_117 ?_
                        refine m_iret C hret hH hS dX3_write_120 ?_
                        first
                          | (exfalso; omega)
                          | (have h00 : s2 0 0 = 0 := by rw [hf2.at 0 rfl]; exact htb0
                             have hL : xl ++ mdsL ((pC P ln).take k2.toNat) = wriL P ln := by
                               unfold wriL
                               first
                                 | (rw [if_pos (by omega), hxl, hwl, show k2.toNat = 0 by omega, List.take_zero, List.take_of_length_le (by omega)]; show _ ++ [] = _; rw [List.append_nil])
                                 | (rw [if_neg (by omega), hxl, hwl, show k.toNat = 0 by omega, List.take_zero, List.take_of_length_le (l := pC P ln) (by omega)]; show (_ ++ []) ++ _ = _; rw [List.append_nil])
                             rw [hL] at hO2 ⊢
                             exact ⟨by rw [h00, if_pos (by omega)], fun _ => ⟨rfl, hO2⟩, fun h => absurd h00 h, (((frSu Fr.rf rfl).th hfa rfl).th hfb rfl).th hf2 rfl⟩)
                      · rw [if_neg (show ¬ mk = 1 by omega)] at hxl5
                        refine z_aload_n C dX3_write_105 hl 2 rfl ?_
                        refine z_iload_n C dX3_write_106 hl 0 rfl ?_
                        refine m_Vv C hH hS (mm_printsMode hOk s2 k2 ((xl ++ mdsL ((pC P ln).take k2.toNat))) ((gM (pC P ln) k2)) (hO2) (hmd _ (gM_mem hk2.1 (show k2 < ((pC P ln).length : Int) by omega))) (⟨by omega, by omega⟩) (by rw [hf2.at 10 rfl]; exact (c4.2 k2 hk2.1 (show k2 < ((pC P ln).length : Int) by omega)).1) (by rw [hf2.at 11 rfl]; exact (c4.2 k2 hk2.1 (show k2 < ((pC P ln).length : Int) by omega)).2.1) (by rw [hf2.at 12 rfl]; exact (c4.2 k2 hk2.1 (show k2 < ((pC P ln).length : Int) by omega)).2.2.1) (by have := mdsL_tk hmd k2.toNat; rw [List.length_append]; omega)) (cwV 1 C.1.2.2.2.2 (lw_V q2730 q2732 qs109 q133 q2733) rfl rfl rfl (by decide +kernel) ⟨Nat.le_of_ble_eq_true rfl, Nat.le_of_ble_eq_true rfl⟩) rfl hl rfl (Nat.le_of_ble_eq_true rfl) dX3_write_107 ⟨Nat.le_refl _, Nat.le_refl _⟩ (fun tg H locs hp_107_3 hH hS => ?_)
                        obtain ⟨hog, hfg⟩ := hp_107_3
                        refine z_iinc C [(3, .int (iI (k2 + 1))), (2, .int (iI mk)), (0, .ref o), (1, .int (iI ln))] dX3_write_110 hl 0 rfl (by decide) rfl (fun ls hl => ?_)
                        refine z_goto C dX3_write_113 (tgt := 93) (by decide) ?_
                        exact ih_93 ((k2 + 1)) tg (by omega) (by omega) (by rw [mdsL_go hk2.1 (by omega), ← List.append_assoc]; exact hog) (hf2.th hfg rfl) (by omega) _ _ _ hH hS (lv_sub hl [0, 1, 2, 3] rfl)
                exact J_93 _ 0 s1 (Nat.lt_succ_self _) (by omega) (by rw [show (0 : Int).toNat = 0 from rfl, List.take_zero]; show OuAt s1 (xl ++ []); rw [List.append_nil, hxl]; exact hO1) (hf1) (by omega) _ _ _ hH hS (lv_sub hl [0, 1, 2, 3] rfl)
              · refine z_aload_n C dX3_write_69 hl 2 rfl ?_
                refine z_bipush C dX3_write_70 (by decide +kernel) ?_
                refine m_Vv C hH hS (mm_prints hOk s1 32 ((wl ++ runL ((pR P ln).take k.toNat))) (hO1) (by decide) (by have := runL_tk hrn k.toNat; rw [List.length_append]; omega)) (cwV 1 C.1.2.2.2.2 (lw_V q2722 q2724 qs107 q133 q2725) rfl rfl rfl (by decide +kernel) ⟨Nat.le_of_ble_eq_true rfl, Nat.le_of_ble_eq_true rfl⟩) rfl hl rfl (Nat.le_of_ble_eq_true rfl) dX3_write_72 ⟨Nat.le_refl _, Nat.le_refl _⟩ (fun td H locs hp_72_1 hH hS => ?_)
                obtain ⟨hod, hfd⟩ := hp_72_1
                refine z_aload_n C dX3_write_75 hl 2 rfl ?_
                refine z_aload_n C dX3_write_76 hl 2 rfl ?_
                refine m_geta C hH 18 ⟨by decide, by decide⟩ q2203 rfl dX3_write_77 ?_
                refine z_iload_n C dX3_write_80 hl 0 rfl ?_
                refine m_ialdZ C hOk hH 18 ⟨by decide, by decide⟩ k (gR (pR P ln) k) (by rw [hfd.at 18 rfl, hf1.at 18 rfl]; exact c5.2 k hk0.1 (show k < ((pR P ln).length : Int) by omega)) (show 0 ≤ k ∧ k < (44 : Int) by omega) dX3_write_81 ?_
                refine m_Vv C hH hS (mm_printsNumber hOk td (gR (pR P ln) k) ((wl ++ runL ((pR P ln).take k.toNat) ++ [32])) (hod) (by have := hrn _ (gR_mem hk0.1 (show k < ((pR P ln).length : Int) by omega)); omega) (by have := runL_tk hrn k.toNat; simp only [List.length_append, List.length_singleton]; omega)) (cwV 1 C.1.2.2.2.2 (lw_V q2726 q2728 qs108 q133 q2729) rfl rfl rfl (by decide +kernel) ⟨Nat.le_of_ble_eq_true rfl, Nat.le_of_ble_eq_true rfl⟩) rfl hl rfl (Nat.le_of_ble_eq_true rfl) dX3_write_82 ⟨Nat.le_refl _, Nat.le_refl _⟩ (fun te H locs hp_82_1 hH hS => ?_)
                obtain ⟨hoe, hfe⟩ := hp_82_1
                refine z_iinc C [(3, .int (iI (k + 1))), (2, .int (iI mk)), (0, .ref o), (1, .int (iI ln))] dX3_write_85 hl 0 rfl (by decide) rfl (fun ls hl => ?_)
                refine z_goto C dX3_write_88 (tgt := 57) (by decide) ?_
                exact ih_57 ((k + 1)) te (by omega) (by omega) (by rw [runL_go hk0.1 (by omega)]; simp only [List.append_assoc, List.cons_append, List.nil_append] at hoe ⊢; exact hoe) ((hf1.th hfd rfl).th hfe rfl) (by omega) _ _ _ hH hS (lv_sub hl [0, 1, 2, 3] rfl)
        exact J_57 _ 0 tc (Nat.lt_succ_self _) (by omega) (by rw [show (0 : Int).toNat = 0 from rfl, List.take_zero]; show OuAt tc (wl ++ []); rw [List.append_nil]; exact hoc) (hfc9) (by omega) _ _ _ hH hS (lv_sub hl [0, 1, 2, 3] rfl)
    · exact absurd c_21_1 (by decide)
