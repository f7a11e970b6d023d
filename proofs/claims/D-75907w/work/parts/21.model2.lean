/-! the reference's methods, 2 (written by gen/model2.py) -/
set_option maxRecDepth 100000
set_option maxHeartbeats 1000000 in
theorem mm_adds {l : Launch} {D : va_G} {dA : Nat → ClassId} {A : Nat → Prop} {o : Nat} {ad : Nat → Nat} (hk : mOk o ad) (σ : Sg) (kd : Int) (n1 : Int) (n2 : Int) (pl : Int) (n : Int) (h14 : σ 14 0 = n) (hn : 0 ≤ n ∧ n < 48) : Met l yX3_adds (ws_ yX3_adds cX3_adds 5 none) (rmL 1 0 0) (MP D dA A o ad [.ref o, .int (iI kd), .int (iI n1), .int (iI n2), .int (iI pl)] σ) (MQv D dA A o ad (fun σ' => σ' = (su (su (su (su (su σ 10 n kd) 11 n n1) 12 n n2) 13 n pl) 14 0 (n + 1)))) 0 0 A := by
  refine z_ofW (by decide) rfl ?_
  intro pp ee s0 mm below meth cc0 ls C hret hname hl hH hS
  have hl : lv_has ls 5 [(0, .ref o), (1, .int (iI kd)), (2, .int (iI n1)), (3, .int (iI n2)), (4, .int (iI pl))] := hl
  refine z_aload_n C dX3_adds_0 hl 0 rfl ?_
  refine m_geta C hH 10 ⟨by decide, by decide⟩ q2195 rfl dX3_adds_1 ?_
  refine z_aload_n C dX3_adds_4 hl 0 rfl ?_
  refine m_getsZ C hH 14 ⟨by decide, by decide⟩ n (h14) q2199 rfl dX3_adds_5 ?_
  refine z_iload_n C dX3_adds_8 hl 1 rfl ?_
  refine m_iast C hk hH hS 10 ⟨by decide, by decide⟩ (show 0 ≤ n ∧ n < (48 : Int) by omega) dX3_adds_9 (fun H locs hH hS => ?_)
  refine z_aload_n C dX3_adds_10 hl 0 rfl ?_
  refine m_geta C hH 11 ⟨by decide, by decide⟩ q2196 rfl dX3_adds_11 ?_
  refine z_aload_n C dX3_adds_14 hl 0 rfl ?_
  refine m_getsZ C hH 14 ⟨by decide, by decide⟩ n (h14) q2199 rfl dX3_adds_15 ?_
  refine z_iload_n C dX3_adds_18 hl 2 rfl ?_
  refine m_iast C hk hH hS 11 ⟨by decide, by decide⟩ (show 0 ≤ n ∧ n < (48 : Int) by omega) dX3_adds_19 (fun H locs hH hS => ?_)
  refine z_aload_n C dX3_adds_20 hl 0 rfl ?_
  refine m_geta C hH 12 ⟨by decide, by decide⟩ q2197 rfl dX3_adds_21 ?_
  refine z_aload_n C dX3_adds_24 hl 0 rfl ?_
  refine m_getsZ C hH 14 ⟨by decide, by decide⟩ n (h14) q2199 rfl dX3_adds_25 ?_
  refine z_iload_n C dX3_adds_28 hl 3 rfl ?_
  refine m_iast C hk hH hS 12 ⟨by decide, by decide⟩ (show 0 ≤ n ∧ n < (48 : Int) by omega) dX3_adds_29 (fun H locs hH hS => ?_)
  refine z_aload_n C dX3_adds_30 hl 0 rfl ?_
  refine m_geta C hH 13 ⟨by decide, by decide⟩ q2198 rfl dX3_adds_31 ?_
  refine z_aload_n C dX3_adds_34 hl 0 rfl ?_
  refine m_getsZ C hH 14 ⟨by decide, by decide⟩ n (h14) q2199 rfl dX3_adds_35 ?_
  refine z_iload C dX3_adds_38 hl 4 rfl ?_
  refine m_iast C hk hH hS 13 ⟨by decide, by decide⟩ (show 0 ≤ n ∧ n < (48 : Int) by omega) dX3_adds_40 (fun H locs hH hS => ?_)
  refine z_aload_n C dX3_adds_41 hl 0 rfl ?_
  refine z_dup C dX3_adds_42 rfl ?_
  refine m_getsZ C hH 14 ⟨by decide, by decide⟩ n (h14) q2199 rfl dX3_adds_43 ?_
  refine z_iconst C dX3_adds_46 ?_
  refine z_iadd C dX3_adds_47 ?_
  refine m_puts C hH hS 14 ⟨by decide, by decide⟩ q2199 rfl ⟨rfl, rfl⟩ dX3_adds_48 (fun H locs hH hS => ?_)
  refine m_vret C hret hH hS dX3_adds_51 ?_
  rfl
set_option maxHeartbeats 1000000 in
theorem mm_least0 {l : Launch} {D : va_G} {dA : Nat → ClassId} {A : Nat → Prop} {o : Nat} {ad : Nat → Nat} (hk : mOk o ad) (σ : Sg) (a : Int) (h1 : -2147483648 ≤ a ∧ a < 2147483648) : Met l yX3_least0 (ws_ yX3_least0 cX3_least0 1 (some .int)) (rmL 1 0 0) (MP D dA A o ad [.int (iI a)] σ) (MQi D dA A o ad (fun r σ' => σ' = σ ∧ r = mx0 a)) 0 0 A := by
  refine z_ofW (by decide) rfl ?_
  intro pp ee s0 mm below meth cc0 ls C hret hname hl hH hS
  have hl : lv_has ls 1 [(0, .int (iI a))] := hl
  refine z_iload_n C dX3_least0_0 hl 0 rfl ?_
  refine z_ifge C dX3_least0_1 (tgt := 8) (by decide) ⟨by omega, by omega⟩ (fun c_1 => ?_) (fun c_1 => ?_)
  · refine z_iload_n C dX3_least0_8 hl 0 rfl ?_
    refine m_iret C hret hH hS dX3_least0_9 ?_
    refine ⟨rfl, ?_⟩
    unfold mx0
    first | rw [if_pos (by omega)] | rw [if_neg (by omega)]
  · refine z_iconst C dX3_least0_4 ?_
    refine z_goto C dX3_least0_5 (tgt := 9) (by decide) ?_
    refine m_iret C hret hH hS dX3_least0_9 ?_
    refine ⟨rfl, ?_⟩
    unfold mx0
    first | rw [if_pos (by omega)] | rw [if_neg (by omega)]
set_option maxHeartbeats 1000000 in
theorem mm_numberBits {l : Launch} {D : va_G} {dA : Nat → ClassId} {A : Nat → Prop} {o : Nat} {ad : Nat → Nat} (hk : mOk o ad) (σ : Sg) (n : Int) (h1 : -2147483648 ≤ n ∧ n < 2147483648) : Met l yX3_numberBits (ws_ yX3_numberBits cX3_numberBits 1 (some .int)) (rmL 1 0 0) (MP D dA A o ad [.int (iI n)] σ) (MQi D dA A o ad (fun r σ' => σ' = σ ∧ r = nbt n)) 0 0 A := by
  refine z_ofW (by decide) rfl ?_
  intro pp ee s0 mm below meth cc0 ls C hret hname hl hH hS
  have hl : lv_has ls 1 [(0, .int (iI n))] := hl
  refine z_iload_n C dX3_numberBits_0 hl 0 rfl ?_
  refine z_bipush C dX3_numberBits_1 (by decide +kernel) ?_
  refine z_icmpge C dX3_numberBits_3 (tgt := 10) (by decide) ⟨⟨by omega, by omega⟩, ⟨by omega, by omega⟩⟩ (fun c_3 => ?_) (fun c_3 => ?_)
  · refine z_bipush C dX3_numberBits_10 (by decide +kernel) ?_
    refine m_iret C hret hH hS dX3_numberBits_12 ?_
    refine ⟨rfl, ?_⟩
    unfold nbt
    first | rw [if_pos (by omega)] | rw [if_neg (by omega)]
  · refine z_iconst C dX3_numberBits_6 ?_
    refine z_goto C dX3_numberBits_7 (tgt := 12) (by decide) ?_
    refine m_iret C hret hH hS dX3_numberBits_12 ?_
    refine ⟨rfl, ?_⟩
    unfold nbt
    first | rw [if_pos (by omega)] | rw [if_neg (by omega)]
set_option maxHeartbeats 1000000 in
theorem mm_codes {l : Launch} {D : va_G} {dA : Nat → ClassId} {A : Nat → Prop} {o : Nat} {ad : Nat → Nat} (hk : mOk o ad) (σ : Sg) (w : Int) (u : Int → Int) (lo : Int → Int) (hw : 1 ≤ w ∧ w ≤ 40) (h9 : σ 9 0 = w) (hu : ∀ j, 0 ≤ j → j < w → σ 7 j = u j) (hlo : ∀ j, 0 ≤ j → j < w → σ 8 j = lo j) (hbu : ∀ j, u j = 0 ∨ u j = 1) (hbl : ∀ j, lo j = 0 ∨ lo j = 1) : Met l yX3_codes (ws_ yX3_codes cX3_codes 7 none) (rmL 3 0 0) (MP D dA A o ad [.ref o] σ) (MQv D dA A o ad (fun σ' => MdsAt σ' (cds u lo w (-1) 0) ∧ Fr [10, 11, 12, 13, 14] σ σ')) 0 0 A := by
  refine z_ofW (by decide) rfl ?_
  intro pp ee s0 mm below meth cc0 ls C hret hname hl hH hS
  have hl : lv_has ls 7 [(0, .ref o)] := hl
  refine z_aload_n C dX3_codes_0 hl 0 rfl ?_
  refine z_iconst C dX3_codes_1 ?_
  refine m_puts C hH hS 14 ⟨by decide, by decide⟩ q2199 rfl ⟨rfl, rfl⟩ dX3_codes_2 (fun H locs hH hS => ?_)
  refine z_iconst C dX3_codes_5 ?_
  refine z_istore_n C [(1, .int (iI ((-1)))), (0, .ref o)] dX3_codes_6 hl (by decide) rfl (fun ls hl => ?_)
  refine z_iconst C dX3_codes_7 ?_
  refine z_istore_n C [(2, .int (iI 0)), (1, .int (iI ((-1)))), (0, .ref o)] dX3_codes_8 hl (by decide) rfl (fun ls hl => ?_)
  have J_9 : ∀ (n : Nat) (a : Int) (c : Int) (s1 : Sg) (pre : List Md), (w - a).toNat < n → (-1 ≤ a ∧ a ≤ w) → (0 ≤ c ∧ c ≤ 1) → (Fr [10, 11, 12, 13, 14] σ s1) → (MdsAt s1 pre) → (pre ++ cds u lo w a c = cds u lo w (-1) 0) → ((pre.length : Int) ≤ a + 1) → ∀ (H : Heap) (locs : List Loc) (ls : Array Slot), MH D dA A o ad s1 H → va_S A s0.heap H locs → lv_has ls 7 [(0, .ref o), (1, .int (iI a)), (2, .int (iI c))] → W pp l ee (rmL 3 0 0) s0 mm ([.ref o] : List Value).toArray below meth cc0 H locs 0 0 (MQ below (MQv D dA A o ad (fun σ' => MdsAt σ' (cds u lo w (-1) 0) ∧ Fr [10, 11, 12, 13, 14] σ σ')) ([.ref o] : List Value).toArray s0 0 0 A) (F0 mm 9 ls []) := by
    intro n
    induction n with
    | zero => intro a c s1 pre hn; exact absurd hn (Nat.not_lt_zero _)
    | succ n ih_9 =>
      intro a c s1 pre hn ha hc hf hm hp hlen H locs ls hH hS hl
      have g9 : s1 9 0 = w := by rw [hf 9 (by decide)]; exact h9
      have g7 : ∀ j, 0 ≤ j → j < w → s1 7 j = u j := by rw [hf 7 (by decide)]; exact hu
      have g8 : ∀ j, 0 ≤ j → j < w → s1 8 j = lo j := by rw [hf 8 (by decide)]; exact hlo
      have g14 := hm.1
      refine z_iload_n C dX3_codes_9 hl 1 rfl ?_
      refine z_aload_n C dX3_codes_10 hl 0 rfl ?_
      refine m_getsZ C hH 9 ⟨by decide, by decide⟩ w (by first | exact h9 | exact g9 | exact (Fr.su (L := [14]) (s := σ) (k := 14) (i := 0) (v := 0) rfl 9 (by decide) ▸ h9)) q2194 rfl dX3_codes_11 ?_
      refine z_icmpeq C dX3_codes_14 (tgt := 159) (by decide) ⟨⟨by omega, by omega⟩, ⟨by omega, by omega⟩⟩ (fun c_14 => ?_) (fun c_14 => ?_)
      · refine m_vret C hret hH hS dX3_codes_159 ?_
        have ha9 : a = w := by omega
        subst ha9
        rw [cds_end, List.append_nil] at hp
        subst hp
        exact ⟨hm, hf⟩
      · refine z_aload_n C dX3_codes_17 hl 0 rfl ?_
        refine z_iload_n C dX3_codes_18 hl 1 rfl ?_
        refine z_iconst C dX3_codes_19 ?_
        refine z_iload_n C dX3_codes_20 hl 2 rfl ?_
        refine z_isub C dX3_codes_21 ?_
        refine m_ViF C hH hS (mm_dotBehind hk s1 a (1 - c) w lo (by omega) (by omega) (by omega) (g9) (g8) (hbl)) (cwV 2 C.1.2.2.2.2 (lw_V q2367 q2369 qs54 q133 q2370) rfl rfl rfl (by decide +kernel) ⟨Nat.le_of_ble_eq_true rfl, Nat.le_of_ble_eq_true rfl⟩) rfl hl rfl (Nat.le_of_ble_eq_true rfl) dX3_codes_22 ⟨Nat.le_refl _, Nat.le_refl _⟩ (fun H locs hH hS => ?_)
        refine z_topi (fun t ht => ?_)
        have t1 := fnd_ge lo (1 - c) w (a + 1)
        have t2 := fnd_le lo (1 - c) (w := w) (i := a + 1) (by omega)
        refine z_istore_n C [(3, .int (iI t)), (0, .ref o), (1, .int (iI a)), (2, .int (iI c))] dX3_codes_25 hl (by decide) rfl (fun ls hl => ?_)
        refine z_aload_n C dX3_codes_26 hl 1 rfl ?_
        refine z_iload_n C dX3_codes_27 hl 2 rfl ?_
        refine z_iload_n C dX3_codes_28 hl 3 rfl ?_
        refine m_ViF C hH hS (mm_changeBehind hk s1 a c w u (by omega) (by omega) (by omega) (g9) (g7) (hbu)) (cwV 2 C.1.2.2.2.2 (lw_V q2371 q2373 qs55 q133 q2374) rfl rfl rfl (by decide +kernel) ⟨Nat.le_of_ble_eq_true rfl, Nat.le_of_ble_eq_true rfl⟩) rfl hl rfl (Nat.le_of_ble_eq_true rfl) dX3_codes_29 ⟨Nat.le_refl _, Nat.le_refl _⟩ (fun H locs hH hS => ?_)
        refine z_topi (fun b hb => ?_)
        have b1 := chg_ge u c w (a + 1)
        have b2 := chg_le u c (w := w) (i := a + 1) (by omega)
        refine z_istore C [(4, .int (iI b)), (3, .int (iI t)), (0, .ref o), (1, .int (iI a)), (2, .int (iI c))] dX3_codes_32 hl (by decide) rfl (fun ls hl => ?_)
        have J_59 : ∀ (d : Int), (d = if b = w then w else chg u 2 w (b + 1)) → (b ≤ d ∧ d ≤ w) → ∀ (H : Heap) (locs : List Loc) (ls : Array Slot), MH D dA A o ad s1 H → va_S A s0.heap H locs → lv_has ls 7 [(5, .int (iI d)), (4, .int (iI b)), (3, .int (iI t)), (0, .ref o), (1, .int (iI a)), (2, .int (iI c))] → W pp l ee (rmL 3 0 0) s0 mm ([.ref o] : List Value).toArray below meth cc0 H locs 0 0 (MQ below (MQv D dA A o ad (fun σ' => MdsAt σ' (cds u lo w (-1) 0) ∧ Fr [10, 11, 12, 13, 14] σ σ')) ([.ref o] : List Value).toArray s0 0 0 A) (F0 mm 59 ls []) := by
          intro d hd hd2 H locs ls hH hS hl
          refine z_iload C dX3_codes_59 hl 0 rfl ?_
          refine z_iload_n C dX3_codes_61 hl 2 rfl ?_
          refine z_icmpge C dX3_codes_62 (tgt := 80) (by decide) ⟨⟨by omega, by omega⟩, ⟨by omega, by omega⟩⟩ (fun c_62 => ?_) (fun c_62 => ?_)
          · refine z_iload_n C dX3_codes_80 hl 2 rfl ?_
            refine z_iload C dX3_codes_81 hl 1 rfl ?_
            refine z_isub C dX3_codes_83 ?_
            refine z_bipush C dX3_codes_84 (by decide +kernel) ?_
            refine z_iconst C dX3_codes_86 ?_
            refine m_SiF C hH hS (mm_in hk s1 (t - b) ((-3)) 3 (⟨by omega, by omega⟩) (⟨by omega, by omega⟩) (⟨by omega, by omega⟩)) (va_cwS 3 C.1.2.2.2.2 (lw_S q2321 q2322 q133 q2323) rfl rfl rfl (by decide +kernel) ⟨Nat.le_of_ble_eq_true rfl, Nat.le_of_ble_eq_true rfl⟩) rfl hl rfl (Nat.le_of_ble_eq_true rfl) dX3_codes_87 ⟨Nat.le_refl _, Nat.le_refl _⟩ (fun H locs hH hS => ?_)
            refine z_topi (fun z hz => ?_)
            refine z_ifeq C dX3_codes_90 (tgt := 113) (by decide) ⟨by rw [hz]; split <;> omega, by rw [hz]; split <;> omega⟩ (fun c_90 => ?_) (fun c_90 => ?_)
            · have J_136 : ∀ (f : Int), (f = if t = w then w else fnd lo c w (t + 1)) → (t ≤ f ∧ f ≤ w ∧ a < f) → ∀ (H : Heap) (locs : List Loc) (ls : Array Slot), MH D dA A o ad s1 H → va_S A s0.heap H locs → lv_has ls 7 [(6, .int (iI f)), (5, .int (iI d)), (4, .int (iI b)), (3, .int (iI t)), (0, .ref o), (1, .int (iI a)), (2, .int (iI c))] → W pp l ee (rmL 3 0 0) s0 mm ([.ref o] : List Value).toArray below meth cc0 H locs 0 0 (MQ below (MQv D dA A o ad (fun σ' => MdsAt σ' (cds u lo w (-1) 0) ∧ Fr [10, 11, 12, 13, 14] σ σ')) ([.ref o] : List Value).toArray s0 0 0 A) (F0 mm 136 ls []) := by
                intro f hff hf2 H locs ls hH hS hl
                refine z_aload_n C dX3_codes_136 hl 4 rfl ?_
                refine z_iconst C dX3_codes_137 ?_
                refine z_iload_n C dX3_codes_138 hl 3 rfl ?_
                refine z_iload_n C dX3_codes_139 hl 5 rfl ?_
                refine m_SiF C hH hS (mm_least0 hk s1 a (by omega)) (va_cwS 1 C.1.2.2.2.2 (lw_S q2383 q2384 q133 q2385) rfl rfl rfl (by decide +kernel) ⟨Nat.le_of_ble_eq_true rfl, Nat.le_of_ble_eq_true rfl⟩) rfl hl rfl (Nat.le_of_ble_eq_true rfl) dX3_codes_140 ⟨Nat.le_refl _, Nat.le_refl _⟩ (fun H locs hH hS => ?_)
                refine z_isub C dX3_codes_143 ?_
                refine z_iload C dX3_codes_144 hl 0 rfl ?_
                refine z_iload_n C dX3_codes_146 hl 3 rfl ?_
                refine z_isub C dX3_codes_147 ?_
                refine z_iload C dX3_codes_148 hl 0 rfl ?_
                refine m_VvF C hH hS (mm_adds hk s1 2 (t - (mx0 a)) (f - t) f ((pre.length : Int)) (g14) (by omega)) (cwV 4 C.1.2.2.2.2 (lw_V q2379 q2381 qs57 q133 q2382) rfl rfl rfl (by decide +kernel) ⟨Nat.le_of_ble_eq_true rfl, Nat.le_of_ble_eq_true rfl⟩) rfl hl rfl (Nat.le_of_ble_eq_true rfl) dX3_codes_150 ⟨Nat.le_refl _, Nat.le_refl _⟩ (fun H locs hH hS => ?_)
                refine z_iload C dX3_codes_153 hl 0 rfl ?_
                refine z_istore_n C [(1, .int (iI f)), (6, .int (iI f)), (5, .int (iI d)), (4, .int (iI b)), (3, .int (iI t)), (0, .ref o), (2, .int (iI c))] dX3_codes_155 hl (by decide) rfl (fun ls hl => ?_)
                refine z_goto C dX3_codes_156 (tgt := 9) (by decide) ?_
                exact ih_9 f c ((su (su (su (su (su s1 10 ((pre.length : Int)) 2) 11 ((pre.length : Int)) (t - (mx0 a))) 12 ((pre.length : Int)) (f - t)) 13 ((pre.length : Int)) f) 14 0 (((pre.length : Int)) + 1))) ((pre ++ [((2, t - mx0 a, f - t, f) : Md)])) (by omega) (by omega) (by omega) (frSu (frSu (frSu (frSu (frSu hf rfl) rfl) rfl) rfl) rfl) (hm.add _ _ _ _) (by rw [List.append_assoc, List.singleton_append, ← hp, cds_go u lo c (show a < w by omega), nMd_H ht hb hd (by omega) (by rw [hz] at c_90; split at c_90 <;> omega) hff]; rfl) (by rw [List.length_append]; simp; omega) _ _ _ hH hS (lv_sub hl [5, 0, 6] rfl)
              refine z_iload_n C dX3_codes_113 hl 2 rfl ?_
              refine z_aload_n C dX3_codes_114 hl 3 rfl ?_
              refine m_getsZ C hH 9 ⟨by decide, by decide⟩ w (by first | exact h9 | exact g9 | exact (Fr.su (L := [14]) (s := σ) (k := 14) (i := 0) (v := 0) rfl 9 (by decide) ▸ h9)) q2194 rfl dX3_codes_115 ?_
              refine z_icmpne C dX3_codes_118 (tgt := 128) (by decide) ⟨⟨by omega, by omega⟩, ⟨by omega, by omega⟩⟩ (fun c_118 => ?_) (fun c_118 => ?_)
              · refine z_aload_n C dX3_codes_128 hl 3 rfl ?_
                refine z_iload_n C dX3_codes_129 hl 2 rfl ?_
                refine z_iload_n C dX3_codes_130 hl 5 rfl ?_
                refine m_ViF C hH hS (mm_dotBehind hk s1 t c w lo (by omega) (by omega) (by omega) (g9) (g8) (hbl)) (cwV 2 C.1.2.2.2.2 (lw_V q2367 q2369 qs54 q133 q2370) rfl rfl rfl (by decide +kernel) ⟨Nat.le_of_ble_eq_true rfl, Nat.le_of_ble_eq_true rfl⟩) rfl hl rfl (Nat.le_of_ble_eq_true rfl) dX3_codes_131 ⟨Nat.le_refl _, Nat.le_refl _⟩ (fun H locs hH hS => ?_)
                have f1 := fnd_ge lo c w (t + 1)
                have f2 := fnd_le lo c (w := w) (i := t + 1) (by omega)
                refine z_istore C [(6, .int (iI (fnd lo c w (t + 1)))), (5, .int (iI d)), (4, .int (iI b)), (3, .int (iI t)), (0, .ref o), (1, .int (iI a)), (2, .int (iI c))] dX3_codes_134 hl (by decide) rfl (fun ls hl => ?_)
                exact J_136 ((fnd lo c w (t + 1))) (by first | rw [if_pos (by omega)] | rw [if_neg (by omega)]) (by omega) _ _ _ hH hS (lv_sub hl [0, 1, 2, 3, 4, 5, 6] rfl)
              · refine z_aload_n C dX3_codes_121 hl 3 rfl ?_
                refine m_getsZ C hH 9 ⟨by decide, by decide⟩ w (by first | exact h9 | exact g9 | exact (Fr.su (L := [14]) (s := σ) (k := 14) (i := 0) (v := 0) rfl 9 (by decide) ▸ h9)) q2194 rfl dX3_codes_122 ?_
                refine z_goto C dX3_codes_125 (tgt := 134) (by decide) ?_
                refine z_istore C [(6, .int (iI w)), (5, .int (iI d)), (4, .int (iI b)), (3, .int (iI t)), (0, .ref o), (1, .int (iI a)), (2, .int (iI c))] dX3_codes_134 hl (by decide) rfl (fun ls hl => ?_)
                exact J_136 w (by first | rw [if_pos (by omega)] | rw [if_neg (by omega)]) (by omega) _ _ _ hH hS (lv_sub hl [0, 1, 2, 3, 4, 5, 6] rfl)
            · refine z_aload_n C dX3_codes_93 hl 3 rfl ?_
              refine z_iconst C dX3_codes_94 ?_
              refine z_iload_n C dX3_codes_95 hl 2 rfl ?_
              refine z_iload C dX3_codes_96 hl 1 rfl ?_
              refine z_isub C dX3_codes_98 ?_
              refine z_iconst C dX3_codes_99 ?_
              refine z_iload_n C dX3_codes_100 hl 2 rfl ?_
              refine m_VvF C hH hS (mm_adds hk s1 1 (t - b) 0 t ((pre.length : Int)) (g14) (by omega)) (cwV 4 C.1.2.2.2.2 (lw_V q2379 q2381 qs57 q133 q2382) rfl rfl rfl (by decide +kernel) ⟨Nat.le_of_ble_eq_true rfl, Nat.le_of_ble_eq_true rfl⟩) rfl hl rfl (Nat.le_of_ble_eq_true rfl) dX3_codes_101 ⟨Nat.le_refl _, Nat.le_refl _⟩ (fun H locs hH hS => ?_)
              refine z_iload_n C dX3_codes_104 hl 2 rfl ?_
              refine z_istore_n C [(1, .int (iI t)), (5, .int (iI d)), (4, .int (iI b)), (3, .int (iI t)), (0, .ref o), (2, .int (iI c))] dX3_codes_105 hl (by decide) rfl (fun ls hl => ?_)
              refine z_iconst C dX3_codes_106 ?_
              refine z_iload_n C dX3_codes_107 hl 5 rfl ?_
              refine z_isub C dX3_codes_108 ?_
              refine z_istore_n C [(2, .int (iI (1 - c))), (1, .int (iI t)), (5, .int (iI d)), (4, .int (iI b)), (3, .int (iI t)), (0, .ref o)] dX3_codes_109 hl (by decide) rfl (fun ls hl => ?_)
              refine z_goto C dX3_codes_110 (tgt := 156) (by decide) ?_
              refine z_goto C dX3_codes_156 (tgt := 9) (by decide) ?_
              exact ih_9 t ((1 - c)) ((su (su (su (su (su s1 10 ((pre.length : Int)) 1) 11 ((pre.length : Int)) (t - b)) 12 ((pre.length : Int)) 0) 13 ((pre.length : Int)) t) 14 0 (((pre.length : Int)) + 1))) ((pre ++ [((1, t - b, 0, t) : Md)])) (by omega) (by omega) (by omega) (frSu (frSu (frSu (frSu (frSu hf rfl) rfl) rfl) rfl) rfl) (hm.add _ _ _ _) (by rw [List.append_assoc, List.singleton_append, ← hp, cds_go u lo c (show a < w by omega), nMd_V ht hb hd (by omega) (by rw [hz] at c_90; split at c_90 <;> omega)]; rfl) (by rw [List.length_append]; simp; omega) _ _ _ hH hS (lv_sub hl [5, 1, 0] rfl)
          · refine z_aload_n C dX3_codes_65 hl 3 rfl ?_
            refine z_iconst C dX3_codes_66 ?_
            refine z_iconst C dX3_codes_67 ?_
            refine z_iconst C dX3_codes_68 ?_
            refine z_iload C dX3_codes_69 hl 0 rfl ?_
            refine m_VvF C hH hS (mm_adds hk s1 0 0 0 d ((pre.length : Int)) (g14) (by omega)) (cwV 4 C.1.2.2.2.2 (lw_V q2379 q2381 qs57 q133 q2382) rfl rfl rfl (by decide +kernel) ⟨Nat.le_of_ble_eq_true rfl, Nat.le_of_ble_eq_true rfl⟩) rfl hl rfl (Nat.le_of_ble_eq_true rfl) dX3_codes_71 ⟨Nat.le_refl _, Nat.le_refl _⟩ (fun H locs hH hS => ?_)
            refine z_iload C dX3_codes_74 hl 0 rfl ?_
            refine z_istore_n C [(1, .int (iI d)), (5, .int (iI d)), (4, .int (iI b)), (3, .int (iI t)), (0, .ref o), (2, .int (iI c))] dX3_codes_76 hl (by decide) rfl (fun ls hl => ?_)
            refine z_goto C dX3_codes_77 (tgt := 156) (by decide) ?_
            refine z_goto C dX3_codes_156 (tgt := 9) (by decide) ?_
            exact ih_9 d c ((su (su (su (su (su s1 10 ((pre.length : Int)) 0) 11 ((pre.length : Int)) 0) 12 ((pre.length : Int)) 0) 13 ((pre.length : Int)) d) 14 0 (((pre.length : Int)) + 1))) ((pre ++ [((0, 0, 0, d) : Md)])) (by omega) (by omega) (by omega) (frSu (frSu (frSu (frSu (frSu hf rfl) rfl) rfl) rfl) rfl) (hm.add _ _ _ _) (by rw [List.append_assoc, List.singleton_append, ← hp, cds_go u lo c (show a < w by omega), nMd_P ht hb hd (by omega)]; rfl) (by rw [List.length_append]; simp; omega) _ _ _ hH hS (lv_sub hl [4, 0, 5] rfl)
        refine z_iload C dX3_codes_34 hl 0 rfl ?_
        refine z_aload_n C dX3_codes_36 hl 2 rfl ?_
        refine m_getsZ C hH 9 ⟨by decide, by decide⟩ w (by first | exact h9 | exact g9 | exact (Fr.su (L := [14]) (s := σ) (k := 14) (i := 0) (v := 0) rfl 9 (by decide) ▸ h9)) q2194 rfl dX3_codes_37 ?_
        refine z_icmpne C dX3_codes_40 (tgt := 50) (by decide) ⟨⟨by omega, by omega⟩, ⟨by omega, by omega⟩⟩ (fun c_40 => ?_) (fun c_40 => ?_)
        · refine z_aload_n C dX3_codes_50 hl 2 rfl ?_
          refine z_iload C dX3_codes_51 hl 0 rfl ?_
          refine z_iconst C dX3_codes_53 ?_
          refine m_ViF C hH hS (mm_changeBehind hk s1 b 2 w u (by omega) (by omega) (by omega) (g9) (g7) (hbu)) (cwV 2 C.1.2.2.2.2 (lw_V q2371 q2373 qs55 q133 q2374) rfl rfl rfl (by decide +kernel) ⟨Nat.le_of_ble_eq_true rfl, Nat.le_of_ble_eq_true rfl⟩) rfl hl rfl (Nat.le_of_ble_eq_true rfl) dX3_codes_54 ⟨Nat.le_refl _, Nat.le_refl _⟩ (fun H locs hH hS => ?_)
          have d1 := chg_ge u 2 w (b + 1)
          have d2 := chg_le u 2 (w := w) (i := b + 1) (by omega)
          refine z_istore C [(5, .int (iI (chg u 2 w (b + 1)))), (4, .int (iI b)), (3, .int (iI t)), (0, .ref o), (1, .int (iI a)), (2, .int (iI c))] dX3_codes_57 hl (by decide) rfl (fun ls hl => ?_)
          exact J_59 ((chg u 2 w (b + 1))) (by first | rw [if_pos (by omega)] | rw [if_neg (by omega)]) (by omega) _ _ _ hH hS (lv_sub hl [0, 1, 2, 3, 4, 5] rfl)
        · refine z_aload_n C dX3_codes_43 hl 2 rfl ?_
          refine m_getsZ C hH 9 ⟨by decide, by decide⟩ w (by first | exact h9 | exact g9 | exact (Fr.su (L := [14]) (s := σ) (k := 14) (i := 0) (v := 0) rfl 9 (by decide) ▸ h9)) q2194 rfl dX3_codes_44 ?_
          refine z_goto C dX3_codes_47 (tgt := 57) (by decide) ?_
          refine z_istore C [(5, .int (iI w)), (4, .int (iI b)), (3, .int (iI t)), (0, .ref o), (1, .int (iI a)), (2, .int (iI c))] dX3_codes_57 hl (by decide) rfl (fun ls hl => ?_)
          exact J_59 w (by first | rw [if_pos (by omega)] | rw [if_neg (by omega)]) (by omega) _ _ _ hH hS (lv_sub hl [0, 1, 2, 3, 4, 5] rfl)
  exact J_9 _ (((-1))) 0 ((su σ 14 0 0)) ([]) (Nat.lt_succ_self _) (by omega) (by omega) (Fr.su rfl) (⟨by rw [su_self]; rfl, fun k h0 h1 => absurd h1 (by simp; omega)⟩) (rfl) (by simp) _ _ _ hH hS (lv_sub hl [2, 1, 0] rfl)
