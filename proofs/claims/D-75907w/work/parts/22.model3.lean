/-! the reference's methods, 3 (written by gen/model3.py) -/
set_option maxRecDepth 100000
set_option maxHeartbeats 1000000 in
theorem mm_codeBits {l : Launch} {D : va_G} {dA : Nat → ClassId} {A : Nat → Prop} {o : Nat} {ad : Nat → Nat} (hOk : mOk o ad) (σ : Sg) (w : Int) (L : List Md) (hw : 0 ≤ w ∧ w ≤ 40) (hm : MdsAt σ L) (hL : ∀ m ∈ L, MdOk w m) (hlen : (L.length : Int) ≤ 41) : Met l yX3_codeBits (ws_ yX3_codeBits cX3_codeBits 4 (some .int)) (rmL 2 0 0) (MP D dA A o ad [.ref o] σ) (MQi D dA A o ad (fun r σ' => σ' = σ ∧ r = sumM L)) 0 0 A := by
  refine z_ofW (by decide) rfl ?_
  intro pp ee s0 mm below meth cc0 ls C hret hname hl hH hS
  have hl : lv_has ls 4 [(0, .ref o)] := hl
  refine z_iconst C dX3_codeBits_0 ?_
  refine z_istore_n C [(1, .int (iI 0)), (0, .ref o)] dX3_codeBits_1 hl (by decide) rfl (fun ls hl => ?_)
  refine z_iconst C dX3_codeBits_2 ?_
  refine z_istore_n C [(2, .int (iI 0)), (1, .int (iI 0)), (0, .ref o)] dX3_codeBits_3 hl (by decide) rfl (fun ls hl => ?_)
  have J_4 : ∀ (fu : Nat) (t : Int) (k : Int), ((L.length : Int) - k).toNat < fu → (0 ≤ k ∧ k ≤ (L.length : Int)) → (t = sumM (L.take k.toNat)) → ∀ (H : Heap) (locs : List Loc) (ls : Array Slot), MH D dA A o ad σ H → va_S A s0.heap H locs → lv_has ls 4 [(0, .ref o), (1, .int (iI t)), (2, .int (iI k))] → W pp l ee (rmL 2 0 0) s0 mm ([.ref o] : List Value).toArray below meth cc0 H locs 0 0 (MQ below (MQi D dA A o ad (fun r σ' => σ' = σ ∧ r = sumM L)) ([.ref o] : List Value).toArray s0 0 0 A) (F0 mm 4 ls []) := by
    intro fu
    induction fu with
    | zero => intro t k hn; exact absurd hn (Nat.not_lt_zero _)
    | succ fu ih_4 =>
      intro t k hn hk ht H locs ls hH hS hl
      refine z_iload_n C dX3_codeBits_4 hl 2 rfl ?_
      refine z_aload_n C dX3_codeBits_5 hl 0 rfl ?_
      refine m_getsZ C hH 14 ⟨by decide, by decide⟩ ((L.length : Int)) (hm.1) q2199 rfl dX3_codeBits_6 ?_
      refine z_icmpge C dX3_codeBits_9 (tgt := 123) (by decide) ⟨⟨by omega, by omega⟩, ⟨by omega, by omega⟩⟩ (fun c_9 => ?_) (fun c_9 => ?_)
      · refine z_iload_n C dX3_codeBits_123 hl 1 rfl ?_
        refine m_iret C hret hH hS dX3_codeBits_124 ?_
        refine ⟨rfl, ?_⟩
        rw [ht, take_all_M (by omega)]
      · have e := hm.2 k hk.1 (by omega)
        have ok := hL _ (gM_mem hk.1 (show k < (L.length : Int) by omega))
        obtain ⟨e10, e11, e12, e13⟩ := e
        obtain ⟨o1, o2, o3, o4, o5, o6, o7, o8, o9⟩ := ok
        refine z_aload_n C dX3_codeBits_12 hl 0 rfl ?_
        refine m_geta C hH 11 ⟨by decide, by decide⟩ q2196 rfl dX3_codeBits_13 ?_
        refine z_iload_n C dX3_codeBits_16 hl 2 rfl ?_
        refine m_ialdZ C hOk hH 11 ⟨by decide, by decide⟩ k ((gM L k).2.1) (e11) (show 0 ≤ k ∧ k < (48 : Int) by omega) dX3_codeBits_17 ?_
        have J_37 : ∀ (n : Int), (n = if (gM L k).2.1 < 0 then -(gM L k).2.1 else (gM L k).2.1) → ∀ (H : Heap) (locs : List Loc) (ls : Array Slot), MH D dA A o ad σ H → va_S A s0.heap H locs → lv_has ls 4 [(2, .int (iI k)), (0, .ref o), (1, .int (iI t))] → W pp l ee (rmL 2 0 0) s0 mm ([.ref o] : List Value).toArray below meth cc0 H locs 0 0 (MQ below (MQi D dA A o ad (fun r σ' => σ' = σ ∧ r = sumM L)) ([.ref o] : List Value).toArray s0 0 0 A) (F0 mm 37 ls [.int (iI n)]) := by
          intro n hn H locs ls hH hS hl
          refine z_istore_n C [(3, .int (iI n)), (2, .int (iI k)), (0, .ref o), (1, .int (iI t))] dX3_codeBits_37 hl (by decide) rfl (fun ls hl => ?_)
          have J_115 : ∀ (v : Int), (v = mbt (gM L k)) → ∀ (H : Heap) (locs : List Loc) (ls : Array Slot), MH D dA A o ad σ H → va_S A s0.heap H locs → lv_has ls 4 [(3, .int (iI n)), (2, .int (iI k)), (0, .ref o), (1, .int (iI t))] → W pp l ee (rmL 2 0 0) s0 mm ([.ref o] : List Value).toArray below meth cc0 H locs 0 0 (MQ below (MQi D dA A o ad (fun r σ' => σ' = σ ∧ r = sumM L)) ([.ref o] : List Value).toArray s0 0 0 A) (F0 mm 115 ls [.int (iI v), .int (iI t)]) := by
            intro v hv H locs ls hH hS hl
            refine z_iadd C dX3_codeBits_115 ?_
            refine z_istore_n C [(1, .int (iI (t + v))), (3, .int (iI n)), (2, .int (iI k)), (0, .ref o)] dX3_codeBits_116 hl (by decide) rfl (fun ls hl => ?_)
            refine z_iinc C [(2, .int (iI (k + 1))), (1, .int (iI (t + v))), (3, .int (iI n)), (0, .ref o)] dX3_codeBits_117 hl 2 rfl (by decide) rfl (fun ls hl => ?_)
            refine z_goto C dX3_codeBits_120 (tgt := 4) (by decide) ?_
            exact ih_4 ((t + v)) ((k + 1)) (by omega) (by omega) (by rw [sumM_take hk.1 (by omega), ← ht, hv]) _ _ _ hH hS (lv_sub hl [3, 1, 0] rfl)
          refine z_iload_n C dX3_codeBits_38 hl 3 rfl ?_
          refine z_aload_n C dX3_codeBits_39 hl 2 rfl ?_
          refine m_geta C hH 10 ⟨by decide, by decide⟩ q2195 rfl dX3_codeBits_40 ?_
          refine z_iload_n C dX3_codeBits_43 hl 1 rfl ?_
          refine m_ialdZ C hOk hH 10 ⟨by decide, by decide⟩ k ((gM L k).1) (e10) (show 0 ≤ k ∧ k < (48 : Int) by omega) dX3_codeBits_44 ?_
          refine z_ifne C dX3_codeBits_45 (tgt := 52) (by decide) ⟨by omega, by omega⟩ (fun c_45 => ?_) (fun c_45 => ?_)
          · refine z_aload_n C dX3_codeBits_52 hl 2 rfl ?_
            refine m_geta C hH 10 ⟨by decide, by decide⟩ q2195 rfl dX3_codeBits_53 ?_
            refine z_iload_n C dX3_codeBits_56 hl 1 rfl ?_
            refine m_ialdZ C hOk hH 10 ⟨by decide, by decide⟩ k ((gM L k).1) (e10) (show 0 ≤ k ∧ k < (48 : Int) by omega) dX3_codeBits_57 ?_
            refine z_iconst C dX3_codeBits_58 ?_
            refine z_icmpne C dX3_codeBits_59 (tgt := 86) (by decide) ⟨⟨by omega, by omega⟩, ⟨by omega, by omega⟩⟩ (fun c_59 => ?_) (fun c_59 => ?_)
            · refine z_iload_n C dX3_codeBits_86 hl 0 rfl ?_
              refine z_ifne C dX3_codeBits_87 (tgt := 94) (by decide) ⟨by omega, by omega⟩ (fun c_87 => ?_) (fun c_87 => ?_)
              · refine z_iload_n C dX3_codeBits_94 hl 0 rfl ?_
                refine z_iconst C dX3_codeBits_95 ?_
                refine z_icmpne C dX3_codeBits_96 (tgt := 103) (by decide) ⟨⟨by omega, by omega⟩, ⟨by omega, by omega⟩⟩ (fun c_96 => ?_) (fun c_96 => ?_)
                · refine z_iload_n C dX3_codeBits_103 hl 0 rfl ?_
                  refine z_iconst C dX3_codeBits_104 ?_
                  refine z_icmpne C dX3_codeBits_105 (tgt := 113) (by decide) ⟨⟨by omega, by omega⟩, ⟨by omega, by omega⟩⟩ (fun c_105 => ?_) (fun c_105 => ?_)
                  · refine z_bipush C dX3_codeBits_113 (by decide +kernel) ?_
                    exact J_115 7 (by unfold mbt; first | (rw [if_pos (by omega)]; done) | (rw [if_neg (by omega), if_pos (by omega)]; done) | (rw [if_neg (by omega), if_neg (by omega), ← hn, if_pos (by omega)]; done) | (rw [if_neg (by omega), if_neg (by omega), ← hn, if_neg (by omega), if_pos (by omega)]; done) | (rw [if_neg (by omega), if_neg (by omega), ← hn, if_neg (by omega), if_neg (by omega), if_pos (by omega)]; done) | (rw [if_neg (by omega), if_neg (by omega), ← hn, if_neg (by omega), if_neg (by omega), if_neg (by omega)]; done)) _ _ _ hH hS (lv_sub hl [0, 1, 2, 3] rfl)
                  · refine z_bipush C dX3_codeBits_108 (by decide +kernel) ?_
                    refine z_goto C dX3_codeBits_110 (tgt := 115) (by decide) ?_
                    exact J_115 6 (by unfold mbt; first | (rw [if_pos (by omega)]; done) | (rw [if_neg (by omega), if_pos (by omega)]; done) | (rw [if_neg (by omega), if_neg (by omega), ← hn, if_pos (by omega)]; done) | (rw [if_neg (by omega), if_neg (by omega), ← hn, if_neg (by omega), if_pos (by omega)]; done) | (rw [if_neg (by omega), if_neg (by omega), ← hn, if_neg (by omega), if_neg (by omega), if_pos (by omega)]; done) | (rw [if_neg (by omega), if_neg (by omega), ← hn, if_neg (by omega), if_neg (by omega), if_neg (by omega)]; done)) _ _ _ hH hS (lv_sub hl [0, 1, 2, 3] rfl)
                · refine z_iconst C dX3_codeBits_99 ?_
                  refine z_goto C dX3_codeBits_100 (tgt := 115) (by decide) ?_
                  exact J_115 3 (by unfold mbt; first | (rw [if_pos (by omega)]; done) | (rw [if_neg (by omega), if_pos (by omega)]; done) | (rw [if_neg (by omega), if_neg (by omega), ← hn, if_pos (by omega)]; done) | (rw [if_neg (by omega), if_neg (by omega), ← hn, if_neg (by omega), if_pos (by omega)]; done) | (rw [if_neg (by omega), if_neg (by omega), ← hn, if_neg (by omega), if_neg (by omega), if_pos (by omega)]; done) | (rw [if_neg (by omega), if_neg (by omega), ← hn, if_neg (by omega), if_neg (by omega), if_neg (by omega)]; done)) _ _ _ hH hS (lv_sub hl [0, 1, 2, 3] rfl)
              · refine z_iconst C dX3_codeBits_90 ?_
                refine z_goto C dX3_codeBits_91 (tgt := 115) (by decide) ?_
                exact J_115 1 (by unfold mbt; first | (rw [if_pos (by omega)]; done) | (rw [if_neg (by omega), if_pos (by omega)]; done) | (rw [if_neg (by omega), if_neg (by omega), ← hn, if_pos (by omega)]; done) | (rw [if_neg (by omega), if_neg (by omega), ← hn, if_neg (by omega), if_pos (by omega)]; done) | (rw [if_neg (by omega), if_neg (by omega), ← hn, if_neg (by omega), if_neg (by omega), if_pos (by omega)]; done) | (rw [if_neg (by omega), if_neg (by omega), ← hn, if_neg (by omega), if_neg (by omega), if_neg (by omega)]; done)) _ _ _ hH hS (lv_sub hl [0, 1, 2, 3] rfl)
            · refine z_iconst C dX3_codeBits_62 ?_
              refine z_aload_n C dX3_codeBits_63 hl 2 rfl ?_
              refine m_geta C hH 11 ⟨by decide, by decide⟩ q2196 rfl dX3_codeBits_64 ?_
              refine z_iload_n C dX3_codeBits_67 hl 1 rfl ?_
              refine m_ialdZ C hOk hH 11 ⟨by decide, by decide⟩ k ((gM L k).2.1) (e11) (show 0 ≤ k ∧ k < (48 : Int) by omega) dX3_codeBits_68 ?_
              refine m_SiF C hH hS (mm_numberBits hOk σ ((gM L k).2.1) (⟨by omega, by omega⟩)) (va_cwS 1 C.1.2.2.2.2 (lw_S q2394 q2395 q133 q2396) rfl rfl rfl (by decide +kernel) ⟨Nat.le_of_ble_eq_true rfl, Nat.le_of_ble_eq_true rfl⟩) rfl hl rfl (Nat.le_of_ble_eq_true rfl) dX3_codeBits_69 ⟨Nat.le_refl _, Nat.le_refl _⟩ (fun H locs hH hS => ?_)
              refine z_iadd C dX3_codeBits_72 ?_
              refine z_aload_n C dX3_codeBits_73 hl 2 rfl ?_
              refine m_geta C hH 12 ⟨by decide, by decide⟩ q2197 rfl dX3_codeBits_74 ?_
              refine z_iload_n C dX3_codeBits_77 hl 1 rfl ?_
              refine m_ialdZ C hOk hH 12 ⟨by decide, by decide⟩ k ((gM L k).2.2.1) (e12) (show 0 ≤ k ∧ k < (48 : Int) by omega) dX3_codeBits_78 ?_
              refine m_SiF C hH hS (mm_numberBits hOk σ ((gM L k).2.2.1) (⟨by omega, by omega⟩)) (va_cwS 1 C.1.2.2.2.2 (lw_S q2394 q2395 q133 q2396) rfl rfl rfl (by decide +kernel) ⟨Nat.le_of_ble_eq_true rfl, Nat.le_of_ble_eq_true rfl⟩) rfl hl rfl (Nat.le_of_ble_eq_true rfl) dX3_codeBits_79 ⟨Nat.le_refl _, Nat.le_refl _⟩ (fun H locs hH hS => ?_)
              refine z_iadd C dX3_codeBits_82 ?_
              refine z_goto C dX3_codeBits_83 (tgt := 115) (by decide) ?_
              exact J_115 (((3 + (nbt ((gM L k).2.1))) + (nbt ((gM L k).2.2.1)))) (by unfold mbt; first | (rw [if_pos (by omega)]; done) | (rw [if_neg (by omega), if_pos (by omega)]; done) | (rw [if_neg (by omega), if_neg (by omega), ← hn, if_pos (by omega)]; done) | (rw [if_neg (by omega), if_neg (by omega), ← hn, if_neg (by omega), if_pos (by omega)]; done) | (rw [if_neg (by omega), if_neg (by omega), ← hn, if_neg (by omega), if_neg (by omega), if_pos (by omega)]; done) | (rw [if_neg (by omega), if_neg (by omega), ← hn, if_neg (by omega), if_neg (by omega), if_neg (by omega)]; done)) _ _ _ hH hS (lv_sub hl [0, 1, 2, 3] rfl)
          · refine z_iconst C dX3_codeBits_48 ?_
            refine z_goto C dX3_codeBits_49 (tgt := 115) (by decide) ?_
            exact J_115 4 (by unfold mbt; first | (rw [if_pos (by omega)]; done) | (rw [if_neg (by omega), if_pos (by omega)]; done) | (rw [if_neg (by omega), if_neg (by omega), ← hn, if_pos (by omega)]; done) | (rw [if_neg (by omega), if_neg (by omega), ← hn, if_neg (by omega), if_pos (by omega)]; done) | (rw [if_neg (by omega), if_neg (by omega), ← hn, if_neg (by omega), if_neg (by omega), if_pos (by omega)]; done) | (rw [if_neg (by omega), if_neg (by omega), ← hn, if_neg (by omega), if_neg (by omega), if_neg (by omega)]; done)) _ _ _ hH hS (lv_sub hl [0, 1, 2, 3] rfl)
        refine z_ifge C dX3_codeBits_18 (tgt := 31) (by decide) ⟨by omega, by omega⟩ (fun c_18 => ?_) (fun c_18 => ?_)
        · refine z_aload_n C dX3_codeBits_31 hl 0 rfl ?_
          refine m_geta C hH 11 ⟨by decide, by decide⟩ q2196 rfl dX3_codeBits_32 ?_
          refine z_iload_n C dX3_codeBits_35 hl 2 rfl ?_
          refine m_ialdZ C hOk hH 11 ⟨by decide, by decide⟩ k ((gM L k).2.1) (e11) (show 0 ≤ k ∧ k < (48 : Int) by omega) dX3_codeBits_36 ?_
          exact J_37 (((gM L k).2.1)) (by first | rw [if_pos (by omega)] | rw [if_neg (by omega)]) _ _ _ hH hS (lv_sub hl [2, 0, 1] rfl)
        · refine z_aload_n C dX3_codeBits_21 hl 0 rfl ?_
          refine m_geta C hH 11 ⟨by decide, by decide⟩ q2196 rfl dX3_codeBits_22 ?_
          refine z_iload_n C dX3_codeBits_25 hl 2 rfl ?_
          refine m_ialdZ C hOk hH 11 ⟨by decide, by decide⟩ k ((gM L k).2.1) (e11) (show 0 ≤ k ∧ k < (48 : Int) by omega) dX3_codeBits_26 ?_
          refine z_ineg C dX3_codeBits_27 ?_
          refine z_goto C dX3_codeBits_28 (tgt := 37) (by decide) ?_
          exact J_37 ((-((gM L k).2.1))) (by first | rw [if_pos (by omega)] | rw [if_neg (by omega)]) _ _ _ hH hS (lv_sub hl [2, 0, 1] rfl)
  exact J_4 _ 0 0 (Nat.lt_succ_self _) (by omega) (rfl) _ _ _ hH hS (lv_sub hl [2, 1, 0] rfl)
set_option maxHeartbeats 1000000 in
theorem mm_aloneBits {l : Launch} {D : va_G} {dA : Nat → ClassId} {A : Nat → Prop} {o : Nat} {ad : Nat → Nat} (hOk : mOk o ad) (σ : Sg) (w : Int) (L : List Int) (hw : 0 ≤ w ∧ w ≤ 40) (hm : RnsAt σ L) (hL : ∀ r ∈ L, 0 ≤ r ∧ r ≤ w) (hlen : (L.length : Int) ≤ 41) : Met l yX3_aloneBits (ws_ yX3_aloneBits cX3_aloneBits 3 (some .int)) (rmL 2 0 0) (MP D dA A o ad [.ref o] σ) (MQi D dA A o ad (fun r σ' => σ' = σ ∧ r = sumR L)) 0 0 A := by
  refine z_ofW (by decide) rfl ?_
  intro pp ee s0 mm below meth cc0 ls C hret hname hl hH hS
  have hl : lv_has ls 3 [(0, .ref o)] := hl
  refine z_iconst C dX3_aloneBits_0 ?_
  refine z_istore_n C [(1, .int (iI 0)), (0, .ref o)] dX3_aloneBits_1 hl (by decide) rfl (fun ls hl => ?_)
  refine z_iconst C dX3_aloneBits_2 ?_
  refine z_istore_n C [(2, .int (iI 0)), (1, .int (iI 0)), (0, .ref o)] dX3_aloneBits_3 hl (by decide) rfl (fun ls hl => ?_)
  have J_4 : ∀ (fu : Nat) (t : Int) (k : Int), ((L.length : Int) - k).toNat < fu → (0 ≤ k ∧ k ≤ (L.length : Int)) → (t = sumR (L.take k.toNat)) → ∀ (H : Heap) (locs : List Loc) (ls : Array Slot), MH D dA A o ad σ H → va_S A s0.heap H locs → lv_has ls 3 [(0, .ref o), (1, .int (iI t)), (2, .int (iI k))] → W pp l ee (rmL 2 0 0) s0 mm ([.ref o] : List Value).toArray below meth cc0 H locs 0 0 (MQ below (MQi D dA A o ad (fun r σ' => σ' = σ ∧ r = sumR L)) ([.ref o] : List Value).toArray s0 0 0 A) (F0 mm 4 ls []) := by
    intro fu
    induction fu with
    | zero => intro t k hn; exact absurd hn (Nat.not_lt_zero _)
    | succ fu ih_4 =>
      intro t k hn hk ht H locs ls hH hS hl
      refine z_iload_n C dX3_aloneBits_4 hl 2 rfl ?_
      refine z_aload_n C dX3_aloneBits_5 hl 0 rfl ?_
      refine m_getsZ C hH 19 ⟨by decide, by decide⟩ ((L.length : Int)) (hm.1) q2204 rfl dX3_aloneBits_6 ?_
      refine z_icmpge C dX3_aloneBits_9 (tgt := 30) (by decide) ⟨⟨by omega, by omega⟩, ⟨by omega, by omega⟩⟩ (fun c_9 => ?_) (fun c_9 => ?_)
      · refine z_iload_n C dX3_aloneBits_30 hl 1 rfl ?_
        refine m_iret C hret hH hS dX3_aloneBits_31 ?_
        refine ⟨rfl, ?_⟩
        rw [ht, take_all_R (by omega)]
      · have e := hm.2 k hk.1 (by omega)
        have ok := hL _ (gR_mem hk.1 (show k < (L.length : Int) by omega))
        refine z_iload_n C dX3_aloneBits_12 hl 1 rfl ?_
        refine z_aload_n C dX3_aloneBits_13 hl 0 rfl ?_
        refine m_geta C hH 18 ⟨by decide, by decide⟩ q2203 rfl dX3_aloneBits_14 ?_
        refine z_iload_n C dX3_aloneBits_17 hl 2 rfl ?_
        refine m_ialdZ C hOk hH 18 ⟨by decide, by decide⟩ k (gR L k) (e) (show 0 ≤ k ∧ k < (44 : Int) by omega) dX3_aloneBits_18 ?_
        refine m_SiF C hH hS (mm_numberBits hOk σ (gR L k) (⟨by omega, by omega⟩)) (va_cwS 1 C.1.2.2.2.2 (lw_S q2394 q2395 q133 q2396) rfl rfl rfl (by decide +kernel) ⟨Nat.le_of_ble_eq_true rfl, Nat.le_of_ble_eq_true rfl⟩) rfl hl rfl (Nat.le_of_ble_eq_true rfl) dX3_aloneBits_19 ⟨Nat.le_refl _, Nat.le_refl _⟩ (fun H locs hH hS => ?_)
        refine z_iadd C dX3_aloneBits_22 ?_
        refine z_istore_n C [(1, .int (iI (t + (nbt (gR L k))))), (0, .ref o), (2, .int (iI k))] dX3_aloneBits_23 hl (by decide) rfl (fun ls hl => ?_)
        refine z_iinc C [(2, .int (iI (k + 1))), (1, .int (iI (t + (nbt (gR L k))))), (0, .ref o)] dX3_aloneBits_24 hl 2 rfl (by decide) rfl (fun ls hl => ?_)
        refine z_goto C dX3_aloneBits_27 (tgt := 4) (by decide) ?_
        exact ih_4 ((t + (nbt (gR L k)))) ((k + 1)) (by omega) (by omega) (by rw [sumR_take hk.1 (by omega), ← ht]) _ _ _ hH hS (lv_sub hl [2, 1, 0] rfl)
  exact J_4 _ 0 0 (Nat.lt_succ_self _) (by omega) (rfl) _ _ _ hH hS (lv_sub hl [2, 1, 0] rfl)
set_option maxHeartbeats 1000000 in
theorem mm_startsReading {l : Launch} {D : va_G} {dA : Nat → ClassId} {A : Nat → Prop} {o : Nat} {ad : Nat → Nat} (hOk : mOk o ad) (σ : Sg)   : Met l yX3_startsReading (ws_ yX3_startsReading cX3_startsReading 2 none) (rmL 1 0 0) (MP D dA A o ad [.ref o] σ) (MQv D dA A o ad (fun σ' => σ' = (sa (su (su σ 16 0 (-1)) 17 0 0) 15 (wr (fun _ => 0) (σ 15) 0 40)))) 0 0 A := by
  refine z_ofW (by decide) rfl ?_
  intro pp ee s0 mm below meth cc0 ls C hret hname hl hH hS
  have hl : lv_has ls 2 [(0, .ref o)] := hl
  refine z_aload_n C dX3_startsReading_0 hl 0 rfl ?_
  refine z_iconst C dX3_startsReading_1 ?_
  refine m_puts C hH hS 16 ⟨by decide, by decide⟩ q2201 rfl ⟨rfl, rfl⟩ dX3_startsReading_2 (fun H locs hH hS => ?_)
  refine z_aload_n C dX3_startsReading_5 hl 0 rfl ?_
  refine z_iconst C dX3_startsReading_6 ?_
  refine m_puts C hH hS 17 ⟨by decide, by decide⟩ q2202 rfl ⟨rfl, rfl⟩ dX3_startsReading_7 (fun H locs hH hS => ?_)
  refine z_iconst C dX3_startsReading_10 ?_
  refine z_istore_n C [(1, .int (iI 0)), (0, .ref o)] dX3_startsReading_11 hl (by decide) rfl (fun ls hl => ?_)
  have J_12 : ∀ (fu : Nat) (k : Int) (s1 : Sg), (40 - k).toNat < fu → (0 ≤ k ∧ k ≤ 40) → (s1 = sa (su (su σ 16 0 (-1)) 17 0 0) 15 (wr (fun _ => 0) (σ 15) 0 k)) → ∀ (H : Heap) (locs : List Loc) (ls : Array Slot), MH D dA A o ad s1 H → va_S A s0.heap H locs → lv_has ls 2 [(0, .ref o), (1, .int (iI k))] → W pp l ee (rmL 1 0 0) s0 mm ([.ref o] : List Value).toArray below meth cc0 H locs 0 0 (MQ below (MQv D dA A o ad (fun σ' => σ' = (sa (su (su σ 16 0 (-1)) 17 0 0) 15 (wr (fun _ => 0) (σ 15) 0 40)))) ([.ref o] : List Value).toArray s0 0 0 A) (F0 mm 12 ls []) := by
    intro fu
    induction fu with
    | zero => intro k s1 hn; exact absurd hn (Nat.not_lt_zero _)
    | succ fu ih_12 =>
      intro k s1 hn hk0 hs H locs ls hH hS hl
      refine z_iload_n C dX3_startsReading_12 hl 1 rfl ?_
      refine z_bipush C dX3_startsReading_13 (by decide +kernel) ?_
      refine z_icmpge C dX3_startsReading_15 (tgt := 31) (by decide) ⟨⟨by omega, by omega⟩, ⟨by omega, by omega⟩⟩ (fun c_15 => ?_) (fun c_15 => ?_)
      · refine m_vret C hret hH hS dX3_startsReading_31 ?_
        rw [hs, show k = 40 by omega]
      · refine z_aload_n C dX3_startsReading_18 hl 0 rfl ?_
        refine m_geta C hH 15 ⟨by decide, by decide⟩ q2200 rfl dX3_startsReading_19 ?_
        refine z_iload_n C dX3_startsReading_22 hl 1 rfl ?_
        refine z_iconst C dX3_startsReading_23 ?_
        refine m_iast C hOk hH hS 15 ⟨by decide, by decide⟩ (show 0 ≤ k ∧ k < (40 : Int) by omega) dX3_startsReading_24 (fun H locs hH hS => ?_)
        refine z_iinc C [(1, .int (iI (k + 1))), (0, .ref o)] dX3_startsReading_25 hl 1 rfl (by decide) rfl (fun ls hl => ?_)
        refine z_goto C dX3_startsReading_28 (tgt := 12) (by decide) ?_
        exact ih_12 ((k + 1)) ((su s1 15 k 0)) (by omega) (by omega) (by rw [hs]; exact su_wr _ 15 (fun _ => 0) _ (by omega)) _ _ _ hH hS (lv_sub hl [1, 0] rfl)
  exact J_12 _ 0 ((su (su σ 16 0 ((-1))) 17 0 0)) (Nat.lt_succ_self _) (by omega) (by rw [wr_0]; exact (sa_id _ 15).symm) _ _ _ hH hS (lv_sub hl [1, 0] rfl)
set_option maxHeartbeats 1000000 in
theorem mm_paints {l : Launch} {D : va_G} {dA : Nat → ClassId} {A : Nat → Prop} {o : Nat} {ad : Nat → Nat} (hOk : mOk o ad) (σ : Sg) (f : Int) (t : Int) (c : Int) (h1 : 0 ≤ f ∧ f ≤ 40 ∧ -100 ≤ t ∧ t ≤ 40) : Met l yX3_paints (ws_ yX3_paints cX3_paints 5 none) (rmL 1 0 0) (MP D dA A o ad [.ref o, .int (iI f), .int (iI t), .int (iI c)] σ) (MQv D dA A o ad (fun σ' => σ' = (sa σ 15 (wr (fun _ => c) (σ 15) f t)))) 0 0 A := by
  refine z_ofW (by decide) rfl ?_
  intro pp ee s0 mm below meth cc0 ls C hret hname hl hH hS
  have hl : lv_has ls 5 [(0, .ref o), (1, .int (iI f)), (2, .int (iI t)), (3, .int (iI c))] := hl
  refine z_iload_n C dX3_paints_0 hl 1 rfl ?_
  refine z_istore C [(4, .int (iI f)), (0, .ref o), (1, .int (iI f)), (2, .int (iI t)), (3, .int (iI c))] dX3_paints_1 hl (by decide) rfl (fun ls hl => ?_)
  have J_3 : ∀ (fu : Nat) (k : Int) (s1 : Sg), (t - k).toNat < fu → (f ≤ k ∧ (k ≤ t ∨ k = f)) → (s1 = sa σ 15 (wr (fun _ => c) (σ 15) f k)) → ∀ (H : Heap) (locs : List Loc) (ls : Array Slot), MH D dA A o ad s1 H → va_S A s0.heap H locs → lv_has ls 5 [(0, .ref o), (1, .int (iI f)), (2, .int (iI t)), (3, .int (iI c)), (4, .int (iI k))] → W pp l ee (rmL 1 0 0) s0 mm ([.ref o, .int (iI f), .int (iI t), .int (iI c)] : List Value).toArray below meth cc0 H locs 0 0 (MQ below (MQv D dA A o ad (fun σ' => σ' = (sa σ 15 (wr (fun _ => c) (σ 15) f t)))) ([.ref o, .int (iI f), .int (iI t), .int (iI c)] : List Value).toArray s0 0 0 A) (F0 mm 3 ls []) := by
    intro fu
    induction fu with
    | zero => intro k s1 hn; exact absurd hn (Nat.not_lt_zero _)
    | succ fu ih_3 =>
      intro k s1 hn hk0 hs H locs ls hH hS hl
      refine z_iload C dX3_paints_3 hl 4 rfl ?_
      refine z_iload_n C dX3_paints_5 hl 2 rfl ?_
      refine z_icmpge C dX3_paints_6 (tgt := 23) (by decide) ⟨⟨by omega, by omega⟩, ⟨by omega, by omega⟩⟩ (fun c_6 => ?_) (fun c_6 => ?_)
      · refine m_vret C hret hH hS dX3_paints_23 ?_
        rw [hs]
        by_cases hkt : k = t
        · rw [hkt]
        · have e : wr (fun _ => c) (σ 15) f k = wr (fun _ => c) (σ 15) f t := by
            funext j; unfold wr; rw [if_neg (by omega), if_neg (by omega)]
          rw [e]
      · refine z_aload_n C dX3_paints_9 hl 0 rfl ?_
        refine m_geta C hH 15 ⟨by decide, by decide⟩ q2200 rfl dX3_paints_10 ?_
        refine z_iload C dX3_paints_13 hl 4 rfl ?_
        refine z_iload_n C dX3_paints_15 hl 3 rfl ?_
        refine m_iast C hOk hH hS 15 ⟨by decide, by decide⟩ (show 0 ≤ k ∧ k < (40 : Int) by omega) dX3_paints_16 (fun H locs hH hS => ?_)
        refine z_iinc C [(4, .int (iI (k + 1))), (0, .ref o), (1, .int (iI f)), (2, .int (iI t)), (3, .int (iI c))] dX3_paints_17 hl 4 rfl (by decide) rfl (fun ls hl => ?_)
        refine z_goto C dX3_paints_20 (tgt := 3) (by decide) ?_
        exact ih_3 ((k + 1)) ((su s1 15 k c)) (by omega) (by omega) (by rw [hs]; exact su_wr _ 15 (fun _ => c) _ (by omega)) _ _ _ hH hS (lv_sub hl [1, 2, 3, 4, 0] rfl)
  exact J_3 _ f σ (Nat.lt_succ_self _) (by omega) (by rw [wr_0, sa_id]) _ _ _ hH hS (lv_sub hl [1, 2, 3, 4, 0] rfl)
set_option maxHeartbeats 1000000 in
theorem mm_readsMode {l : Launch} {D : va_G} {dA : Nat → ClassId} {A : Nat → Prop} {o : Nat} {ad : Nat → Nat} (hOk : mOk o ad) (σ : Sg) (kd : Int) (n1 : Int) (n2 : Int) (w : Int) (u : Int → Int) (q : Rd) (hw : 1 ≤ w ∧ w ≤ 40) (h9 : σ 9 0 = w) (hu : ∀ j, 0 ≤ j → j < w → σ 7 j = u j) (hb : ∀ j, u j = 0 ∨ u j = 1) (hq : RdAt σ q) (ho : RdOk w q) (hm : 0 ≤ kd ∧ kd ≤ 2 ∧ -3 ≤ n1 ∧ n1 ≤ w ∧ 0 ≤ n2 ∧ n2 ≤ w ∧ (kd = 2 → 0 ≤ n1)) : Met l yX3_readsMode (ws_ yX3_readsMode cX3_readsMode 8 (some .boolean)) (rmL 3 0 0) (MP D dA A o ad [.ref o, .int (iI kd), .int (iI n1), .int (iI n2)] σ) (MQi D dA A o ad (fun r σ' => Fr [15, 16, 17] σ σ' ∧ ((rdM u w q kd n1 n2 = none ∧ r = 0 ∧ σ' = σ) ∨ ∃ q', rdM u w q kd n1 n2 = some q' ∧ r = 1 ∧ RdAt σ' q'))) 0 0 A := by
  refine z_ofW (by decide) rfl ?_
  intro pp ee s0 mm below meth cc0 ls C hret hname hl hH hS
  have hl : lv_has ls 8 [(0, .ref o), (1, .int (iI kd)), (2, .int (iI n1)), (3, .int (iI n2))] := hl
  obtain ⟨q1, q2, q3⟩ := hq
  obtain ⟨o1, o2, o3, o4⟩ := ho
  refine z_aload_n C dX3_readsMode_0 hl 0 rfl ?_
  refine m_getsZ C hH 16 ⟨by decide, by decide⟩ q.1 (q1) q2201 rfl dX3_readsMode_1 ?_
  refine z_aload_n C dX3_readsMode_4 hl 0 rfl ?_
  refine m_getsZ C hH 9 ⟨by decide, by decide⟩ w (h9) q2194 rfl dX3_readsMode_5 ?_
  refine z_icmpne C dX3_readsMode_8 (tgt := 13) (by decide) ⟨⟨by omega, by omega⟩, ⟨by omega, by omega⟩⟩ (fun c_8 => ?_) (fun c_8 => ?_)
  · refine z_aload_n C dX3_readsMode_13 hl 0 rfl ?_
    refine m_getsZ C hH 16 ⟨by decide, by decide⟩ q.1 (q1) q2201 rfl dX3_readsMode_14 ?_
    refine m_SiF C hH hS (mm_least0 hOk σ q.1 (⟨by omega, by omega⟩)) (va_cwS 1 C.1.2.2.2.2 (lw_S q2383 q2384 q133 q2385) rfl rfl rfl (by decide +kernel) ⟨Nat.le_of_ble_eq_true rfl, Nat.le_of_ble_eq_true rfl⟩) rfl hl rfl (Nat.le_of_ble_eq_true rfl) dX3_readsMode_17 ⟨Nat.le_refl _, Nat.le_refl _⟩ (fun H locs hH hS => ?_)
    refine z_topi (fun f hf => ?_)
    have f1 : 0 ≤ f ∧ f ≤ 40 ∧ f = mx0 q.1 ∧ q.1 ≤ f := by rw [hf]; unfold mx0; split <;> omega
    refine z_istore C [(4, .int (iI f)), (0, .ref o), (1, .int (iI kd)), (2, .int (iI n1)), (3, .int (iI n2))] dX3_readsMode_20 hl (by decide) rfl (fun ls hl => ?_)
    refine z_aload_n C dX3_readsMode_22 hl 1 rfl ?_
    refine z_aload_n C dX3_readsMode_23 hl 1 rfl ?_
    refine m_getsZ C hH 16 ⟨by decide, by decide⟩ q.1 (q1) q2201 rfl dX3_readsMode_24 ?_
    refine z_aload_n C dX3_readsMode_27 hl 1 rfl ?_
    refine m_getsZ C hH 17 ⟨by decide, by decide⟩ q.2.1 (q2) q2202 rfl dX3_readsMode_28 ?_
    refine m_ViF C hH hS (mm_changeBehind hOk σ q.1 q.2.1 w u (by omega) (by omega) (by omega) (by omega) (hu) (hb)) (cwV 2 C.1.2.2.2.2 (lw_V q2371 q2373 qs55 q133 q2374) rfl rfl rfl (by decide +kernel) ⟨Nat.le_of_ble_eq_true rfl, Nat.le_of_ble_eq_true rfl⟩) rfl hl rfl (Nat.le_of_ble_eq_true rfl) dX3_readsMode_31 ⟨Nat.le_refl _, Nat.le_refl _⟩ (fun H locs hH hS => ?_)
    refine z_topi (fun b_ hb_ => ?_)
    have b1 := chg_ge u q.2.1 w (q.1 + 1)
    have b2 := chg_le u q.2.1 (w := w) (i := q.1 + 1) (by omega)
    have hb9 : b_ = chg u q.2.1 w (q.1 + 1) := hb_
    refine z_istore C [(5, .int (iI b_)), (4, .int (iI f)), (0, .ref o), (1, .int (iI kd)), (2, .int (iI n1)), (3, .int (iI n2))] dX3_readsMode_34 hl (by decide) rfl (fun ls hl => ?_)
    refine z_iload_n C dX3_readsMode_36 hl 3 rfl ?_
    refine z_ifne C dX3_readsMode_37 (tgt := 85) (by decide) ⟨by omega, by omega⟩ (fun c_37 => ?_) (fun c_37 => ?_)
    · have J_103 : ∀ (a : Int), (a = if kd = 1 then b_ + n1 else mx0 q.1 + n1) → (-3 ≤ a ∧ a ≤ 80 ∧ (kd = 2 → 0 ≤ a)) → ∀ (H : Heap) (locs : List Loc) (ls : Array Slot), MH D dA A o ad σ H → va_S A s0.heap H locs → lv_has ls 8 [(6, .int (iI a)), (5, .int (iI b_)), (4, .int (iI f)), (0, .ref o), (1, .int (iI kd)), (2, .int (iI n1)), (3, .int (iI n2))] → W pp l ee (rmL 3 0 0) s0 mm ([.ref o, .int (iI kd), .int (iI n1), .int (iI n2)] : List Value).toArray below meth cc0 H locs 0 0 (MQ below (MQi D dA A o ad (fun r σ' => Fr [15, 16, 17] σ σ' ∧ ((rdM u w q kd n1 n2 = none ∧ r = 0 ∧ σ' = σ) ∨ ∃ q', rdM u w q kd n1 n2 = some q' ∧ r = 1 ∧ RdAt σ' q'))) ([.ref o, .int (iI kd), .int (iI n1), .int (iI n2)] : List Value).toArray s0 0 0 A) (F0 mm 103 ls []) := by
        intro a ha ha2 H locs ls hH hS hl
        have J_119 : ∀ (z : Int), (z = if kd = 1 then a else a + n2) → (a ≤ z ∧ z ≤ 120 ∧ (kd = 1 → z = a)) → ∀ (H : Heap) (locs : List Loc) (ls : Array Slot), MH D dA A o ad σ H → va_S A s0.heap H locs → lv_has ls 8 [(7, .int (iI z)), (6, .int (iI a)), (5, .int (iI b_)), (4, .int (iI f)), (0, .ref o), (1, .int (iI kd)), (2, .int (iI n1)), (3, .int (iI n2))] → W pp l ee (rmL 3 0 0) s0 mm ([.ref o, .int (iI kd), .int (iI n1), .int (iI n2)] : List Value).toArray below meth cc0 H locs 0 0 (MQ below (MQi D dA A o ad (fun r σ' => Fr [15, 16, 17] σ σ' ∧ ((rdM u w q kd n1 n2 = none ∧ r = 0 ∧ σ' = σ) ∨ ∃ q', rdM u w q kd n1 n2 = some q' ∧ r = 1 ∧ RdAt σ' q'))) ([.ref o, .int (iI kd), .int (iI n1), .int (iI n2)] : List Value).toArray s0 0 0 A) (F0 mm 119 ls []) := by
          intro z hz hz2 H locs ls hH hS hl
          have J_137 : (z ≤ q.1 ∨ w < z) → ∀ (H : Heap) (locs : List Loc) (ls : Array Slot), MH D dA A o ad σ H → va_S A s0.heap H locs → lv_has ls 8 [(7, .int (iI z)), (6, .int (iI a)), (5, .int (iI b_)), (4, .int (iI f)), (0, .ref o), (1, .int (iI kd)), (2, .int (iI n1)), (3, .int (iI n2))] → W pp l ee (rmL 3 0 0) s0 mm ([.ref o, .int (iI kd), .int (iI n1), .int (iI n2)] : List Value).toArray below meth cc0 H locs 0 0 (MQ below (MQi D dA A o ad (fun r σ' => Fr [15, 16, 17] σ σ' ∧ ((rdM u w q kd n1 n2 = none ∧ r = 0 ∧ σ' = σ) ∨ ∃ q', rdM u w q kd n1 n2 = some q' ∧ r = 1 ∧ RdAt σ' q'))) ([.ref o, .int (iI kd), .int (iI n1), .int (iI n2)] : List Value).toArray s0 0 0 A) (F0 mm 137 ls []) := by
            intro  hx H locs ls hH hS hl
            refine z_iconst C dX3_readsMode_137 ?_
            refine m_zret C hret hH hS (by omega) dX3_readsMode_138 ?_
            exact ⟨Fr.rf, Or.inl ⟨rdM_F hb9 ha hz (by omega) hx, rfl, rfl⟩⟩
          refine z_iload C dX3_readsMode_119 hl 0 rfl ?_
          refine z_aload_n C dX3_readsMode_121 hl 4 rfl ?_
          refine m_getsZ C hH 16 ⟨by decide, by decide⟩ q.1 (q1) q2201 rfl dX3_readsMode_122 ?_
          refine z_icmple C dX3_readsMode_125 (tgt := 137) (by decide) ⟨⟨by omega, by omega⟩, ⟨by omega, by omega⟩⟩ (fun c_125 => ?_) (fun c_125 => ?_)
          · exact J_137  (by omega) _ _ _ hH hS (lv_sub hl [0, 1, 2, 3, 4, 5, 6, 7] rfl)
          · refine z_iload C dX3_readsMode_128 hl 0 rfl ?_
            refine z_aload_n C dX3_readsMode_130 hl 4 rfl ?_
            refine m_getsZ C hH 9 ⟨by decide, by decide⟩ w (h9) q2194 rfl dX3_readsMode_131 ?_
            refine z_icmple C dX3_readsMode_134 (tgt := 139) (by decide) ⟨⟨by omega, by omega⟩, ⟨by omega, by omega⟩⟩ (fun c_134 => ?_) (fun c_134 => ?_)
            · refine z_aload_n C dX3_readsMode_139 hl 4 rfl ?_
              refine z_iload C dX3_readsMode_140 hl 3 rfl ?_
              refine z_iload C dX3_readsMode_142 hl 1 rfl ?_
              refine z_aload_n C dX3_readsMode_144 hl 4 rfl ?_
              refine m_getsZ C hH 17 ⟨by decide, by decide⟩ q.2.1 (q2) q2202 rfl dX3_readsMode_145 ?_
              refine m_VvF C hH hS (mm_paints hOk σ f a q.2.1 (by omega)) (cwV 3 C.1.2.2.2.2 (lw_V q2477 q2479 qs72 q133 q2480) rfl rfl rfl (by decide +kernel) ⟨Nat.le_of_ble_eq_true rfl, Nat.le_of_ble_eq_true rfl⟩) rfl hl rfl (Nat.le_of_ble_eq_true rfl) dX3_readsMode_148 ⟨Nat.le_refl _, Nat.le_refl _⟩ (fun H locs hH hS => ?_)
              refine z_aload_n C dX3_readsMode_151 hl 4 rfl ?_
              refine z_iload C dX3_readsMode_152 hl 1 rfl ?_
              refine z_iload C dX3_readsMode_154 hl 0 rfl ?_
              refine z_iconst C dX3_readsMode_156 ?_
              refine z_aload_n C dX3_readsMode_157 hl 4 rfl ?_
              refine m_getsZ C hH 17 ⟨by decide, by decide⟩ q.2.1 (q2) q2202 rfl dX3_readsMode_158 ?_
              refine z_isub C dX3_readsMode_161 ?_
              refine m_VvF C hH hS (mm_paints hOk (sa σ 15 (wr (fun _ => q.2.1) (σ 15) f a)) a z (1 - q.2.1) (by omega)) (cwV 3 C.1.2.2.2.2 (lw_V q2477 q2479 qs72 q133 q2480) rfl rfl rfl (by decide +kernel) ⟨Nat.le_of_ble_eq_true rfl, Nat.le_of_ble_eq_true rfl⟩) rfl hl rfl (Nat.le_of_ble_eq_true rfl) dX3_readsMode_162 ⟨Nat.le_refl _, Nat.le_refl _⟩ (fun H locs hH hS => ?_)
              refine z_aload_n C dX3_readsMode_165 hl 4 rfl ?_
              refine z_iload C dX3_readsMode_166 hl 0 rfl ?_
              refine m_puts C hH hS 16 ⟨by decide, by decide⟩ q2201 rfl ⟨rfl, rfl⟩ dX3_readsMode_168 (fun H locs hH hS => ?_)
              refine z_aload_n C dX3_readsMode_171 hl 4 rfl ?_
              refine z_iload_n C dX3_readsMode_172 hl 5 rfl ?_
              refine z_iconst C dX3_readsMode_173 ?_
              refine z_icmpne C dX3_readsMode_174 (tgt := 186) (by decide) ⟨⟨by omega, by omega⟩, ⟨by omega, by omega⟩⟩ (fun c_174 => ?_) (fun c_174 => ?_)
              · refine z_aload_n C dX3_readsMode_186 hl 4 rfl ?_
                refine m_getsZ C hH 17 ⟨by decide, by decide⟩ q.2.1 (q2) q2202 rfl dX3_readsMode_187 ?_
                refine m_puts C hH hS 17 ⟨by decide, by decide⟩ q2202 rfl ⟨rfl, rfl⟩ dX3_readsMode_190 (fun H locs hH hS => ?_)
                refine z_iconst C dX3_readsMode_193 ?_
                refine m_zret C hret hH hS (by omega) dX3_readsMode_194 ?_
                refine ⟨frSu (frSu (frSa (frSa Fr.rf rfl) rfl) rfl) rfl, Or.inr ⟨_, rdM_S hb9 ha hz (by omega) (by omega) (by omega), rfl, rfl, by show q.2.1 = if kd = 1 then 1 - q.2.1 else q.2.1; rw [if_neg (by omega)], fun j h0 h1 => ?_⟩⟩
                show wr (fun _ => 1 - q.2.1) (wr (fun _ => q.2.1) (σ 15) f a) a z j = wr (fun _ => 1 - q.2.1) (wr (fun _ => q.2.1) q.2.2 (mx0 q.1) a) a z j
                rw [f1.2.2.1]; unfold wr; rw [q3 j h0 h1]
              · refine z_iconst C dX3_readsMode_177 ?_
                refine z_aload_n C dX3_readsMode_178 hl 4 rfl ?_
                refine m_getsZ C hH 17 ⟨by decide, by decide⟩ q.2.1 (q2) q2202 rfl dX3_readsMode_179 ?_
                refine z_isub C dX3_readsMode_182 ?_
                refine z_goto C dX3_readsMode_183 (tgt := 190) (by decide) ?_
                refine m_puts C hH hS 17 ⟨by decide, by decide⟩ q2202 rfl ⟨rfl, rfl⟩ dX3_readsMode_190 (fun H locs hH hS => ?_)
                refine z_iconst C dX3_readsMode_193 ?_
                refine m_zret C hret hH hS (by omega) dX3_readsMode_194 ?_
                refine ⟨frSu (frSu (frSa (frSa Fr.rf rfl) rfl) rfl) rfl, Or.inr ⟨_, rdM_S hb9 ha hz (by omega) (by omega) (by omega), rfl, rfl, by show 1 - q.2.1 = if kd = 1 then 1 - q.2.1 else q.2.1; rw [if_pos (by omega)], fun j h0 h1 => ?_⟩⟩
                show wr (fun _ => 1 - q.2.1) (wr (fun _ => q.2.1) (σ 15) f a) a z j = wr (fun _ => 1 - q.2.1) (wr (fun _ => q.2.1) q.2.2 (mx0 q.1) a) a z j
                rw [f1.2.2.1]; unfold wr; rw [q3 j h0 h1]
            · exact J_137  (by omega) _ _ _ hH hS (lv_sub hl [0, 1, 2, 3, 4, 5, 6, 7] rfl)
        refine z_iload_n C dX3_readsMode_103 hl 4 rfl ?_
        refine z_iconst C dX3_readsMode_104 ?_
        refine z_icmpne C dX3_readsMode_105 (tgt := 113) (by decide) ⟨⟨by omega, by omega⟩, ⟨by omega, by omega⟩⟩ (fun c_105 => ?_) (fun c_105 => ?_)
        · refine z_iload C dX3_readsMode_113 hl 0 rfl ?_
          refine z_iload_n C dX3_readsMode_115 hl 6 rfl ?_
          refine z_iadd C dX3_readsMode_116 ?_
          refine z_istore C [(7, .int (iI (a + n2))), (6, .int (iI a)), (5, .int (iI b_)), (4, .int (iI f)), (0, .ref o), (1, .int (iI kd)), (2, .int (iI n1)), (3, .int (iI n2))] dX3_readsMode_117 hl (by decide) rfl (fun ls hl => ?_)
          exact J_119 ((a + n2)) (by first | rw [if_pos (by omega)] | rw [if_neg (by omega)]) (by omega) _ _ _ hH hS (lv_sub hl [0, 1, 2, 3, 4, 5, 6, 7] rfl)
        · refine z_iload C dX3_readsMode_108 hl 0 rfl ?_
          refine z_goto C dX3_readsMode_110 (tgt := 117) (by decide) ?_
          refine z_istore C [(7, .int (iI a)), (6, .int (iI a)), (5, .int (iI b_)), (4, .int (iI f)), (0, .ref o), (1, .int (iI kd)), (2, .int (iI n1)), (3, .int (iI n2))] dX3_readsMode_117 hl (by decide) rfl (fun ls hl => ?_)
          exact J_119 a (by first | rw [if_pos (by omega)] | rw [if_neg (by omega)]) (by omega) _ _ _ hH hS (lv_sub hl [0, 1, 2, 3, 4, 5, 6, 7] rfl)
      refine z_iload_n C dX3_readsMode_85 hl 3 rfl ?_
      refine z_iconst C dX3_readsMode_86 ?_
      refine z_icmpne C dX3_readsMode_87 (tgt := 97) (by decide) ⟨⟨by omega, by omega⟩, ⟨by omega, by omega⟩⟩ (fun c_87 => ?_) (fun c_87 => ?_)
      · refine z_iload C dX3_readsMode_97 hl 1 rfl ?_
        refine z_iload_n C dX3_readsMode_99 hl 4 rfl ?_
        refine z_iadd C dX3_readsMode_100 ?_
        refine z_istore C [(6, .int (iI (f + n1))), (5, .int (iI b_)), (4, .int (iI f)), (0, .ref o), (1, .int (iI kd)), (2, .int (iI n1)), (3, .int (iI n2))] dX3_readsMode_101 hl (by decide) rfl (fun ls hl => ?_)
        exact J_103 ((f + n1)) (by first | (rw [if_pos (by omega)]; done) | (rw [if_neg (by omega)]; omega)) (by omega) _ _ _ hH hS (lv_sub hl [0, 1, 2, 3, 4, 5, 6] rfl)
      · refine z_iload C dX3_readsMode_90 hl 0 rfl ?_
        refine z_iload_n C dX3_readsMode_92 hl 4 rfl ?_
        refine z_iadd C dX3_readsMode_93 ?_
        refine z_goto C dX3_readsMode_94 (tgt := 101) (by decide) ?_
        refine z_istore C [(6, .int (iI (b_ + n1))), (5, .int (iI b_)), (4, .int (iI f)), (0, .ref o), (1, .int (iI kd)), (2, .int (iI n1)), (3, .int (iI n2))] dX3_readsMode_101 hl (by decide) rfl (fun ls hl => ?_)
        exact J_103 ((b_ + n1)) (by first | (rw [if_pos (by omega)]; done) | (rw [if_neg (by omega)]; omega)) (by omega) _ _ _ hH hS (lv_sub hl [0, 1, 2, 3, 4, 5, 6] rfl)
    · have J_65 : ∀ (d : Int), (d = if b_ = w then w else chg u 2 w (b_ + 1)) → (b_ ≤ d ∧ d ≤ w) → ∀ (H : Heap) (locs : List Loc) (ls : Array Slot), MH D dA A o ad σ H → va_S A s0.heap H locs → lv_has ls 8 [(6, .int (iI d)), (5, .int (iI b_)), (4, .int (iI f)), (0, .ref o), (1, .int (iI kd)), (2, .int (iI n1)), (3, .int (iI n2))] → W pp l ee (rmL 3 0 0) s0 mm ([.ref o, .int (iI kd), .int (iI n1), .int (iI n2)] : List Value).toArray below meth cc0 H locs 0 0 (MQ below (MQi D dA A o ad (fun r σ' => Fr [15, 16, 17] σ σ' ∧ ((rdM u w q kd n1 n2 = none ∧ r = 0 ∧ σ' = σ) ∨ ∃ q', rdM u w q kd n1 n2 = some q' ∧ r = 1 ∧ RdAt σ' q'))) ([.ref o, .int (iI kd), .int (iI n1), .int (iI n2)] : List Value).toArray s0 0 0 A) (F0 mm 65 ls []) := by
        intro d hd hd2 H locs ls hH hS hl
        refine z_aload_n C dX3_readsMode_65 hl 3 rfl ?_
        refine z_iload C dX3_readsMode_66 hl 2 rfl ?_
        refine z_iload C dX3_readsMode_68 hl 0 rfl ?_
        refine z_aload_n C dX3_readsMode_70 hl 3 rfl ?_
        refine m_getsZ C hH 17 ⟨by decide, by decide⟩ q.2.1 (q2) q2202 rfl dX3_readsMode_71 ?_
        refine m_VvF C hH hS (mm_paints hOk σ f d q.2.1 (by omega)) (cwV 3 C.1.2.2.2.2 (lw_V q2477 q2479 qs72 q133 q2480) rfl rfl rfl (by decide +kernel) ⟨Nat.le_of_ble_eq_true rfl, Nat.le_of_ble_eq_true rfl⟩) rfl hl rfl (Nat.le_of_ble_eq_true rfl) dX3_readsMode_74 ⟨Nat.le_refl _, Nat.le_refl _⟩ (fun H locs hH hS => ?_)
        refine z_aload_n C dX3_readsMode_77 hl 3 rfl ?_
        refine z_iload C dX3_readsMode_78 hl 0 rfl ?_
        refine m_puts C hH hS 16 ⟨by decide, by decide⟩ q2201 rfl ⟨rfl, rfl⟩ dX3_readsMode_80 (fun H locs hH hS => ?_)
        refine z_iconst C dX3_readsMode_83 ?_
        refine m_zret C hret hH hS (by omega) dX3_readsMode_84 ?_
        refine ⟨frSu (frSa Fr.rf rfl) rfl, Or.inr ⟨_, rdM_P hb9 hd (by omega) (by omega), rfl, rfl, q2, fun j h0 h1 => ?_⟩⟩
        show wr (fun _ => q.2.1) (σ 15) f d j = wr (fun _ => q.2.1) q.2.2 (mx0 q.1) d j
        rw [f1.2.2.1]; unfold wr; rw [q3 j h0 h1]
      refine z_iload C dX3_readsMode_40 hl 0 rfl ?_
      refine z_aload_n C dX3_readsMode_42 hl 2 rfl ?_
      refine m_getsZ C hH 9 ⟨by decide, by decide⟩ w (h9) q2194 rfl dX3_readsMode_43 ?_
      refine z_icmpne C dX3_readsMode_46 (tgt := 56) (by decide) ⟨⟨by omega, by omega⟩, ⟨by omega, by omega⟩⟩ (fun c_46 => ?_) (fun c_46 => ?_)
      · refine z_aload_n C dX3_readsMode_56 hl 2 rfl ?_
        refine z_iload C dX3_readsMode_57 hl 0 rfl ?_
        refine z_iconst C dX3_readsMode_59 ?_
        refine m_ViF C hH hS (mm_changeBehind hOk σ b_ 2 w u (by omega) (by omega) (by omega) (by omega) (hu) (hb)) (cwV 2 C.1.2.2.2.2 (lw_V q2371 q2373 qs55 q133 q2374) rfl rfl rfl (by decide +kernel) ⟨Nat.le_of_ble_eq_true rfl, Nat.le_of_ble_eq_true rfl⟩) rfl hl rfl (Nat.le_of_ble_eq_true rfl) dX3_readsMode_60 ⟨Nat.le_refl _, Nat.le_refl _⟩ (fun H locs hH hS => ?_)
        have d1 := chg_ge u 2 w (b_ + 1)
        have d2 := chg_le u 2 (w := w) (i := b_ + 1) (by omega)
        refine z_istore C [(6, .int (iI (chg u 2 w (b_ + 1)))), (5, .int (iI b_)), (4, .int (iI f)), (0, .ref o), (1, .int (iI kd)), (2, .int (iI n1)), (3, .int (iI n2))] dX3_readsMode_63 hl (by decide) rfl (fun ls hl => ?_)
        exact J_65 ((chg u 2 w (b_ + 1))) (by first | rw [if_pos (by omega)] | rw [if_neg (by omega)]) (by omega) _ _ _ hH hS (lv_sub hl [0, 1, 2, 3, 4, 5, 6] rfl)
      · refine z_aload_n C dX3_readsMode_49 hl 2 rfl ?_
        refine m_getsZ C hH 9 ⟨by decide, by decide⟩ w (h9) q2194 rfl dX3_readsMode_50 ?_
        refine z_goto C dX3_readsMode_53 (tgt := 63) (by decide) ?_
        refine z_istore C [(6, .int (iI w)), (5, .int (iI b_)), (4, .int (iI f)), (0, .ref o), (1, .int (iI kd)), (2, .int (iI n1)), (3, .int (iI n2))] dX3_readsMode_63 hl (by decide) rfl (fun ls hl => ?_)
        exact J_65 w (by first | rw [if_pos (by omega)] | rw [if_neg (by omega)]) (by omega) _ _ _ hH hS (lv_sub hl [0, 1, 2, 3, 4, 5, 6] rfl)
  · refine z_iconst C dX3_readsMode_11 ?_
    refine m_zret C hret hH hS (by omega) dX3_readsMode_12 ?_
    exact ⟨Fr.rf, Or.inl ⟨rdM_w (by omega), rfl, rfl⟩⟩
