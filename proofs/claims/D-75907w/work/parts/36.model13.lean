/-! the reference's methods, 13 (written by gen/model13.py) -/
set_option maxRecDepth 100000
set_option maxHeartbeats 1000000 in
theorem mm_see {l : Launch} {D : va_G} {dA : Nat → ClassId} {A : Nat → Prop} {o : Nat} {ad : Nat → Nat} (hOk : mOk o ad) (σ : Sg) (tx : Int → Int) (n : Int) (k : Int) (hT : TxAt σ tx n) (h33 : σ 33 0 = k) (hk0 : 0 ≤ k ∧ k ≤ n) : Met l yX3_see (ws_ yX3_see cX3_see 1 (some .int)) (rmL 1 0 0) (MP D dA A o ad [.ref o] σ) (MQi D dA A o ad (fun r σ' => σ' = σ ∧ r = svZ tx n k)) 0 0 A := by
  refine z_ofW (by decide) rfl ?_
  intro pp ee s0 mm below meth cc0 ls C hret hname hl hH hS
  have hl : lv_has ls 1 [(0, .ref o)] := hl
  obtain ⟨hx1, hx2, hx3, hx4⟩ := hT
  have hT : TxAt σ tx n := ⟨hx1, hx2, hx3, hx4⟩
  refine z_aload_n C dX3_see_0 hl 0 rfl ?_
  refine m_getsZ C hH 33 ⟨by decide, by decide⟩ k (h33) q2218 rfl dX3_see_1 ?_
  refine z_aload_n C dX3_see_4 hl 0 rfl ?_
  refine m_getsZ C hH 32 ⟨by decide, by decide⟩ n (hx1) q2217 rfl dX3_see_5 ?_
  refine z_icmpge C dX3_see_8 (tgt := 27) (by decide) ⟨⟨by omega, by omega⟩, ⟨by omega, by omega⟩⟩ (fun c_8 => ?_) (fun c_8 => ?_)
  · refine z_iconst C dX3_see_27 ?_
    refine m_iret C hret hH hS dX3_see_28 ?_
    refine ⟨rfl, ?_⟩
    unfold svZ; first | (rw [if_pos (show k < n by omega)]; done) | (rw [if_neg (show ¬ k < n by omega)]; done)
  · refine z_aload_n C dX3_see_11 hl 0 rfl ?_
    refine m_geta C hH 31 ⟨by decide, by decide⟩ q2216 rfl dX3_see_12 ?_
    refine z_aload_n C dX3_see_15 hl 0 rfl ?_
    refine m_getsZ C hH 33 ⟨by decide, by decide⟩ k (h33) q2218 rfl dX3_see_16 ?_
    refine m_bald C hOk hH 31 ⟨by decide, by decide⟩ (show 0 ≤ k ∧ k < (900 : Int) by omega) dX3_see_19 ?_
    have v4 := hx4 k
    rw [show σ 31 k = tx k from hx3 k hk0.1 (by omega)]
    refine z_sipush C dX3_see_20 (by decide +kernel) ?_
    refine z_iand C dX3_see_23 ?_
    rw [anB_255 v4]
    refine z_goto C dX3_see_24 (tgt := 28) (by decide) ?_
    refine m_iret C hret hH hS dX3_see_28 ?_
    refine ⟨rfl, ?_⟩
    unfold svZ; first | (rw [if_pos (show k < n by omega)]; done) | (rw [if_neg (show ¬ k < n by omega)]; done)
set_option maxHeartbeats 1000000 in
theorem mm_sortOf {l : Launch} {D : va_G} {dA : Nat → ClassId} {A : Nat → Prop} {o : Nat} {ad : Nat → Nat} (hOk : mOk o ad) (σ : Sg) (v : Int) (h : -1 ≤ v ∧ v ≤ 255) : Met l yX3_sortOf (ws_ yX3_sortOf cX3_sortOf 1 (some .int)) (rmL 2 0 0) (MP D dA A o ad [.int (iI v)] σ) (MQi D dA A o ad (fun r σ' => σ' = σ ∧ r = srt v)) 0 0 A := by
  refine z_ofW (by decide) rfl ?_
  intro pp ee s0 mm below meth cc0 ls C hret hname hl hH hS
  have hl : lv_has ls 1 [(0, .int (iI v))] := hl
  refine z_iload_n C dX3_sortOf_0 hl 0 rfl ?_
  refine z_iconst C dX3_sortOf_1 ?_
  refine z_icmpne C dX3_sortOf_2 (tgt := 7) (by decide) ⟨⟨by omega, by omega⟩, ⟨by omega, by omega⟩⟩ (fun c_2 => ?_) (fun c_2 => ?_)
  · refine z_iload_n C dX3_sortOf_7 hl 0 rfl ?_
    refine z_bipush C dX3_sortOf_8 (by decide +kernel) ?_
    refine z_bipush C dX3_sortOf_10 (by decide +kernel) ?_
    refine m_SiF C hH hS (mm_in hOk σ v 97 122 (⟨by omega, by omega⟩) (⟨by omega, by omega⟩) (⟨by omega, by omega⟩)) (va_cwS 3 C.1.2.2.2.2 (lw_S q2321 q2322 q133 q2323) rfl rfl rfl (by decide +kernel) ⟨Nat.le_of_ble_eq_true rfl, Nat.le_of_ble_eq_true rfl⟩) rfl hl rfl (Nat.le_of_ble_eq_true rfl) dX3_sortOf_12 ⟨Nat.le_refl _, Nat.le_refl _⟩ (fun H locs hH hS => ?_)
    refine z_topi (fun z_12 hz_12 => ?_)
    have q_12 := inZ_or v 97 122
    rw [← hz_12] at q_12
    refine z_ifeq C dX3_sortOf_15 (tgt := 20) (by decide) ⟨by omega, by omega⟩ (fun c_15 => ?_) (fun c_15 => ?_)
    · refine z_iload_n C dX3_sortOf_20 hl 0 rfl ?_
      refine z_bipush C dX3_sortOf_21 (by decide +kernel) ?_
      refine z_bipush C dX3_sortOf_23 (by decide +kernel) ?_
      refine m_SiF C hH hS (mm_in hOk σ v 48 57 (⟨by omega, by omega⟩) (⟨by omega, by omega⟩) (⟨by omega, by omega⟩)) (va_cwS 3 C.1.2.2.2.2 (lw_S q2321 q2322 q133 q2323) rfl rfl rfl (by decide +kernel) ⟨Nat.le_of_ble_eq_true rfl, Nat.le_of_ble_eq_true rfl⟩) rfl hl rfl (Nat.le_of_ble_eq_true rfl) dX3_sortOf_25 ⟨Nat.le_refl _, Nat.le_refl _⟩ (fun H locs hH hS => ?_)
      refine z_topi (fun z_25 hz_25 => ?_)
      have q_25 := inZ_or v 48 57
      rw [← hz_25] at q_25
      refine z_ifeq C dX3_sortOf_28 (tgt := 33) (by decide) ⟨by omega, by omega⟩ (fun c_28 => ?_) (fun c_28 => ?_)
      · refine z_iload_n C dX3_sortOf_33 hl 0 rfl ?_
        refine z_bipush C dX3_sortOf_34 (by decide +kernel) ?_
        refine z_icmpeq C dX3_sortOf_36 (tgt := 45) (by decide) ⟨⟨by omega, by omega⟩, ⟨by omega, by omega⟩⟩ (fun c_36 => ?_) (fun c_36 => ?_)
        · refine z_iconst C dX3_sortOf_45 ?_
          refine z_goto C dX3_sortOf_46 (tgt := 71) (by decide) ?_
          refine m_iret C hret hH hS dX3_sortOf_71 ?_
          refine ⟨rfl, ?_⟩
          unfold srt
          first
            | (rw [if_pos (by omega)]; done)
            | (rw [if_neg (by omega)]; done)
            | rw [if_neg (by omega)]
            | skip
          first
            | (rw [if_pos (by omega)]; done)
            | (rw [if_neg (by omega)]; done)
            | rw [if_neg (by omega)]
            | skip
          first
            | (rw [if_pos (by omega)]; done)
            | (rw [if_neg (by omega)]; done)
            | rw [if_neg (by omega)]
            | skip
          first
            | (rw [if_pos (by omega)]; done)
            | (rw [if_neg (by omega)]; done)
            | rw [if_neg (by omega)]
            | skip
          first
            | (rw [if_pos (by omega)]; done)
            | (rw [if_neg (by omega)]; done)
            | rw [if_neg (by omega)]
            | skip
          first
            | (rw [if_pos (by omega)]; done)
            | (rw [if_neg (by omega)]; done)
            | rw [if_neg (by omega)]
            | skip
          first
            | (rw [if_pos (by omega)]; done)
            | (rw [if_neg (by omega)]; done)
            | rw [if_neg (by omega)]
            | skip
        · refine z_iload_n C dX3_sortOf_39 hl 0 rfl ?_
          refine z_bipush C dX3_sortOf_40 (by decide +kernel) ?_
          refine z_icmpne C dX3_sortOf_42 (tgt := 49) (by decide) ⟨⟨by omega, by omega⟩, ⟨by omega, by omega⟩⟩ (fun c_42 => ?_) (fun c_42 => ?_)
          · refine z_iload_n C dX3_sortOf_49 hl 0 rfl ?_
            refine z_bipush C dX3_sortOf_50 (by decide +kernel) ?_
            refine z_icmpne C dX3_sortOf_52 (tgt := 59) (by decide) ⟨⟨by omega, by omega⟩, ⟨by omega, by omega⟩⟩ (fun c_52 => ?_) (fun c_52 => ?_)
            · refine z_iload_n C dX3_sortOf_59 hl 0 rfl ?_
              refine z_bipush C dX3_sortOf_60 (by decide +kernel) ?_
              refine z_icmpne C dX3_sortOf_62 (tgt := 69) (by decide) ⟨⟨by omega, by omega⟩, ⟨by omega, by omega⟩⟩ (fun c_62 => ?_) (fun c_62 => ?_)
              · refine z_bipush C dX3_sortOf_69 (by decide +kernel) ?_
                refine m_iret C hret hH hS dX3_sortOf_71 ?_
                refine ⟨rfl, ?_⟩
                unfold srt
                first
                  | (rw [if_pos (by omega)]; done)
                  | (rw [if_neg (by omega)]; done)
                  | rw [if_neg (by omega)]
                  | skip
                first
                  | (rw [if_pos (by omega)]; done)
                  | (rw [if_neg (by omega)]; done)
                  | rw [if_neg (by omega)]
                  | skip
                first
                  | (rw [if_pos (by omega)]; done)
                  | (rw [if_neg (by omega)]; done)
                  | rw [if_neg (by omega)]
                  | skip
                first
                  | (rw [if_pos (by omega)]; done)
                  | (rw [if_neg (by omega)]; done)
                  | rw [if_neg (by omega)]
                  | skip
                first
                  | (rw [if_pos (by omega)]; done)
                  | (rw [if_neg (by omega)]; done)
                  | rw [if_neg (by omega)]
                  | skip
                first
                  | (rw [if_pos (by omega)]; done)
                  | (rw [if_neg (by omega)]; done)
                  | rw [if_neg (by omega)]
                  | skip
                first
                  | (rw [if_pos (by omega)]; done)
                  | (rw [if_neg (by omega)]; done)
                  | rw [if_neg (by omega)]
                  | skip
              · refine z_iconst C dX3_sortOf_65 ?_
                refine z_goto C dX3_sortOf_66 (tgt := 71) (by decide) ?_
                refine m_iret C hret hH hS dX3_sortOf_71 ?_
                refine ⟨rfl, ?_⟩
                unfold srt
                first
                  | (rw [if_pos (by omega)]; done)
                  | (rw [if_neg (by omega)]; done)
                  | rw [if_neg (by omega)]
                  | skip
                first
                  | (rw [if_pos (by omega)]; done)
                  | (rw [if_neg (by omega)]; done)
                  | rw [if_neg (by omega)]
                  | skip
                first
                  | (rw [if_pos (by omega)]; done)
                  | (rw [if_neg (by omega)]; done)
                  | rw [if_neg (by omega)]
                  | skip
                first
                  | (rw [if_pos (by omega)]; done)
                  | (rw [if_neg (by omega)]; done)
                  | rw [if_neg (by omega)]
                  | skip
                first
                  | (rw [if_pos (by omega)]; done)
                  | (rw [if_neg (by omega)]; done)
                  | rw [if_neg (by omega)]
                  | skip
                first
                  | (rw [if_pos (by omega)]; done)
                  | (rw [if_neg (by omega)]; done)
                  | rw [if_neg (by omega)]
                  | skip
                first
                  | (rw [if_pos (by omega)]; done)
                  | (rw [if_neg (by omega)]; done)
                  | rw [if_neg (by omega)]
                  | skip
            · refine z_iconst C dX3_sortOf_55 ?_
              refine z_goto C dX3_sortOf_56 (tgt := 71) (by decide) ?_
              refine m_iret C hret hH hS dX3_sortOf_71 ?_
              refine ⟨rfl, ?_⟩
              unfold srt
              first
                | (rw [if_pos (by omega)]; done)
                | (rw [if_neg (by omega)]; done)
                | rw [if_neg (by omega)]
                | skip
              first
                | (rw [if_pos (by omega)]; done)
                | (rw [if_neg (by omega)]; done)
                | rw [if_neg (by omega)]
                | skip
              first
                | (rw [if_pos (by omega)]; done)
                | (rw [if_neg (by omega)]; done)
                | rw [if_neg (by omega)]
                | skip
              first
                | (rw [if_pos (by omega)]; done)
                | (rw [if_neg (by omega)]; done)
                | rw [if_neg (by omega)]
                | skip
              first
                | (rw [if_pos (by omega)]; done)
                | (rw [if_neg (by omega)]; done)
                | rw [if_neg (by omega)]
                | skip
              first
                | (rw [if_pos (by omega)]; done)
                | (rw [if_neg (by omega)]; done)
                | rw [if_neg (by omega)]
                | skip
              first
                | (rw [if_pos (by omega)]; done)
                | (rw [if_neg (by omega)]; done)
                | rw [if_neg (by omega)]
                | skip
          · refine z_iconst C dX3_sortOf_45 ?_
            refine z_goto C dX3_sortOf_46 (tgt := 71) (by decide) ?_
            refine m_iret C hret hH hS dX3_sortOf_71 ?_
            refine ⟨rfl, ?_⟩
            unfold srt
            first
              | (rw [if_pos (by omega)]; done)
              | (rw [if_neg (by omega)]; done)
              | rw [if_neg (by omega)]
              | skip
            first
              | (rw [if_pos (by omega)]; done)
              | (rw [if_neg (by omega)]; done)
              | rw [if_neg (by omega)]
              | skip
            first
              | (rw [if_pos (by omega)]; done)
              | (rw [if_neg (by omega)]; done)
              | rw [if_neg (by omega)]
              | skip
            first
              | (rw [if_pos (by omega)]; done)
              | (rw [if_neg (by omega)]; done)
              | rw [if_neg (by omega)]
              | skip
            first
              | (rw [if_pos (by omega)]; done)
              | (rw [if_neg (by omega)]; done)
              | rw [if_neg (by omega)]
              | skip
            first
              | (rw [if_pos (by omega)]; done)
              | (rw [if_neg (by omega)]; done)
              | rw [if_neg (by omega)]
              | skip
            first
              | (rw [if_pos (by omega)]; done)
              | (rw [if_neg (by omega)]; done)
              | rw [if_neg (by omega)]
              | skip
      · refine z_iconst C dX3_sortOf_31 ?_
        refine m_iret C hret hH hS dX3_sortOf_32 ?_
        refine ⟨rfl, ?_⟩
        unfold srt
        first
          | (rw [if_pos (by omega)]; done)
          | (rw [if_neg (by omega)]; done)
          | rw [if_neg (by omega)]
          | skip
        first
          | (rw [if_pos (by omega)]; done)
          | (rw [if_neg (by omega)]; done)
          | rw [if_neg (by omega)]
          | skip
        first
          | (rw [if_pos (by omega)]; done)
          | (rw [if_neg (by omega)]; done)
          | rw [if_neg (by omega)]
          | skip
        first
          | (rw [if_pos (by omega)]; done)
          | (rw [if_neg (by omega)]; done)
          | rw [if_neg (by omega)]
          | skip
        first
          | (rw [if_pos (by omega)]; done)
          | (rw [if_neg (by omega)]; done)
          | rw [if_neg (by omega)]
          | skip
        first
          | (rw [if_pos (by omega)]; done)
          | (rw [if_neg (by omega)]; done)
          | rw [if_neg (by omega)]
          | skip
        first
          | (rw [if_pos (by omega)]; done)
          | (rw [if_neg (by omega)]; done)
          | rw [if_neg (by omega)]
          | skip
    · refine z_iconst C dX3_sortOf_18 ?_
      refine m_iret C hret hH hS dX3_sortOf_19 ?_
      refine ⟨rfl, ?_⟩
      unfold srt
      first
        | (rw [if_pos (by omega)]; done)
        | (rw [if_neg (by omega)]; done)
        | rw [if_neg (by omega)]
        | skip
      first
        | (rw [if_pos (by omega)]; done)
        | (rw [if_neg (by omega)]; done)
        | rw [if_neg (by omega)]
        | skip
      first
        | (rw [if_pos (by omega)]; done)
        | (rw [if_neg (by omega)]; done)
        | rw [if_neg (by omega)]
        | skip
      first
        | (rw [if_pos (by omega)]; done)
        | (rw [if_neg (by omega)]; done)
        | rw [if_neg (by omega)]
        | skip
      first
        | (rw [if_pos (by omega)]; done)
        | (rw [if_neg (by omega)]; done)
        | rw [if_neg (by omega)]
        | skip
      first
        | (rw [if_pos (by omega)]; done)
        | (rw [if_neg (by omega)]; done)
        | rw [if_neg (by omega)]
        | skip
      first
        | (rw [if_pos (by omega)]; done)
        | (rw [if_neg (by omega)]; done)
        | rw [if_neg (by omega)]
        | skip
  · refine z_iconst C dX3_sortOf_5 ?_
    refine m_iret C hret hH hS dX3_sortOf_6 ?_
    refine ⟨rfl, ?_⟩
    unfold srt
    first
      | (rw [if_pos (by omega)]; done)
      | (rw [if_neg (by omega)]; done)
      | rw [if_neg (by omega)]
      | skip
    first
      | (rw [if_pos (by omega)]; done)
      | (rw [if_neg (by omega)]; done)
      | rw [if_neg (by omega)]
      | skip
    first
      | (rw [if_pos (by omega)]; done)
      | (rw [if_neg (by omega)]; done)
      | rw [if_neg (by omega)]
      | skip
    first
      | (rw [if_pos (by omega)]; done)
      | (rw [if_neg (by omega)]; done)
      | rw [if_neg (by omega)]
      | skip
    first
      | (rw [if_pos (by omega)]; done)
      | (rw [if_neg (by omega)]; done)
      | rw [if_neg (by omega)]
      | skip
    first
      | (rw [if_pos (by omega)]; done)
      | (rw [if_neg (by omega)]; done)
      | rw [if_neg (by omega)]
      | skip
    first
      | (rw [if_pos (by omega)]; done)
      | (rw [if_neg (by omega)]; done)
      | rw [if_neg (by omega)]
      | skip
set_option maxHeartbeats 1000000 in
theorem mm_must {l : Launch} {D : va_G} {dA : Nat → ClassId} {A : Nat → Prop} {o : Nat} {ad : Nat → Nat} (hOk : mOk o ad) (σ : Sg) (b : Int) (cd : Int) (tx : Int → Int) (n : Int) (r : Er LX) (hp : PX σ tx n r) (hb : b = 0 ∨ b = 1) (hc : 1 ≤ cd ∧ cd ≤ 5) : Met l yX3_must (ws_ yX3_must cX3_must 3 none) (rmL 1 0 0) (MP D dA A o ad [.ref o, .int (iI b), .int (iI cd)] σ) (MQv D dA A o ad (fun σ' => PX σ' tx n (ndE r (decide (b = 1)) cd) ∧ Fr [37, 38] σ σ')) 0 0 A := by
  refine z_ofW (by decide) rfl ?_
  intro pp ee s0 mm below meth cc0 ls C hret hname hl hH hS
  have hl : lv_has ls 3 [(0, .ref o), (1, .int (iI b)), (2, .int (iI cd))] := hl
  obtain ⟨hT, hR, hE⟩ := hp
  have hp : PX σ tx n r := ⟨hT, hR, hE⟩
  obtain ⟨hx1, hx2, hx3, hx4⟩ := hT
  have hT : TxAt σ tx n := ⟨hx1, hx2, hx3, hx4⟩
  obtain ⟨g1, g2, g3, g4, g5, g6, g7, g8, g9⟩ := hR
  have hR : LxR σ n := ⟨g1, g2, g3, g4, g5, g6, g7, g8, g9⟩
  refine z_iload_n C dX3_must_0 hl 1 rfl ?_
  refine z_ifne C dX3_must_1 (tgt := 24) (by decide) ⟨by omega, by omega⟩ (fun c_1 => ?_) (fun c_1 => ?_)
  · refine m_vret C hret hH hS dX3_must_24 ?_
    cases r with
    | inl er =>
      have h1 := hE.1
      have h2 := hE.2.2
      first | (exfalso; omega) | exact ⟨hp, Fr.rf⟩
    | inr xx =>
      have h1 := hE.1
      have h2 := hE.2.1.2.1
      first
        | (exfalso; omega)
        | (refine ⟨?_, Fr.rf⟩; show PX σ tx n (if decide (b = 1) = true then .inr xx else .inl (cd, xx.2.1)); rw [if_pos (decide_eq_true (by omega))]; exact hp)
        | (refine ⟨?_, frSu (frSu Fr.rf rfl) rfl⟩
           show PX _ tx n (if decide (b = 1) = true then .inr xx else .inl (cd, xx.2.1))
           rw [if_neg (fun h => by have := of_decide_eq_true h; omega)]
           exact ⟨hT.fr rfl rfl, ⟨g1, g2, g3, g4, g5, g6, g7, (show 0 ≤ cd by omega), (show cd ≤ 5 by omega)⟩, rfl, h2, (show 1 ≤ cd by omega)⟩)
  · refine z_aload_n C dX3_must_4 hl 0 rfl ?_
    refine m_getsZ C hH 37 ⟨by decide, by decide⟩ (σ 37 0) rfl q2222 rfl dX3_must_5 ?_
    refine z_ifne C dX3_must_8 (tgt := 24) (by decide) ⟨by omega, by omega⟩ (fun c_8 => ?_) (fun c_8 => ?_)
    · refine m_vret C hret hH hS dX3_must_24 ?_
      cases r with
      | inl er =>
        have h1 := hE.1
        have h2 := hE.2.2
        first | (exfalso; omega) | exact ⟨hp, Fr.rf⟩
      | inr xx =>
        have h1 := hE.1
        have h2 := hE.2.1.2.1
        first
          | (exfalso; omega)
          | (refine ⟨?_, Fr.rf⟩; show PX σ tx n (if decide (b = 1) = true then .inr xx else .inl (cd, xx.2.1)); rw [if_pos (decide_eq_true (by omega))]; exact hp)
          | (refine ⟨?_, frSu (frSu Fr.rf rfl) rfl⟩
             show PX _ tx n (if decide (b = 1) = true then .inr xx else .inl (cd, xx.2.1))
             rw [if_neg (fun h => by have := of_decide_eq_true h; omega)]
             exact ⟨hT.fr rfl rfl, ⟨g1, g2, g3, g4, g5, g6, g7, (show 0 ≤ cd by omega), (show cd ≤ 5 by omega)⟩, rfl, h2, (show 1 ≤ cd by omega)⟩)
    · refine z_aload_n C dX3_must_11 hl 0 rfl ?_
      refine z_iload_n C dX3_must_12 hl 2 rfl ?_
      refine m_puts C hH hS 37 ⟨by decide, by decide⟩ q2222 rfl ⟨rfl, rfl⟩ dX3_must_13 (fun H locs hH hS => ?_)
      refine z_aload_n C dX3_must_16 hl 0 rfl ?_
      refine z_aload_n C dX3_must_17 hl 0 rfl ?_
      refine m_getsZ C hH 34 ⟨by decide, by decide⟩ (σ 34 0) rfl q2219 rfl dX3_must_18 ?_
      refine m_puts C hH hS 38 ⟨by decide, by decide⟩ q2223 rfl ⟨rfl, rfl⟩ dX3_must_21 (fun H locs hH hS => ?_)
      refine m_vret C hret hH hS dX3_must_24 ?_
      cases r with
      | inl er =>
        have h1 := hE.1
        have h2 := hE.2.2
        first | (exfalso; omega) | exact ⟨hp, Fr.rf⟩
      | inr xx =>
        have h1 := hE.1
        have h2 := hE.2.1.2.1
        first
          | (exfalso; omega)
          | (refine ⟨?_, Fr.rf⟩; show PX σ tx n (if decide (b = 1) = true then .inr xx else .inl (cd, xx.2.1)); rw [if_pos (decide_eq_true (by omega))]; exact hp)
          | (refine ⟨?_, frSu (frSu Fr.rf rfl) rfl⟩
             show PX _ tx n (if decide (b = 1) = true then .inr xx else .inl (cd, xx.2.1))
             rw [if_neg (fun h => by have := of_decide_eq_true h; omega)]
             exact ⟨hT.fr rfl rfl, ⟨g1, g2, g3, g4, g5, g6, g7, (show 0 ≤ cd by omega), (show cd ≤ 5 by omega)⟩, rfl, h2, (show 1 ≤ cd by omega)⟩)
set_option maxHeartbeats 1000000 in
theorem mm_advances {l : Launch} {D : va_G} {dA : Nat → ClassId} {A : Nat → Prop} {o : Nat} {ad : Nat → Nat} (hOk : mOk o ad) (σ : Sg) (tx : Int → Int) (n : Int) (a : Int) (hT : TxAt σ tx n) (h33 : σ 33 0 = a) (ha : 0 ≤ a ∧ a ≤ n) : Met l yX3_advances (ws_ yX3_advances cX3_advances 1 none) (rmL 3 0 0) (MP D dA A o ad [.ref o] σ) (MQv D dA A o ad (fun σ' => LxAt σ' (nxt tx n a) ∧ 0 ≤ σ' 36 0 ∧ σ' 36 0 ≤ 200000 ∧ Fr [33, 34, 35, 36] σ σ')) 0 0 A := by
  refine z_ofW (by decide) rfl ?_
  intro pp ee s0 mm below meth cc0 ls C hret hname hl hH hS
  have hl : lv_has ls 1 [(0, .ref o)] := hl
  obtain ⟨hx1, hx2, hx3, hx4⟩ := hT
  have hT : TxAt σ tx n := ⟨hx1, hx2, hx3, hx4⟩
  have J_0 : ∀ (fu : Nat) (k : Int) (s1 : Sg), (n - k).toNat < fu → (a ≤ k ∧ k ≤ n) → (s1 33 0 = k) → (skp tx n a = skp tx n k) → (Fr [33, 34, 35, 36] σ s1) → ∀ (H : Heap) (locs : List Loc) (ls : Array Slot), MH D dA A o ad s1 H → va_S A s0.heap H locs → lv_has ls 1 [(0, .ref o)] → W pp l ee (rmL 3 0 0) s0 mm ([.ref o] : List Value).toArray below meth cc0 H locs 0 0 (MQ below (MQv D dA A o ad (fun σ' => LxAt σ' (nxt tx n a) ∧ 0 ≤ σ' 36 0 ∧ σ' 36 0 ≤ 200000 ∧ Fr [33, 34, 35, 36] σ σ')) ([.ref o] : List Value).toArray s0 0 0 A) (F0 mm 0 ls []) := by
    intro fu
    induction fu with
    | zero => intro k s1 hn; exact absurd hn (Nat.not_lt_zero _)
    | succ fu ih_0 =>
      intro k s1 hn hk0 hk hs hf H locs ls hH hS hl
      have s1T : TxAt s1 tx n := hT.fr (hf.at 31 rfl) (hf.at 32 rfl)
      have sv := svZ_in (n := n) (k := k) hx4
      have svn : svZ tx n k = 32 ∨ svZ tx n k = 10 → k < n := fun h => by
        by_cases hh : k < n
        · exact hh
        · unfold svZ at h; rw [if_neg hh] at h; omega
      refine z_aload_n C dX3_advances_0 hl 0 rfl ?_
      refine m_ViF C hH hS (mm_see hOk s1 tx n k (s1T) (hk) (⟨by omega, by omega⟩)) (cwV 0 C.1.2.2.2.2 (lw_V q2639 q2641 qs90 q133 q2642) rfl rfl rfl (by decide +kernel) ⟨Nat.le_of_ble_eq_true rfl, Nat.le_of_ble_eq_true rfl⟩) rfl hl rfl (Nat.le_of_ble_eq_true rfl) dX3_advances_1 ⟨Nat.le_refl _, Nat.le_refl _⟩ (fun H locs hH hS => ?_)
      refine z_bipush C dX3_advances_4 (by decide +kernel) ?_
      refine z_icmpeq C dX3_advances_6 (tgt := 18) (by decide) ⟨⟨by omega, by omega⟩, ⟨by omega, by omega⟩⟩ (fun c_6 => ?_) (fun c_6 => ?_)
      · have svn2 := svn (by omega)
        refine z_aload_n C dX3_advances_18 hl 0 rfl ?_
        refine z_dup C dX3_advances_19 rfl ?_
        refine m_getsZ C hH 33 ⟨by decide, by decide⟩ k (hk) q2218 rfl dX3_advances_20 ?_
        refine z_iconst C dX3_advances_23 ?_
        refine z_iadd C dX3_advances_24 ?_
        refine m_puts C hH hS 33 ⟨by decide, by decide⟩ q2218 rfl ⟨rfl, rfl⟩ dX3_advances_25 (fun H locs hH hS => ?_)
        refine z_goto C dX3_advances_28 (tgt := 0) (by decide) ?_
        exact ih_0 ((k + 1)) ((su s1 33 0 (k + 1))) (by omega) (by omega) (su_self _ _ _ _) (by rw [hs]; unfold skp; rw [fnd_go (show k < n by omega) (by rw [if_pos (by omega)]; decide)]) (frSu hf rfl) _ _ _ hH hS (lv_sub hl [0] rfl)
      · refine z_aload_n C dX3_advances_9 hl 0 rfl ?_
        refine m_ViF C hH hS (mm_see hOk s1 tx n k (s1T) (hk) (⟨by omega, by omega⟩)) (cwV 0 C.1.2.2.2.2 (lw_V q2639 q2641 qs90 q133 q2642) rfl rfl rfl (by decide +kernel) ⟨Nat.le_of_ble_eq_true rfl, Nat.le_of_ble_eq_true rfl⟩) rfl hl rfl (Nat.le_of_ble_eq_true rfl) dX3_advances_10 ⟨Nat.le_refl _, Nat.le_refl _⟩ (fun H locs hH hS => ?_)
        refine z_bipush C dX3_advances_13 (by decide +kernel) ?_
        refine z_icmpne C dX3_advances_15 (tgt := 31) (by decide) ⟨⟨by omega, by omega⟩, ⟨by omega, by omega⟩⟩ (fun c_15 => ?_) (fun c_15 => ?_)
        · have hsk2 : skp tx n a = k := by
            rw [hs]; unfold skp
            by_cases hh : k < n
            · exact fnd_at (by rw [if_neg (by omega)])
            · exact fnd_end (by omega)
          refine z_aload_n C dX3_advances_31 hl 0 rfl ?_
          refine z_aload_n C dX3_advances_32 hl 0 rfl ?_
          refine m_getsZ C hH 33 ⟨by decide, by decide⟩ k (hk) q2218 rfl dX3_advances_33 ?_
          refine m_puts C hH hS 34 ⟨by decide, by decide⟩ q2219 rfl ⟨rfl, rfl⟩ dX3_advances_36 (fun H locs hH hS => ?_)
          refine z_aload_n C dX3_advances_39 hl 0 rfl ?_
          refine z_aload_n C dX3_advances_40 hl 0 rfl ?_
          refine m_ViF C hH hS (mm_see hOk (su s1 34 0 k) tx n k (s1T.fr rfl rfl) (by show s1 33 0 = k; exact hk) (⟨by omega, by omega⟩)) (cwV 0 C.1.2.2.2.2 (lw_V q2639 q2641 qs90 q133 q2642) rfl rfl rfl (by decide +kernel) ⟨Nat.le_of_ble_eq_true rfl, Nat.le_of_ble_eq_true rfl⟩) rfl hl rfl (Nat.le_of_ble_eq_true rfl) dX3_advances_41 ⟨Nat.le_refl _, Nat.le_refl _⟩ (fun H locs hH hS => ?_)
          refine m_SiF C hH hS (mm_sortOf hOk ((su s1 34 0 k)) (svZ tx n k) (sv)) (va_cwS 1 C.1.2.2.2.2 (lw_S q2643 q2644 q133 q2645) rfl rfl rfl (by decide +kernel) ⟨Nat.le_of_ble_eq_true rfl, Nat.le_of_ble_eq_true rfl⟩) rfl hl rfl (Nat.le_of_ble_eq_true rfl) dX3_advances_44 ⟨Nat.le_refl _, Nat.le_refl _⟩ (fun H locs hH hS => ?_)
          refine z_topi (fun tk htk => ?_)
          have htk2 : lxS tx n k = tk := htk.symm
          have tkr := lxS_in tx n k
          rw [htk2] at tkr
          have kn : tk ≠ 0 → k < n := fun h => by
            by_cases hh : k < n
            · exact hh
            · exact absurd (lxS_end (show n ≤ k by omega)) (by rw [htk2]; exact h)
          refine m_puts C hH hS 35 ⟨by decide, by decide⟩ q2220 rfl ⟨rfl, rfl⟩ dX3_advances_47 (fun H locs hH hS => ?_)
          refine z_aload_n C dX3_advances_50 hl 0 rfl ?_
          refine z_iconst C dX3_advances_51 ?_
          refine m_puts C hH hS 36 ⟨by decide, by decide⟩ q2221 rfl ⟨rfl, rfl⟩ dX3_advances_52 (fun H locs hH hS => ?_)
          refine z_aload_n C dX3_advances_55 hl 0 rfl ?_
          refine z_dup C dX3_advances_56 rfl ?_
          refine m_getsZ C hH 33 ⟨by decide, by decide⟩ k (by show s1 33 0 = k; exact hk) q2218 rfl dX3_advances_57 ?_
          refine z_aload_n C dX3_advances_60 hl 0 rfl ?_
          refine m_getsZ C hH 35 ⟨by decide, by decide⟩ tk rfl q2220 rfl dX3_advances_61 ?_
          refine z_iconst C dX3_advances_64 ?_
          refine z_icmplt C dX3_advances_65 (tgt := 72) (by decide) ⟨⟨by omega, by omega⟩, ⟨by omega, by omega⟩⟩ (fun c_65 => ?_) (fun c_65 => ?_)
          · refine z_iconst C dX3_advances_72 ?_
            refine z_iadd C dX3_advances_73 ?_
            refine m_puts C hH hS 33 ⟨by decide, by decide⟩ q2218 rfl ⟨rfl, rfl⟩ dX3_advances_74 (fun H locs hH hS => ?_)
            have J_77 : ∀ (fu : Nat) (k2 : Int) (nm : Int) (s2 : Sg), (n - k2).toNat < fu → (k ≤ k2 ∧ k2 ≤ n) → (s2 33 0 = k2) → (s2 34 0 = k) → (s2 35 0 = tk) → (s2 36 0 = nm) → (0 ≤ nm ∧ nm ≤ 200000) → (Fr [33, 34, 35, 36] σ s2) → (tkE tx n k = (if 1 ≤ tk ∧ tk ≤ 3 then fnd (fun j => if lxS tx n j = tk then 0 else 1) 1 n k2 else k2)) → (mn nm = (if tk = 2 then nbK tx k (k2 - k).toNat else 0)) → ∀ (H : Heap) (locs : List Loc) (ls : Array Slot), MH D dA A o ad s2 H → va_S A s0.heap H locs → lv_has ls 1 [(0, .ref o)] → W pp l ee (rmL 3 0 0) s0 mm ([.ref o] : List Value).toArray below meth cc0 H locs 0 0 (MQ below (MQv D dA A o ad (fun σ' => LxAt σ' (nxt tx n a) ∧ 0 ≤ σ' 36 0 ∧ σ' 36 0 ≤ 200000 ∧ Fr [33, 34, 35, 36] σ σ')) ([.ref o] : List Value).toArray s0 0 0 A) (F0 mm 77 ls []) := by
              intro fu
              induction fu with
              | zero => intro k2 nm s2 hn; exact absurd hn (Nat.not_lt_zero _)
              | succ fu ih_77 =>
                intro k2 nm s2 hn hk2 h2k h2s h2t h2n hnm hf2 ht hnb H locs ls hH hS hl
                refine z_aload_n C dX3_advances_77 hl 0 rfl ?_
                refine m_getsZ C hH 35 ⟨by decide, by decide⟩ tk (h2t) q2220 rfl dX3_advances_78 ?_
                refine z_iconst C dX3_advances_81 ?_
                refine z_iconst C dX3_advances_82 ?_
                refine m_SiF C hH hS (mm_in hOk s2 tk 1 3 (⟨by omega, by omega⟩) (⟨by omega, by omega⟩) (⟨by omega, by omega⟩)) (va_cwS 3 C.1.2.2.2.2 (lw_S q2321 q2322 q133 q2323) rfl rfl rfl (by decide +kernel) ⟨Nat.le_of_ble_eq_true rfl, Nat.le_of_ble_eq_true rfl⟩) rfl hl rfl (Nat.le_of_ble_eq_true rfl) dX3_advances_83 ⟨Nat.le_refl _, Nat.le_refl _⟩ (fun H locs hH hS => ?_)
                refine z_topi (fun z_83 hz_83 => ?_)
                have q_83 := inZ_or tk 1 3
                rw [← hz_83] at q_83
                refine z_ifeq C dX3_advances_86 (tgt := 160) (by decide) ⟨by omega, by omega⟩ (fun c_86 => ?_) (fun c_86 => ?_)
                · refine m_vret C hret hH hS dX3_advances_160 ?_
                  have e : nxt tx n a = (tkE tx n k, k, lxS tx n k, if lxS tx n k = 2 then nbK tx k (tkE tx n k - k).toNat else 0) := by unfold nxt; rw [hsk2]
                  have e2 : tkE tx n k = k2 := by
                    rw [ht]
                    first
                      | (rw [if_neg (by omega)]; done)
                      | (rw [if_pos (by omega)]
                         by_cases hh : k2 < n
                         · exact fnd_at (by rw [if_neg (by omega)])
                         · exact fnd_end (by omega))
                  refine ⟨?_, by omega, by omega, hf2⟩
                  rw [e, e2, htk2]
                  exact ⟨h2k, h2s, h2t, by rw [h2n]; exact hnb⟩
                · refine z_aload_n C dX3_advances_89 hl 0 rfl ?_
                  refine m_ViF C hH hS (mm_see hOk s2 tx n k2 (hT.fr (hf2.at 31 rfl) (hf2.at 32 rfl)) (h2k) (⟨by omega, by omega⟩)) (cwV 0 C.1.2.2.2.2 (lw_V q2639 q2641 qs90 q133 q2642) rfl rfl rfl (by decide +kernel) ⟨Nat.le_of_ble_eq_true rfl, Nat.le_of_ble_eq_true rfl⟩) rfl hl rfl (Nat.le_of_ble_eq_true rfl) dX3_advances_90 ⟨Nat.le_refl _, Nat.le_refl _⟩ (fun H locs hH hS => ?_)
                  refine m_SiF C hH hS (mm_sortOf hOk s2 (svZ tx n k2) (svZ_in hx4)) (va_cwS 1 C.1.2.2.2.2 (lw_S q2643 q2644 q133 q2645) rfl rfl rfl (by decide +kernel) ⟨Nat.le_of_ble_eq_true rfl, Nat.le_of_ble_eq_true rfl⟩) rfl hl rfl (Nat.le_of_ble_eq_true rfl) dX3_advances_93 ⟨Nat.le_refl _, Nat.le_refl _⟩ (fun H locs hH hS => ?_)
                  refine z_topi (fun tj htj => ?_)
                  have htj2 : lxS tx n k2 = tj := htj.symm
                  have tjr := lxS_in tx n k2
                  rw [htj2] at tjr
                  refine z_aload_n C dX3_advances_96 hl 0 rfl ?_
                  refine m_getsZ C hH 35 ⟨by decide, by decide⟩ tk (h2t) q2220 rfl dX3_advances_97 ?_
                  refine z_icmpne C dX3_advances_100 (tgt := 160) (by decide) ⟨⟨by omega, by omega⟩, ⟨by omega, by omega⟩⟩ (fun c_100 => ?_) (fun c_100 => ?_)
                  · refine m_vret C hret hH hS dX3_advances_160 ?_
                    have e : nxt tx n a = (tkE tx n k, k, lxS tx n k, if lxS tx n k = 2 then nbK tx k (tkE tx n k - k).toNat else 0) := by unfold nxt; rw [hsk2]
                    have e2 : tkE tx n k = k2 := by
                      rw [ht]
                      first
                        | (rw [if_neg (by omega)]; done)
                        | (rw [if_pos (by omega)]
                           by_cases hh : k2 < n
                           · exact fnd_at (by rw [if_neg (by omega)])
                           · exact fnd_end (by omega))
                    refine ⟨?_, by omega, by omega, hf2⟩
                    rw [e, e2, htk2]
                    exact ⟨h2k, h2s, h2t, by rw [h2n]; exact hnb⟩
                  · have kn2 : k2 < n := by
                      by_cases hh : k2 < n
                      · exact hh
                      · exact absurd (lxS_end (show n ≤ k2 by omega)) (by rw [htj2]; omega)
                    have dg : tk = 2 → svZ tx n k2 = tx k2 ∧ 48 ≤ tx k2 ∧ tx k2 ≤ 57 := fun h => sv_dig hx4 (by omega)
                    refine z_aload_n C dX3_advances_103 hl 0 rfl ?_
                    refine z_aload_n C dX3_advances_104 hl 0 rfl ?_
                    refine m_getsZ C hH 35 ⟨by decide, by decide⟩ tk (h2t) q2220 rfl dX3_advances_105 ?_
                    refine z_iconst C dX3_advances_108 ?_
                    refine z_icmpne C dX3_advances_109 (tgt := 122) (by decide) ⟨⟨by omega, by omega⟩, ⟨by omega, by omega⟩⟩ (fun c_109 => ?_) (fun c_109 => ?_)
                    · refine z_aload_n C dX3_advances_122 hl 0 rfl ?_
                      refine m_getsZ C hH 36 ⟨by decide, by decide⟩ nm (h2n) q2221 rfl dX3_advances_123 ?_
                      refine z_goto C dX3_advances_126 (tgt := 144) (by decide) ?_
                      refine m_puts C hH hS 36 ⟨by decide, by decide⟩ q2221 rfl ⟨rfl, rfl⟩ dX3_advances_144 (fun H locs hH hS => ?_)
                      refine z_aload_n C dX3_advances_147 hl 0 rfl ?_
                      refine z_dup C dX3_advances_148 rfl ?_
                      refine m_getsZ C hH 33 ⟨by decide, by decide⟩ k2 (by show s2 33 0 = k2; exact h2k) q2218 rfl dX3_advances_149 ?_
                      refine z_iconst C dX3_advances_152 ?_
                      refine z_iadd C dX3_advances_153 ?_
                      refine m_puts C hH hS 33 ⟨by decide, by decide⟩ q2218 rfl ⟨rfl, rfl⟩ dX3_advances_154 (fun H locs hH hS => ?_)
                      refine z_goto C dX3_advances_157 (tgt := 77) (by decide) ?_
                      exact ih_77 ((k2 + 1)) nm ((su (su s2 36 0 nm) 33 0 (k2 + 1))) (by omega) (by omega) (su_self _ _ _ _) (h2s) (h2t) (rfl) (by omega) (frSu (frSu hf2 rfl) rfl) (by rw [ht, if_pos (by omega), if_pos (by omega), fnd_go (show k2 < n by omega) (by rw [if_pos (show lxS tx n k2 = tk by omega)]; decide)]) (by
                        by_cases h2 : tk = 2
                        · have d2 := dg h2
                          rw [if_pos h2] at hnb ⊢
                          rw [nbK_go hk2.1, ← hnb, mn_big (by omega) (by omega)]
                        · rw [if_neg h2] at hnb ⊢; exact hnb) _ _ _ hH hS (lv_sub hl [0] rfl)
                    · refine z_aload_n C dX3_advances_112 hl 0 rfl ?_
                      refine m_getsZ C hH 36 ⟨by decide, by decide⟩ nm (h2n) q2221 rfl dX3_advances_113 ?_
                      refine z_sipush C dX3_advances_116 (by decide +kernel) ?_
                      refine z_icmple C dX3_advances_119 (tgt := 129) (by decide) ⟨⟨by omega, by omega⟩, ⟨by omega, by omega⟩⟩ (fun c_119 => ?_) (fun c_119 => ?_)
                      · have d2 := dg (by omega)
                        refine z_bipush C dX3_advances_129 (by decide +kernel) ?_
                        refine z_aload_n C dX3_advances_131 hl 0 rfl ?_
                        refine m_getsZ C hH 36 ⟨by decide, by decide⟩ nm (h2n) q2221 rfl dX3_advances_132 ?_
                        refine z_imul C dX3_advances_135 ?_
                        refine z_aload_n C dX3_advances_136 hl 0 rfl ?_
                        refine m_ViF C hH hS (mm_see hOk s2 tx n k2 (hT.fr (hf2.at 31 rfl) (hf2.at 32 rfl)) (h2k) (⟨by omega, by omega⟩)) (cwV 0 C.1.2.2.2.2 (lw_V q2639 q2641 qs90 q133 q2642) rfl rfl rfl (by decide +kernel) ⟨Nat.le_of_ble_eq_true rfl, Nat.le_of_ble_eq_true rfl⟩) rfl hl rfl (Nat.le_of_ble_eq_true rfl) dX3_advances_137 ⟨Nat.le_refl _, Nat.le_refl _⟩ (fun H locs hH hS => ?_)
                        refine z_iadd C dX3_advances_140 ?_
                        refine z_bipush C dX3_advances_141 (by decide +kernel) ?_
                        refine z_isub C dX3_advances_143 ?_
                        refine m_puts C hH hS 36 ⟨by decide, by decide⟩ q2221 rfl ⟨rfl, rfl⟩ dX3_advances_144 (fun H locs hH hS => ?_)
                        refine z_aload_n C dX3_advances_147 hl 0 rfl ?_
                        refine z_dup C dX3_advances_148 rfl ?_
                        refine m_getsZ C hH 33 ⟨by decide, by decide⟩ k2 (by show s2 33 0 = k2; exact h2k) q2218 rfl dX3_advances_149 ?_
                        refine z_iconst C dX3_advances_152 ?_
                        refine z_iadd C dX3_advances_153 ?_
                        refine m_puts C hH hS 33 ⟨by decide, by decide⟩ q2218 rfl ⟨rfl, rfl⟩ dX3_advances_154 (fun H locs hH hS => ?_)
                        refine z_goto C dX3_advances_157 (tgt := 77) (by decide) ?_
                        exact ih_77 ((k2 + 1)) ((10 * nm + svZ tx n k2 - 48)) ((su (su s2 36 0 (((10 * nm) + (svZ tx n k2)) - 48)) 33 0 (k2 + 1))) (by omega) (by omega) (su_self _ _ _ _) (h2s) (h2t) (rfl) (by omega) (frSu (frSu hf2 rfl) rfl) (by rw [ht, if_pos (by omega), if_pos (by omega), fnd_go (show k2 < n by omega) (by rw [if_pos (show lxS tx n k2 = tk by omega)]; decide)]) (by
                          rw [if_pos (by omega)] at hnb ⊢
                          rw [nbK_go hk2.1, ← hnb, mn_step hnm.1 (by omega), d2.1]
                          congr 1; omega) _ _ _ hH hS (lv_sub hl [0] rfl)
                      · refine z_aload_n C dX3_advances_122 hl 0 rfl ?_
                        refine m_getsZ C hH 36 ⟨by decide, by decide⟩ nm (h2n) q2221 rfl dX3_advances_123 ?_
                        refine z_goto C dX3_advances_126 (tgt := 144) (by decide) ?_
                        refine m_puts C hH hS 36 ⟨by decide, by decide⟩ q2221 rfl ⟨rfl, rfl⟩ dX3_advances_144 (fun H locs hH hS => ?_)
                        refine z_aload_n C dX3_advances_147 hl 0 rfl ?_
                        refine z_dup C dX3_advances_148 rfl ?_
                        refine m_getsZ C hH 33 ⟨by decide, by decide⟩ k2 (by show s2 33 0 = k2; exact h2k) q2218 rfl dX3_advances_149 ?_
                        refine z_iconst C dX3_advances_152 ?_
                        refine z_iadd C dX3_advances_153 ?_
                        refine m_puts C hH hS 33 ⟨by decide, by decide⟩ q2218 rfl ⟨rfl, rfl⟩ dX3_advances_154 (fun H locs hH hS => ?_)
                        refine z_goto C dX3_advances_157 (tgt := 77) (by decide) ?_
                        exact ih_77 ((k2 + 1)) nm ((su (su s2 36 0 nm) 33 0 (k2 + 1))) (by omega) (by omega) (su_self _ _ _ _) (h2s) (h2t) (rfl) (by omega) (frSu (frSu hf2 rfl) rfl) (by rw [ht, if_pos (by omega), if_pos (by omega), fnd_go (show k2 < n by omega) (by rw [if_pos (show lxS tx n k2 = tk by omega)]; decide)]) (by
                          by_cases h2 : tk = 2
                          · have d2 := dg h2
                            rw [if_pos h2] at hnb ⊢
                            rw [nbK_go hk2.1, ← hnb, mn_big (by omega) (by omega)]
                          · rw [if_neg h2] at hnb ⊢; exact hnb) _ _ _ hH hS (lv_sub hl [0] rfl)
            exact J_77 _ ((k + 0)) 0 ((su (su (su (((su s1 34 0 k))) 35 0 tk) 36 0 0) 33 0 (k + 0))) (Nat.lt_succ_self _) (by omega) (rfl) (rfl) (rfl) (rfl) (by omega) (frSu (frSu (frSu (frSu hf rfl) rfl) rfl) rfl) (by
              unfold tkE; rw [htk2]
              by_cases h0 : tk = 0
              · rw [if_pos h0, if_neg (by omega)]; omega
              · rw [if_neg h0, if_pos (by omega), if_pos (by omega), Int.add_zero]) (by rw [show (k + 0 - k).toNat = 0 by omega]; split <;> rfl) _ _ _ hH hS (lv_sub hl [0] rfl)
          · have kn2 := kn (by omega)
            refine z_iconst C dX3_advances_68 ?_
            refine z_goto C dX3_advances_69 (tgt := 73) (by decide) ?_
            refine z_iadd C dX3_advances_73 ?_
            refine m_puts C hH hS 33 ⟨by decide, by decide⟩ q2218 rfl ⟨rfl, rfl⟩ dX3_advances_74 (fun H locs hH hS => ?_)
            have J_77 : ∀ (fu : Nat) (k2 : Int) (nm : Int) (s2 : Sg), (n - k2).toNat < fu → (k ≤ k2 ∧ k2 ≤ n) → (s2 33 0 = k2) → (s2 34 0 = k) → (s2 35 0 = tk) → (s2 36 0 = nm) → (0 ≤ nm ∧ nm ≤ 200000) → (Fr [33, 34, 35, 36] σ s2) → (tkE tx n k = (if 1 ≤ tk ∧ tk ≤ 3 then fnd (fun j => if lxS tx n j = tk then 0 else 1) 1 n k2 else k2)) → (mn nm = (if tk = 2 then nbK tx k (k2 - k).toNat else 0)) → ∀ (H : Heap) (locs : List Loc) (ls : Array Slot), MH D dA A o ad s2 H → va_S A s0.heap H locs → lv_has ls 1 [(0, .ref o)] → W pp l ee (rmL 3 0 0) s0 mm ([.ref o] : List Value).toArray below meth cc0 H locs 0 0 (MQ below (MQv D dA A o ad (fun σ' => LxAt σ' (nxt tx n a) ∧ 0 ≤ σ' 36 0 ∧ σ' 36 0 ≤ 200000 ∧ Fr [33, 34, 35, 36] σ σ')) ([.ref o] : List Value).toArray s0 0 0 A) (F0 mm 77 ls []) := by
              intro fu
              induction fu with
              | zero => intro k2 nm s2 hn; exact absurd hn (Nat.not_lt_zero _)
              | succ fu ih_77 =>
                intro k2 nm s2 hn hk2 h2k h2s h2t h2n hnm hf2 ht hnb H locs ls hH hS hl
                refine z_aload_n C dX3_advances_77 hl 0 rfl ?_
                refine m_getsZ C hH 35 ⟨by decide, by decide⟩ tk (h2t) q2220 rfl dX3_advances_78 ?_
                refine z_iconst C dX3_advances_81 ?_
                refine z_iconst C dX3_advances_82 ?_
                refine m_SiF C hH hS (mm_in hOk s2 tk 1 3 (⟨by omega, by omega⟩) (⟨by omega, by omega⟩) (⟨by omega, by omega⟩)) (va_cwS 3 C.1.2.2.2.2 (lw_S q2321 q2322 q133 q2323) rfl rfl rfl (by decide +kernel) ⟨Nat.le_of_ble_eq_true rfl, Nat.le_of_ble_eq_true rfl⟩) rfl hl rfl (Nat.le_of_ble_eq_true rfl) dX3_advances_83 ⟨Nat.le_refl _, Nat.le_refl _⟩ (fun H locs hH hS => ?_)
                refine z_topi (fun z_83_1 hz_83_1 => ?_)
                have q_83_1 := inZ_or tk 1 3
                rw [← hz_83_1] at q_83_1
                refine z_ifeq C dX3_advances_86 (tgt := 160) (by decide) ⟨by omega, by omega⟩ (fun c_86_1 => ?_) (fun c_86_1 => ?_)
                · refine m_vret C hret hH hS dX3_advances_160 ?_
                  have e : nxt tx n a = (tkE tx n k, k, lxS tx n k, if lxS tx n k = 2 then nbK tx k (tkE tx n k - k).toNat else 0) := by unfold nxt; rw [hsk2]
                  have e2 : tkE tx n k = k2 := by
                    rw [ht]
                    first
                      | (rw [if_neg (by omega)]; done)
                      | (rw [if_pos (by omega)]
                         by_cases hh : k2 < n
                         · exact fnd_at (by rw [if_neg (by omega)])
                         · exact fnd_end (by omega))
                  refine ⟨?_, by omega, by omega, hf2⟩
                  rw [e, e2, htk2]
                  exact ⟨h2k, h2s, h2t, by rw [h2n]; exact hnb⟩
                · refine z_aload_n C dX3_advances_89 hl 0 rfl ?_
                  refine m_ViF C hH hS (mm_see hOk s2 tx n k2 (hT.fr (hf2.at 31 rfl) (hf2.at 32 rfl)) (h2k) (⟨by omega, by omega⟩)) (cwV 0 C.1.2.2.2.2 (lw_V q2639 q2641 qs90 q133 q2642) rfl rfl rfl (by decide +kernel) ⟨Nat.le_of_ble_eq_true rfl, Nat.le_of_ble_eq_true rfl⟩) rfl hl rfl (Nat.le_of_ble_eq_true rfl) dX3_advances_90 ⟨Nat.le_refl _, Nat.le_refl _⟩ (fun H locs hH hS => ?_)
                  refine m_SiF C hH hS (mm_sortOf hOk s2 (svZ tx n k2) (svZ_in hx4)) (va_cwS 1 C.1.2.2.2.2 (lw_S q2643 q2644 q133 q2645) rfl rfl rfl (by decide +kernel) ⟨Nat.le_of_ble_eq_true rfl, Nat.le_of_ble_eq_true rfl⟩) rfl hl rfl (Nat.le_of_ble_eq_true rfl) dX3_advances_93 ⟨Nat.le_refl _, Nat.le_refl _⟩ (fun H locs hH hS => ?_)
                  refine z_topi (fun tj htj => ?_)
                  have htj2 : lxS tx n k2 = tj := htj.symm
                  have tjr := lxS_in tx n k2
                  rw [htj2] at tjr
                  refine z_aload_n C dX3_advances_96 hl 0 rfl ?_
                  refine m_getsZ C hH 35 ⟨by decide, by decide⟩ tk (h2t) q2220 rfl dX3_advances_97 ?_
                  refine z_icmpne C dX3_advances_100 (tgt := 160) (by decide) ⟨⟨by omega, by omega⟩, ⟨by omega, by omega⟩⟩ (fun c_100_1 => ?_) (fun c_100_1 => ?_)
                  · refine m_vret C hret hH hS dX3_advances_160 ?_
                    have e : nxt tx n a = (tkE tx n k, k, lxS tx n k, if lxS tx n k = 2 then nbK tx k (tkE tx n k - k).toNat else 0) := by unfold nxt; rw [hsk2]
                    have e2 : tkE tx n k = k2 := by
                      rw [ht]
                      first
                        | (rw [if_neg (by omega)]; done)
                        | (rw [if_pos (by omega)]
                           by_cases hh : k2 < n
                           · exact fnd_at (by rw [if_neg (by omega)])
                           · exact fnd_end (by omega))
                    refine ⟨?_, by omega, by omega, hf2⟩
                    rw [e, e2, htk2]
                    exact ⟨h2k, h2s, h2t, by rw [h2n]; exact hnb⟩
                  · have kn2 : k2 < n := by
                      by_cases hh : k2 < n
                      · exact hh
                      · exact absurd (lxS_end (show n ≤ k2 by omega)) (by rw [htj2]; omega)
                    have dg : tk = 2 → svZ tx n k2 = tx k2 ∧ 48 ≤ tx k2 ∧ tx k2 ≤ 57 := fun h => sv_dig hx4 (by omega)
                    refine z_aload_n C dX3_advances_103 hl 0 rfl ?_
                    refine z_aload_n C dX3_advances_104 hl 0 rfl ?_
                    refine m_getsZ C hH 35 ⟨by decide, by decide⟩ tk (h2t) q2220 rfl dX3_advances_105 ?_
                    refine z_iconst C dX3_advances_108 ?_
                    refine z_icmpne C dX3_advances_109 (tgt := 122) (by decide) ⟨⟨by omega, by omega⟩, ⟨by omega, by omega⟩⟩ (fun c_109_1 => ?_) (fun c_109_1 => ?_)
                    · refine z_aload_n C dX3_advances_122 hl 0 rfl ?_
                      refine m_getsZ C hH 36 ⟨by decide, by decide⟩ nm (h2n) q2221 rfl dX3_advances_123 ?_
                      refine z_goto C dX3_advances_126 (tgt := 144) (by decide) ?_
                      refine m_puts C hH hS 36 ⟨by decide, by decide⟩ q2221 rfl ⟨rfl, rfl⟩ dX3_advances_144 (fun H locs hH hS => ?_)
                      refine z_aload_n C dX3_advances_147 hl 0 rfl ?_
                      refine z_dup C dX3_advances_148 rfl ?_
                      refine m_getsZ C hH 33 ⟨by decide, by decide⟩ k2 (by show s2 33 0 = k2; exact h2k) q2218 rfl dX3_advances_149 ?_
                      refine z_iconst C dX3_advances_152 ?_
                      refine z_iadd C dX3_advances_153 ?_
                      refine m_puts C hH hS 33 ⟨by decide, by decide⟩ q2218 rfl ⟨rfl, rfl⟩ dX3_advances_154 (fun H locs hH hS => ?_)
                      refine z_goto C dX3_advances_157 (tgt := 77) (by decide) ?_
                      exact ih_77 ((k2 + 1)) nm ((su (su s2 36 0 nm) 33 0 (k2 + 1))) (by omega) (by omega) (su_self _ _ _ _) (h2s) (h2t) (rfl) (by omega) (frSu (frSu hf2 rfl) rfl) (by rw [ht, if_pos (by omega), if_pos (by omega), fnd_go (show k2 < n by omega) (by rw [if_pos (show lxS tx n k2 = tk by omega)]; decide)]) (by
                        by_cases h2 : tk = 2
                        · have d2 := dg h2
                          rw [if_pos h2] at hnb ⊢
                          rw [nbK_go hk2.1, ← hnb, mn_big (by omega) (by omega)]
                        · rw [if_neg h2] at hnb ⊢; exact hnb) _ _ _ hH hS (lv_sub hl [0] rfl)
                    · refine z_aload_n C dX3_advances_112 hl 0 rfl ?_
                      refine m_getsZ C hH 36 ⟨by decide, by decide⟩ nm (h2n) q2221 rfl dX3_advances_113 ?_
                      refine z_sipush C dX3_advances_116 (by decide +kernel) ?_
                      refine z_icmple C dX3_advances_119 (tgt := 129) (by decide) ⟨⟨by omega, by omega⟩, ⟨by omega, by omega⟩⟩ (fun c_119_1 => ?_) (fun c_119_1 => ?_)
                      · have d2 := dg (by omega)
                        refine z_bipush C dX3_advances_129 (by decide +kernel) ?_
                        refine z_aload_n C dX3_advances_131 hl 0 rfl ?_
                        refine m_getsZ C hH 36 ⟨by decide, by decide⟩ nm (h2n) q2221 rfl dX3_advances_132 ?_
                        refine z_imul C dX3_advances_135 ?_
                        refine z_aload_n C dX3_advances_136 hl 0 rfl ?_
                        refine m_ViF C hH hS (mm_see hOk s2 tx n k2 (hT.fr (hf2.at 31 rfl) (hf2.at 32 rfl)) (h2k) (⟨by omega, by omega⟩)) (cwV 0 C.1.2.2.2.2 (lw_V q2639 q2641 qs90 q133 q2642) rfl rfl rfl (by decide +kernel) ⟨Nat.le_of_ble_eq_true rfl, Nat.le_of_ble_eq_true rfl⟩) rfl hl rfl (Nat.le_of_ble_eq_true rfl) dX3_advances_137 ⟨Nat.le_refl _, Nat.le_refl _⟩ (fun H locs hH hS => ?_)
                        refine z_iadd C dX3_advances_140 ?_
                        refine z_bipush C dX3_advances_141 (by decide +kernel) ?_
                        refine z_isub C dX3_advances_143 ?_
                        refine m_puts C hH hS 36 ⟨by decide, by decide⟩ q2221 rfl ⟨rfl, rfl⟩ dX3_advances_144 (fun H locs hH hS => ?_)
                        refine z_aload_n C dX3_advances_147 hl 0 rfl ?_
                        refine z_dup C dX3_advances_148 rfl ?_
                        refine m_getsZ C hH 33 ⟨by decide, by decide⟩ k2 (by show s2 33 0 = k2; exact h2k) q2218 rfl dX3_advances_149 ?_
                        refine z_iconst C dX3_advances_152 ?_
                        refine z_iadd C dX3_advances_153 ?_
                        refine m_puts C hH hS 33 ⟨by decide, by decide⟩ q2218 rfl ⟨rfl, rfl⟩ dX3_advances_154 (fun H locs hH hS => ?_)
                        refine z_goto C dX3_advances_157 (tgt := 77) (by decide) ?_
                        exact ih_77 ((k2 + 1)) ((10 * nm + svZ tx n k2 - 48)) ((su (su s2 36 0 (((10 * nm) + (svZ tx n k2)) - 48)) 33 0 (k2 + 1))) (by omega) (by omega) (su_self _ _ _ _) (h2s) (h2t) (rfl) (by omega) (frSu (frSu hf2 rfl) rfl) (by rw [ht, if_pos (by omega), if_pos (by omega), fnd_go (show k2 < n by omega) (by rw [if_pos (show lxS tx n k2 = tk by omega)]; decide)]) (by
                          rw [if_pos (by omega)] at hnb ⊢
                          rw [nbK_go hk2.1, ← hnb, mn_step hnm.1 (by omega), d2.1]
                          congr 1; omega) _ _ _ hH hS (lv_sub hl [0] rfl)
                      · refine z_aload_n C dX3_advances_122 hl 0 rfl ?_
                        refine m_getsZ C hH 36 ⟨by decide, by decide⟩ nm (h2n) q2221 rfl dX3_advances_123 ?_
                        refine z_goto C dX3_advances_126 (tgt := 144) (by decide) ?_
                        refine m_puts C hH hS 36 ⟨by decide, by decide⟩ q2221 rfl ⟨rfl, rfl⟩ dX3_advances_144 (fun H locs hH hS => ?_)
                        refine z_aload_n C dX3_advances_147 hl 0 rfl ?_
                        refine z_dup C dX3_advances_148 rfl ?_
                        refine m_getsZ C hH 33 ⟨by decide, by decide⟩ k2 (by show s2 33 0 = k2; exact h2k) q2218 rfl dX3_advances_149 ?_
                        refine z_iconst C dX3_advances_152 ?_
                        refine z_iadd C dX3_advances_153 ?_
                        refine m_puts C hH hS 33 ⟨by decide, by decide⟩ q2218 rfl ⟨rfl, rfl⟩ dX3_advances_154 (fun H locs hH hS => ?_)
                        refine z_goto C dX3_advances_157 (tgt := 77) (by decide) ?_
                        exact ih_77 ((k2 + 1)) nm ((su (su s2 36 0 nm) 33 0 (k2 + 1))) (by omega) (by omega) (su_self _ _ _ _) (h2s) (h2t) (rfl) (by omega) (frSu (frSu hf2 rfl) rfl) (by rw [ht, if_pos (by omega), if_pos (by omega), fnd_go (show k2 < n by omega) (by rw [if_pos (show lxS tx n k2 = tk by omega)]; decide)]) (by
                          by_cases h2 : tk = 2
                          · have d2 := dg h2
                            rw [if_pos h2] at hnb ⊢
                            rw [nbK_go hk2.1, ← hnb, mn_big (by omega) (by omega)]
                          · rw [if_neg h2] at hnb ⊢; exact hnb) _ _ _ hH hS (lv_sub hl [0] rfl)
            exact J_77 _ ((k + 1)) 0 ((su (su (su (((su s1 34 0 k))) 35 0 tk) 36 0 0) 33 0 (k + 1))) (Nat.lt_succ_self _) (by omega) (rfl) (rfl) (rfl) (rfl) (by omega) (frSu (frSu (frSu (frSu hf rfl) rfl) rfl) rfl) (by unfold tkE; rw [htk2, if_neg (by omega), if_neg (by omega), if_neg (by omega)]) (by rw [if_neg (by omega)]; rfl) _ _ _ hH hS (lv_sub hl [0] rfl)
        · have svn2 := svn (by omega)
          refine z_aload_n C dX3_advances_18 hl 0 rfl ?_
          refine z_dup C dX3_advances_19 rfl ?_
          refine m_getsZ C hH 33 ⟨by decide, by decide⟩ k (hk) q2218 rfl dX3_advances_20 ?_
          refine z_iconst C dX3_advances_23 ?_
          refine z_iadd C dX3_advances_24 ?_
          refine m_puts C hH hS 33 ⟨by decide, by decide⟩ q2218 rfl ⟨rfl, rfl⟩ dX3_advances_25 (fun H locs hH hS => ?_)
          refine z_goto C dX3_advances_28 (tgt := 0) (by decide) ?_
          exact ih_0 ((k + 1)) ((su s1 33 0 (k + 1))) (by omega) (by omega) (su_self _ _ _ _) (by rw [hs]; unfold skp; rw [fnd_go (show k < n by omega) (by rw [if_pos (by omega)]; decide)]) (frSu hf rfl) _ _ _ hH hS (lv_sub hl [0] rfl)
  exact J_0 _ a σ (Nat.lt_succ_self _) (by omega) (h33) (rfl) (Fr.rf) _ _ _ hH hS (lv_sub hl [0] rfl)
set_option maxHeartbeats 1000000 in
theorem mm_goesOn {l : Launch} {D : va_G} {dA : Nat → ClassId} {A : Nat → Prop} {o : Nat} {ad : Nat → Nat} (hOk : mOk o ad) (σ : Sg) (tx : Int → Int) (n : Int) (r : Er LX) (hp : PX σ tx n r) : Met l yX3_goesOn (ws_ yX3_goesOn cX3_goesOn 1 none) (rmL 4 0 0) (MP D dA A o ad [.ref o] σ) (MQv D dA A o ad (fun σ' => PX σ' tx n (goE tx n r) ∧ Fr [33, 34, 35, 36] σ σ')) 0 0 A := by
  refine z_ofW (by decide) rfl ?_
  intro pp ee s0 mm below meth cc0 ls C hret hname hl hH hS
  have hl : lv_has ls 1 [(0, .ref o)] := hl
  obtain ⟨hT, hR, hE⟩ := hp
  have hp : PX σ tx n r := ⟨hT, hR, hE⟩
  obtain ⟨hx1, hx2, hx3, hx4⟩ := hT
  have hT : TxAt σ tx n := ⟨hx1, hx2, hx3, hx4⟩
  obtain ⟨g1, g2, g3, g4, g5, g6, g7, g8, g9⟩ := hR
  have hR : LxR σ n := ⟨g1, g2, g3, g4, g5, g6, g7, g8, g9⟩
  refine z_aload_n C dX3_goesOn_0 hl 0 rfl ?_
  refine m_getsZ C hH 37 ⟨by decide, by decide⟩ (σ 37 0) rfl q2222 rfl dX3_goesOn_1 ?_
  refine z_ifne C dX3_goesOn_4 (tgt := 11) (by decide) ⟨by omega, by omega⟩ (fun c_4 => ?_) (fun c_4 => ?_)
  · refine m_vret C hret hH hS dX3_goesOn_11 ?_
    cases r with
    | inl er =>
      have h1 := hE.1
      have h2 := hE.2.2
      first | (exfalso; omega) | exact ⟨hp, Fr.rf⟩
    | inr xx =>
      have h1 := hE.1
      have h2 : σ 33 0 = xx.1 := hE.2.1.1
      first
        | (exfalso; omega)
        | (rw [h2] at hl8
           have ok := nxt_ok (tx := tx) hx4 (a := xx.1) (n := n) (by omega) (by omega)
           obtain ⟨o1, o2, o3, o4, o5, -⟩ := ok
           obtain ⟨l1, l2, l3, l4⟩ := hl8
           exact ⟨⟨hT.fr (hf8.at 31 rfl) (hf8.at 32 rfl), ⟨by omega, by omega, by omega, by omega, by omega, by omega, by omega, by rw [hf8.at 37 rfl]; exact g8, by rw [hf8.at 37 rfl]; exact g9⟩, by rw [hf8.at 37 rfl]; exact h1, ⟨l1, l2, l3, l4⟩, by rw [hf8.at 38 rfl]; exact hE.2.2⟩, hf8⟩)
  · refine z_aload_n C dX3_goesOn_7 hl 0 rfl ?_
    refine m_Vv C hH hS (mm_advances hOk σ tx n (σ 33 0) (hT) (rfl) (⟨by omega, by omega⟩)) (cwV 0 C.1.2.2.2.2 (lw_V q2635 q2637 qs89 q133 q2638) rfl rfl rfl (by decide +kernel) ⟨Nat.le_of_ble_eq_true rfl, Nat.le_of_ble_eq_true rfl⟩) rfl hl rfl (Nat.le_of_ble_eq_true rfl) dX3_goesOn_8 ⟨Nat.le_refl _, Nat.le_refl _⟩ (fun s_8 H locs hp_8 hH hS => ?_)
    obtain ⟨hl8, hn8, hm8, hf8⟩ := hp_8
    refine m_vret C hret hH hS dX3_goesOn_11 ?_
    cases r with
    | inl er =>
      have h1 := hE.1
      have h2 := hE.2.2
      first | (exfalso; omega) | exact ⟨hp, Fr.rf⟩
    | inr xx =>
      have h1 := hE.1
      have h2 : σ 33 0 = xx.1 := hE.2.1.1
      first
        | (exfalso; omega)
        | (rw [h2] at hl8
           have ok := nxt_ok (tx := tx) hx4 (a := xx.1) (n := n) (by omega) (by omega)
           obtain ⟨o1, o2, o3, o4, o5, -⟩ := ok
           obtain ⟨l1, l2, l3, l4⟩ := hl8
           exact ⟨⟨hT.fr (hf8.at 31 rfl) (hf8.at 32 rfl), ⟨by omega, by omega, by omega, by omega, by omega, by omega, by omega, by rw [hf8.at 37 rfl]; exact g8, by rw [hf8.at 37 rfl]; exact g9⟩, by rw [hf8.at 37 rfl]; exact h1, ⟨l1, l2, l3, l4⟩, by rw [hf8.at 38 rfl]; exact hE.2.2⟩, hf8⟩)
set_option maxHeartbeats 1000000 in
theorem mm_wordHere {l : Launch} {D : va_G} {dA : Nat → ClassId} {A : Nat → Prop} {o : Nat} {ad : Nat → Nat} (hOk : mOk o ad) (σ : Sg) (tx : Int → Int) (n : Int) (xx : LX) (hp : PX σ tx n (.inr xx)) (hW : WdAt σ) : Met l yX3_wordHere (ws_ yX3_wordHere cX3_wordHere 5 (some .int)) (rmL 1 0 0) (MP D dA A o ad [.ref o] σ) (MQi D dA A o ad (fun r σ' => σ' = σ ∧ r = wix tx xx)) 0 0 A := by
  refine z_ofW (by decide) rfl ?_
  intro pp ee s0 mm below meth cc0 ls C hret hname hl hH hS
  have hl : lv_has ls 5 [(0, .ref o)] := hl
  obtain ⟨hT, hR, hE⟩ := hp
  obtain ⟨hx1, hx2, hx3, hx4⟩ := hT
  obtain ⟨g1, g2, g3, g4, g5, g6, g7, g8, g9⟩ := hR
  obtain ⟨e1, ⟨e2, e3, e4, e5⟩, e6⟩ := hE
  refine z_iconst C dX3_wordHere_0 ?_
  refine z_istore_n C [(1, .int (iI 0)), (0, .ref o)] dX3_wordHere_1 hl (by decide) rfl (fun ls hl => ?_)
  refine z_iconst C dX3_wordHere_2 ?_
  refine z_istore_n C [(2, .int (iI 0)), (1, .int (iI 0)), (0, .ref o)] dX3_wordHere_3 hl (by decide) rfl (fun ls hl => ?_)
  have J_4 : ∀ (fu : Nat) (w : Int), (9 - w).toNat < fu → (0 ≤ w ∧ w ≤ 9) → (fnd (mtW tx xx) 1 9 0 = fnd (mtW tx xx) 1 9 w) → ∀ (H : Heap) (locs : List Loc) (ls : Array Slot), MH D dA A o ad σ H → va_S A s0.heap H locs → lv_has ls 5 [(2, .int (iI w)), (1, .int (iI (wpl w))), (0, .ref o)] → W pp l ee (rmL 1 0 0) s0 mm ([.ref o] : List Value).toArray below meth cc0 H locs 0 0 (MQ below (MQi D dA A o ad (fun r σ' => σ' = σ ∧ r = wix tx xx)) ([.ref o] : List Value).toArray s0 0 0 A) (F0 mm 4 ls []) := by
    intro fu
    induction fu with
    | zero => intro w hn; exact absurd hn (Nat.not_lt_zero _)
    | succ fu ih_4 =>
      intro w hn hw0 hs H locs ls hH hS hl
      refine z_aload_n C dX3_wordHere_4 hl 2 rfl ?_
      refine m_getsZ C hH 35 ⟨by decide, by decide⟩ xx.2.2.1 (e4) q2220 rfl dX3_wordHere_5 ?_
      refine z_iconst C dX3_wordHere_8 ?_
      refine z_icmpne C dX3_wordHere_9 (tgt := 121) (by decide) ⟨⟨by omega, by omega⟩, ⟨by omega, by omega⟩⟩ (fun c_9 => ?_) (fun c_9 => ?_)
      · refine z_iconst C dX3_wordHere_121 ?_
        refine m_iret C hret hH hS dX3_wordHere_122 ?_
        refine ⟨rfl, ?_⟩
        unfold wix
        first
          | (rw [if_neg (by omega)]; done)
          | (rw [if_pos (by omega), hs, fnd_end (by omega), if_pos (by omega)])
      · refine z_iload_n C dX3_wordHere_12 hl 0 rfl ?_
        refine z_bipush C dX3_wordHere_13 (by decide +kernel) ?_
        refine z_icmpge C dX3_wordHere_15 (tgt := 121) (by decide) ⟨⟨by omega, by omega⟩, ⟨by omega, by omega⟩⟩ (fun c_15 => ?_) (fun c_15 => ?_)
        · refine z_iconst C dX3_wordHere_121 ?_
          refine m_iret C hret hH hS dX3_wordHere_122 ?_
          refine ⟨rfl, ?_⟩
          unfold wix
          first
            | (rw [if_neg (by omega)]; done)
            | (rw [if_pos (by omega), hs, fnd_end (by omega), if_pos (by omega)])
        · have wq := wd_at (w := w) (by omega)
          refine z_iconst C dX3_wordHere_18 ?_
          refine z_istore_n C [(3, .int (iI 0)), (2, .int (iI w)), (1, .int (iI (wpl w))), (0, .ref o)] dX3_wordHere_19 hl (by decide) rfl (fun ls hl => ?_)
          refine z_iconst C dX3_wordHere_20 ?_
          refine z_istore C [(4, .int (iI 1)), (3, .int (iI 0)), (2, .int (iI w)), (1, .int (iI (wpl w))), (0, .ref o)] dX3_wordHere_21 hl (by decide) rfl (fun ls hl => ?_)
          have J_23 : ∀ (fu : Nat) (k : Int) (b : Int), (wln w - k).toNat < fu → (0 ≤ k ∧ k ≤ wln w) → (b = mtK tx xx.2.1 xx.1 w k.toNat) → (b = 0 ∨ b = 1) → ∀ (H : Heap) (locs : List Loc) (ls : Array Slot), MH D dA A o ad σ H → va_S A s0.heap H locs → lv_has ls 5 [(4, .int (iI b)), (3, .int (iI k)), (2, .int (iI w)), (1, .int (iI (wpl w))), (0, .ref o)] → W pp l ee (rmL 1 0 0) s0 mm ([.ref o] : List Value).toArray below meth cc0 H locs 0 0 (MQ below (MQi D dA A o ad (fun r σ' => σ' = σ ∧ r = wix tx xx)) ([.ref o] : List Value).toArray s0 0 0 A) (F0 mm 23 ls []) := by
            intro fu
            induction fu with
            | zero => intro k b hn; exact absurd hn (Nat.not_lt_zero _)
            | succ fu ih_23 =>
              intro k b hn hk0 hb hb2 H locs ls hH hS hl
              have wc := wd_ch (w := w) (k := k) (by omega) hk0
              refine z_aload_n C dX3_wordHere_23 hl 4 rfl ?_
              refine m_geta C hH 39 ⟨by decide, by decide⟩ q2224 rfl dX3_wordHere_24 ?_
              refine z_iload_n C dX3_wordHere_27 hl 3 rfl ?_
              refine z_iload_n C dX3_wordHere_28 hl 1 rfl ?_
              refine z_iadd C dX3_wordHere_29 ?_
              refine m_bald C hOk hH 39 ⟨by decide, by decide⟩ (show 0 ≤ ((wpl w) + k) ∧ ((wpl w) + k) < (37 : Int) by omega) dX3_wordHere_30 ?_
              refine z_topr (show σ 39 ((wpl w) + k) = wds (wpl w + k) from hW _ (by omega) (by omega)) ?_
              refine z_bipush C dX3_wordHere_31 (by decide +kernel) ?_
              refine z_icmpeq C dX3_wordHere_33 (tgt := 89) (by decide) ⟨⟨by omega, by omega⟩, ⟨by omega, by omega⟩⟩ (fun c_33 => ?_) (fun c_33 => ?_)
              · have kw : k = wln w := by omega
                rw [kw] at hb
                refine z_iload C dX3_wordHere_89 hl 0 rfl ?_
                refine z_ifeq C dX3_wordHere_91 (tgt := 109) (by decide) ⟨by omega, by omega⟩ (fun c_91 => ?_) (fun c_91 => ?_)
                · refine z_iload_n C dX3_wordHere_109 hl 3 rfl ?_
                  refine z_iload_n C dX3_wordHere_110 hl 1 rfl ?_
                  refine z_iconst C dX3_wordHere_111 ?_
                  refine z_iadd C dX3_wordHere_112 ?_
                  refine z_iadd C dX3_wordHere_113 ?_
                  refine z_topr (show wpl w + (k + 1) = wpl (w + 1) by omega) ?_
                  refine z_istore_n C [(1, .int (iI (wpl (w + 1)))), (4, .int (iI b)), (3, .int (iI k)), (2, .int (iI w)), (0, .ref o)] dX3_wordHere_114 hl (by decide) rfl (fun ls hl => ?_)
                  refine z_iinc C [(2, .int (iI (w + 1))), (1, .int (iI (wpl (w + 1)))), (4, .int (iI b)), (3, .int (iI k)), (0, .ref o)] dX3_wordHere_115 hl 3 rfl (by decide) rfl (fun ls hl => ?_)
                  refine z_goto C dX3_wordHere_118 (tgt := 4) (by decide) ?_
                  exact ih_4 ((w + 1)) (by omega) (by omega) (by rw [hs, fnd_go (by omega) (by unfold mtW; rw [if_neg (by omega)]; decide)]) _ _ _ hH hS (lv_sub hl [0, 1, 4] rfl)
                · refine z_aload_n C dX3_wordHere_94 hl 4 rfl ?_
                  refine m_getsZ C hH 33 ⟨by decide, by decide⟩ xx.1 (e2) q2218 rfl dX3_wordHere_95 ?_
                  refine z_aload_n C dX3_wordHere_98 hl 4 rfl ?_
                  refine m_getsZ C hH 34 ⟨by decide, by decide⟩ xx.2.1 (e3) q2219 rfl dX3_wordHere_99 ?_
                  refine z_isub C dX3_wordHere_102 ?_
                  refine z_iload_n C dX3_wordHere_103 hl 1 rfl ?_
                  refine z_icmpne C dX3_wordHere_104 (tgt := 109) (by decide) ⟨⟨by omega, by omega⟩, ⟨by omega, by omega⟩⟩ (fun c_104 => ?_) (fun c_104 => ?_)
                  · refine z_iload_n C dX3_wordHere_109 hl 3 rfl ?_
                    refine z_iload_n C dX3_wordHere_110 hl 1 rfl ?_
                    refine z_iconst C dX3_wordHere_111 ?_
                    refine z_iadd C dX3_wordHere_112 ?_
                    refine z_iadd C dX3_wordHere_113 ?_
                    refine z_topr (show wpl w + (k + 1) = wpl (w + 1) by omega) ?_
                    refine z_istore_n C [(1, .int (iI (wpl (w + 1)))), (4, .int (iI b)), (3, .int (iI k)), (2, .int (iI w)), (0, .ref o)] dX3_wordHere_114 hl (by decide) rfl (fun ls hl => ?_)
                    refine z_iinc C [(2, .int (iI (w + 1))), (1, .int (iI (wpl (w + 1)))), (4, .int (iI b)), (3, .int (iI k)), (0, .ref o)] dX3_wordHere_115 hl 3 rfl (by decide) rfl (fun ls hl => ?_)
                    refine z_goto C dX3_wordHere_118 (tgt := 4) (by decide) ?_
                    exact ih_4 ((w + 1)) (by omega) (by omega) (by rw [hs, fnd_go (by omega) (by unfold mtW; rw [if_neg (by omega)]; decide)]) _ _ _ hH hS (lv_sub hl [0, 1, 4] rfl)
                  · refine z_iload_n C dX3_wordHere_107 hl 2 rfl ?_
                    refine m_iret C hret hH hS dX3_wordHere_108 ?_
                    refine ⟨rfl, ?_⟩
                    have e9 : mtW tx xx w = 1 := by unfold mtW; rw [if_pos ⟨by omega, by omega⟩]
                    unfold wix; rw [if_pos (by omega), hs, fnd_at e9, if_neg (by omega)]
              · refine z_iload C dX3_wordHere_36 hl 0 rfl ?_
                refine z_ifeq C dX3_wordHere_38 (tgt := 80) (by decide) ⟨by omega, by omega⟩ (fun c_38 => ?_) (fun c_38 => ?_)
                · refine z_iconst C dX3_wordHere_80 ?_
                  refine z_istore C [(4, .int (iI 0)), (3, .int (iI k)), (2, .int (iI w)), (1, .int (iI (wpl w))), (0, .ref o)] dX3_wordHere_81 hl (by decide) rfl (fun ls hl => ?_)
                  refine z_iinc C [(3, .int (iI (k + 1))), (4, .int (iI 0)), (2, .int (iI w)), (1, .int (iI (wpl w))), (0, .ref o)] dX3_wordHere_83 hl 1 rfl (by decide) rfl (fun ls hl => ?_)
                  refine z_goto C dX3_wordHere_86 (tgt := 23) (by decide) ?_
                  exact ih_23 ((k + 1)) 0 (by omega) (by omega) (by rw [mtK_go hk0.1, ← hb]; first | (rw [if_pos ⟨by omega, by omega, by omega⟩]; done) | (rw [if_neg (by omega)]; done)) (by omega) _ _ _ hH hS (lv_sub hl [1, 0, 2, 3, 4] rfl)
                · refine z_aload_n C dX3_wordHere_41 hl 4 rfl ?_
                  refine m_getsZ C hH 34 ⟨by decide, by decide⟩ xx.2.1 (e3) q2219 rfl dX3_wordHere_42 ?_
                  refine z_iload_n C dX3_wordHere_45 hl 1 rfl ?_
                  refine z_iadd C dX3_wordHere_46 ?_
                  refine z_aload_n C dX3_wordHere_47 hl 4 rfl ?_
                  refine m_getsZ C hH 33 ⟨by decide, by decide⟩ xx.1 (e2) q2218 rfl dX3_wordHere_48 ?_
                  refine z_icmpge C dX3_wordHere_51 (tgt := 80) (by decide) ⟨⟨by omega, by omega⟩, ⟨by omega, by omega⟩⟩ (fun c_51 => ?_) (fun c_51 => ?_)
                  · refine z_iconst C dX3_wordHere_80 ?_
                    refine z_istore C [(4, .int (iI 0)), (3, .int (iI k)), (2, .int (iI w)), (1, .int (iI (wpl w))), (0, .ref o)] dX3_wordHere_81 hl (by decide) rfl (fun ls hl => ?_)
                    refine z_iinc C [(3, .int (iI (k + 1))), (4, .int (iI 0)), (2, .int (iI w)), (1, .int (iI (wpl w))), (0, .ref o)] dX3_wordHere_83 hl 1 rfl (by decide) rfl (fun ls hl => ?_)
                    refine z_goto C dX3_wordHere_86 (tgt := 23) (by decide) ?_
                    exact ih_23 ((k + 1)) 0 (by omega) (by omega) (by rw [mtK_go hk0.1, ← hb]; first | (rw [if_pos ⟨by omega, by omega, by omega⟩]; done) | (rw [if_neg (by omega)]; done)) (by omega) _ _ _ hH hS (lv_sub hl [1, 0, 2, 3, 4] rfl)
                  · have v4 := hx4 (xx.2.1 + k)
                    refine z_aload_n C dX3_wordHere_54 hl 4 rfl ?_
                    refine m_geta C hH 31 ⟨by decide, by decide⟩ q2216 rfl dX3_wordHere_55 ?_
                    refine z_aload_n C dX3_wordHere_58 hl 4 rfl ?_
                    refine m_getsZ C hH 34 ⟨by decide, by decide⟩ xx.2.1 (e3) q2219 rfl dX3_wordHere_59 ?_
                    refine z_iload_n C dX3_wordHere_62 hl 1 rfl ?_
                    refine z_iadd C dX3_wordHere_63 ?_
                    refine m_bald C hOk hH 31 ⟨by decide, by decide⟩ (show 0 ≤ (xx.2.1 + k) ∧ (xx.2.1 + k) < (900 : Int) by omega) dX3_wordHere_64 ?_
                    refine z_topr (show σ 31 (xx.2.1 + k) = tx (xx.2.1 + k) from hx3 _ (by omega) (by omega)) ?_
                    refine z_aload_n C dX3_wordHere_65 hl 4 rfl ?_
                    refine m_geta C hH 39 ⟨by decide, by decide⟩ q2224 rfl dX3_wordHere_66 ?_
                    refine z_iload_n C dX3_wordHere_69 hl 3 rfl ?_
                    refine z_iload_n C dX3_wordHere_70 hl 1 rfl ?_
                    refine z_iadd C dX3_wordHere_71 ?_
                    refine m_bald C hOk hH 39 ⟨by decide, by decide⟩ (show 0 ≤ ((wpl w) + k) ∧ ((wpl w) + k) < (37 : Int) by omega) dX3_wordHere_72 ?_
                    refine z_topr (show σ 39 ((wpl w) + k) = wds (wpl w + k) from hW _ (by omega) (by omega)) ?_
                    refine z_icmpne C dX3_wordHere_73 (tgt := 80) (by decide) ⟨⟨by omega, by omega⟩, ⟨by omega, by omega⟩⟩ (fun c_73 => ?_) (fun c_73 => ?_)
                    · refine z_iconst C dX3_wordHere_80 ?_
                      refine z_istore C [(4, .int (iI 0)), (3, .int (iI k)), (2, .int (iI w)), (1, .int (iI (wpl w))), (0, .ref o)] dX3_wordHere_81 hl (by decide) rfl (fun ls hl => ?_)
                      refine z_iinc C [(3, .int (iI (k + 1))), (4, .int (iI 0)), (2, .int (iI w)), (1, .int (iI (wpl w))), (0, .ref o)] dX3_wordHere_83 hl 1 rfl (by decide) rfl (fun ls hl => ?_)
                      refine z_goto C dX3_wordHere_86 (tgt := 23) (by decide) ?_
                      exact ih_23 ((k + 1)) 0 (by omega) (by omega) (by rw [mtK_go hk0.1, ← hb]; first | (rw [if_pos ⟨by omega, by omega, by omega⟩]; done) | (rw [if_neg (by omega)]; done)) (by omega) _ _ _ hH hS (lv_sub hl [1, 0, 2, 3, 4] rfl)
                    · refine z_iconst C dX3_wordHere_76 ?_
                      refine z_goto C dX3_wordHere_77 (tgt := 81) (by decide) ?_
                      refine z_istore C [(4, .int (iI 1)), (3, .int (iI k)), (2, .int (iI w)), (1, .int (iI (wpl w))), (0, .ref o)] dX3_wordHere_81 hl (by decide) rfl (fun ls hl => ?_)
                      refine z_iinc C [(3, .int (iI (k + 1))), (4, .int (iI 1)), (2, .int (iI w)), (1, .int (iI (wpl w))), (0, .ref o)] dX3_wordHere_83 hl 1 rfl (by decide) rfl (fun ls hl => ?_)
                      refine z_goto C dX3_wordHere_86 (tgt := 23) (by decide) ?_
                      exact ih_23 ((k + 1)) 1 (by omega) (by omega) (by rw [mtK_go hk0.1, ← hb]; first | (rw [if_pos ⟨by omega, by omega, by omega⟩]; done) | (rw [if_neg (by omega)]; done)) (by omega) _ _ _ hH hS (lv_sub hl [1, 0, 2, 3, 4] rfl)
          exact J_23 _ 0 1 (Nat.lt_succ_self _) (by omega) (rfl) (by omega) _ _ _ hH hS (lv_sub hl [0, 1, 2, 3, 4] rfl)
  exact J_4 _ 0 (Nat.lt_succ_self _) (by omega) (rfl) _ _ _ hH hS (lv_sub hl [0, 1, 2] rfl)
set_option maxHeartbeats 1000000 in
theorem mm_looks {l : Launch} {D : va_G} {dA : Nat → ClassId} {A : Nat → Prop} {o : Nat} {ad : Nat → Nat} (hOk : mOk o ad) (σ : Sg) (lo : Int) (hi : Int) (tx : Int → Int) (n : Int) (r : Er LX) (hp : PX σ tx n r) (hlo : 0 ≤ lo ∧ lo ≤ hi ∧ hi ≤ 99) : Met l yX3_looks (ws_ yX3_looks cX3_looks 3 (some .int)) (rmL 3 0 0) (MP D dA A o ad [.ref o, .int (iI lo), .int (iI hi)] σ) (MQi D dA A o ad (fun v σ' => v = lkV r lo hi ∧ PX σ' tx n (lkE r lo hi) ∧ Fr [37, 38] σ σ')) 0 0 A := by
  refine z_ofW (by decide) rfl ?_
  intro pp ee s0 mm below meth cc0 ls C hret hname hl hH hS
  have hl : lv_has ls 3 [(0, .ref o), (1, .int (iI lo)), (2, .int (iI hi))] := hl
  obtain ⟨hT, hR, hE⟩ := hp
  have hp : PX σ tx n r := ⟨hT, hR, hE⟩
  obtain ⟨hx1, hx2, hx3, hx4⟩ := hT
  have hT : TxAt σ tx n := ⟨hx1, hx2, hx3, hx4⟩
  obtain ⟨g1, g2, g3, g4, g5, g6, g7, g8, g9⟩ := hR
  have hR : LxR σ n := ⟨g1, g2, g3, g4, g5, g6, g7, g8, g9⟩
  refine z_aload_n C dX3_looks_0 hl 0 rfl ?_
  refine z_aload_n C dX3_looks_1 hl 0 rfl ?_
  refine m_getsZ C hH 35 ⟨by decide, by decide⟩ (σ 35 0) rfl q2220 rfl dX3_looks_2 ?_
  refine z_iconst C dX3_looks_5 ?_
  refine z_icmpne C dX3_looks_6 (tgt := 13) (by decide) ⟨⟨by omega, by omega⟩, ⟨by omega, by omega⟩⟩ (fun c_6 => ?_) (fun c_6 => ?_)
  · refine z_iconst C dX3_looks_13 ?_
    refine z_iconst C dX3_looks_14 ?_
    refine m_Vv C hH hS (mm_must hOk σ 0 1 tx n r (hp) (by decide) (by decide)) (cwV 2 C.1.2.2.2.2 (lw_V q2662 q2664 qs95 q133 q2665) rfl rfl rfl (by decide +kernel) ⟨Nat.le_of_ble_eq_true rfl, Nat.le_of_ble_eq_true rfl⟩) rfl hl rfl (Nat.le_of_ble_eq_true rfl) dX3_looks_15 ⟨Nat.le_refl _, Nat.le_refl _⟩ (fun s_15 H locs hp_15 hH hS => ?_)
    obtain ⟨hp15, hf15⟩ := hp_15
    have e15 : ndE r (decide ((0 : Int) = 1)) 1 = ndE r (kdE r 2) 1 := ndE_congr (fun x hx => by
      subst hx
      have h35 : σ 35 0 = x.2.2.1 := hE.2.1.2.2.1
      show (decide ((0 : Int) = 1)) = decide (x.2.2.1 = 2)
      exact decide_eq_decide.mpr (by omega))
    rw [e15] at hp15
    obtain ⟨i1, i2, i3⟩ := hp15
    obtain ⟨j1, j2, j3, j4, j5, j6, j7, j8, j9⟩ := i2
    refine z_aload_n C dX3_looks_18 hl 0 rfl ?_
    refine z_aload_n C dX3_looks_19 hl 0 rfl ?_
    refine m_getsZ C hH 37 ⟨by decide, by decide⟩ (s_15 37 0) rfl q2222 rfl dX3_looks_20 ?_
    refine z_ifgt C dX3_looks_23 (tgt := 38) (by decide) ⟨by omega, by omega⟩ (fun c_23 => ?_) (fun c_23 => ?_)
    · refine z_iconst C dX3_looks_38 ?_
      refine z_goto C dX3_looks_39 (tgt := 43) (by decide) ?_
      refine z_iconst C dX3_looks_43 ?_
      refine m_Vv C hH hS (mm_must hOk s_15 1 2 tx n ((ndE r (kdE r 2) 1)) (⟨i1, ⟨j1, j2, j3, j4, j5, j6, j7, j8, j9⟩, i3⟩) (by decide) (by decide)) (cwV 2 C.1.2.2.2.2 (lw_V q2662 q2664 qs95 q133 q2665) rfl rfl rfl (by decide +kernel) ⟨Nat.le_of_ble_eq_true rfl, Nat.le_of_ble_eq_true rfl⟩) rfl hl rfl (Nat.le_of_ble_eq_true rfl) dX3_looks_44 ⟨Nat.le_refl _, Nat.le_refl _⟩ (fun s_44 H locs hp_44 hH hS => ?_)
      obtain ⟨hp44, hf44⟩ := hp_44
      have e44 : ndE (ndE r (kdE r 2) 1) (decide ((1 : Int) = 1)) 2 = lkE r lo hi := ndE_congr (fun x hx => by
        rw [hx] at i3
        have h37 : s_15 37 0 = 0 := i3.1
        have h36 : mn (s_15 36 0) = x.2.2.2 := i3.2.1.2.2.2
        rw [(ndE_inr hx).1]
        have h99 := mn_small (v := s_15 36 0) hlo.2.2 lo
        rw [h36] at h99
        show (decide ((1 : Int) = 1)) = decide (lo ≤ x.2.2.2 ∧ x.2.2.2 ≤ hi)
        exact decide_eq_decide.mpr (by omega))
      rw [e44] at hp44
      obtain ⟨i1, i2, i3⟩ := hp44
      obtain ⟨j1, j2, j3, j4, j5, j6, j7, j8, j9⟩ := i2
      refine z_aload_n C dX3_looks_47 hl 0 rfl ?_
      refine m_getsZ C hH 37 ⟨by decide, by decide⟩ (s_44 37 0) rfl q2222 rfl dX3_looks_48 ?_
      refine z_ifle C dX3_looks_51 (tgt := 58) (by decide) ⟨by omega, by omega⟩ (fun c_51 => ?_) (fun c_51 => ?_)
      · refine z_aload_n C dX3_looks_58 hl 0 rfl ?_
        refine m_getsZ C hH 36 ⟨by decide, by decide⟩ (s_44 36 0) rfl q2221 rfl dX3_looks_59 ?_
        refine m_iret C hret hH hS dX3_looks_62 ?_
        refine ⟨?_, ⟨i1, ⟨j1, j2, j3, j4, j5, j6, j7, j8, j9⟩, i3⟩, hf15.th hf44 rfl⟩
        unfold lkV
        cases he : lkE r lo hi with
        | inl er =>
          rewrite [he] at i3
          have h1 := i3.1
          have h2 := i3.2.2
          first | (exfalso; omega) | rfl
        | inr x =>
          rewrite [he] at i3
          have h1 := i3.1
          have h36 : mn (s_44 36 0) = x.2.2.2 := i3.2.1.2.2.2
          have h2 := lkE_inr he
          have h99 := mn_small (v := s_44 36 0) hlo.2.2 lo
          rw [h36] at h99
          have h98 : mn (s_44 36 0) = s_44 36 0 := by unfold mn; rw [if_pos (by omega)]
          first | (exfalso; omega) | (show _ = x.2.2.2; omega)
      · refine z_iload_n C dX3_looks_54 hl 1 rfl ?_
        refine z_goto C dX3_looks_55 (tgt := 62) (by decide) ?_
        refine m_iret C hret hH hS dX3_looks_62 ?_
        refine ⟨?_, ⟨i1, ⟨j1, j2, j3, j4, j5, j6, j7, j8, j9⟩, i3⟩, hf15.th hf44 rfl⟩
        unfold lkV
        cases he : lkE r lo hi with
        | inl er =>
          rewrite [he] at i3
          have h1 := i3.1
          have h2 := i3.2.2
          first | (exfalso; omega) | rfl
        | inr x =>
          rewrite [he] at i3
          have h1 := i3.1
          have h36 : mn (s_44 36 0) = x.2.2.2 := i3.2.1.2.2.2
          have h2 := lkE_inr he
          have h99 := mn_small (v := s_44 36 0) hlo.2.2 lo
          rw [h36] at h99
          have h98 : mn (s_44 36 0) = s_44 36 0 := by unfold mn; rw [if_pos (by omega)]
          first | (exfalso; omega) | (show _ = x.2.2.2; omega)
    · refine z_aload_n C dX3_looks_26 hl 0 rfl ?_
      refine m_getsZ C hH 36 ⟨by decide, by decide⟩ (s_15 36 0) rfl q2221 rfl dX3_looks_27 ?_
      refine z_iload_n C dX3_looks_30 hl 1 rfl ?_
      refine z_iload_n C dX3_looks_31 hl 2 rfl ?_
      refine m_SiF C hH hS (mm_in hOk s_15 (s_15 36 0) lo hi (⟨by omega, by omega⟩) (⟨by omega, by omega⟩) (⟨by omega, by omega⟩)) (va_cwS 3 C.1.2.2.2.2 (lw_S q2321 q2322 q133 q2323) rfl rfl rfl (by decide +kernel) ⟨Nat.le_of_ble_eq_true rfl, Nat.le_of_ble_eq_true rfl⟩) rfl hl rfl (Nat.le_of_ble_eq_true rfl) dX3_looks_32 ⟨Nat.le_refl _, Nat.le_refl _⟩ (fun H locs hH hS => ?_)
      refine z_topi (fun z_32 hz_32 => ?_)
      have q_32 := inZ_or (s_15 36 0) lo hi
      rw [← hz_32] at q_32
      refine z_ifeq C dX3_looks_35 (tgt := 42) (by decide) ⟨by omega, by omega⟩ (fun c_35 => ?_) (fun c_35 => ?_)
      · refine z_iconst C dX3_looks_42 ?_
        refine z_iconst C dX3_looks_43 ?_
        refine m_Vv C hH hS (mm_must hOk s_15 0 2 tx n ((ndE r (kdE r 2) 1)) (⟨i1, ⟨j1, j2, j3, j4, j5, j6, j7, j8, j9⟩, i3⟩) (by decide) (by decide)) (cwV 2 C.1.2.2.2.2 (lw_V q2662 q2664 qs95 q133 q2665) rfl rfl rfl (by decide +kernel) ⟨Nat.le_of_ble_eq_true rfl, Nat.le_of_ble_eq_true rfl⟩) rfl hl rfl (Nat.le_of_ble_eq_true rfl) dX3_looks_44 ⟨Nat.le_refl _, Nat.le_refl _⟩ (fun s_44_1 H locs hp_44_1 hH hS => ?_)
        obtain ⟨hp44_1, hf44_1⟩ := hp_44_1
        have e44 : ndE (ndE r (kdE r 2) 1) (decide ((0 : Int) = 1)) 2 = lkE r lo hi := ndE_congr (fun x hx => by
          rw [hx] at i3
          have h37 : s_15 37 0 = 0 := i3.1
          have h36 : mn (s_15 36 0) = x.2.2.2 := i3.2.1.2.2.2
          rw [(ndE_inr hx).1]
          have h99 := mn_small (v := s_15 36 0) hlo.2.2 lo
          rw [h36] at h99
          show (decide ((0 : Int) = 1)) = decide (lo ≤ x.2.2.2 ∧ x.2.2.2 ≤ hi)
          exact decide_eq_decide.mpr (by omega))
        rw [e44] at hp44_1
        obtain ⟨i1, i2, i3⟩ := hp44_1
        obtain ⟨j1, j2, j3, j4, j5, j6, j7, j8, j9⟩ := i2
        refine z_aload_n C dX3_looks_47 hl 0 rfl ?_
        refine m_getsZ C hH 37 ⟨by decide, by decide⟩ (s_44_1 37 0) rfl q2222 rfl dX3_looks_48 ?_
        refine z_ifle C dX3_looks_51 (tgt := 58) (by decide) ⟨by omega, by omega⟩ (fun c_51_1 => ?_) (fun c_51_1 => ?_)
        · refine z_aload_n C dX3_looks_58 hl 0 rfl ?_
          refine m_getsZ C hH 36 ⟨by decide, by decide⟩ (s_44_1 36 0) rfl q2221 rfl dX3_looks_59 ?_
          refine m_iret C hret hH hS dX3_looks_62 ?_
          refine ⟨?_, ⟨i1, ⟨j1, j2, j3, j4, j5, j6, j7, j8, j9⟩, i3⟩, hf15.th hf44_1 rfl⟩
          unfold lkV
          cases he : lkE r lo hi with
          | inl er =>
            rewrite [he] at i3
            have h1 := i3.1
            have h2 := i3.2.2
            first | (exfalso; omega) | rfl
          | inr x =>
            rewrite [he] at i3
            have h1 := i3.1
            have h36 : mn (s_44_1 36 0) = x.2.2.2 := i3.2.1.2.2.2
            have h2 := lkE_inr he
            have h99 := mn_small (v := s_44_1 36 0) hlo.2.2 lo
            rw [h36] at h99
            have h98 : mn (s_44_1 36 0) = s_44_1 36 0 := by unfold mn; rw [if_pos (by omega)]
            first | (exfalso; omega) | (show _ = x.2.2.2; omega)
        · refine z_iload_n C dX3_looks_54 hl 1 rfl ?_
          refine z_goto C dX3_looks_55 (tgt := 62) (by decide) ?_
          refine m_iret C hret hH hS dX3_looks_62 ?_
          refine ⟨?_, ⟨i1, ⟨j1, j2, j3, j4, j5, j6, j7, j8, j9⟩, i3⟩, hf15.th hf44_1 rfl⟩
          unfold lkV
          cases he : lkE r lo hi with
          | inl er =>
            rewrite [he] at i3
            have h1 := i3.1
            have h2 := i3.2.2
            first | (exfalso; omega) | rfl
          | inr x =>
            rewrite [he] at i3
            have h1 := i3.1
            have h36 : mn (s_44_1 36 0) = x.2.2.2 := i3.2.1.2.2.2
            have h2 := lkE_inr he
            have h99 := mn_small (v := s_44_1 36 0) hlo.2.2 lo
            rw [h36] at h99
            have h98 : mn (s_44_1 36 0) = s_44_1 36 0 := by unfold mn; rw [if_pos (by omega)]
            first | (exfalso; omega) | (show _ = x.2.2.2; omega)
      · refine z_iconst C dX3_looks_38 ?_
        refine z_goto C dX3_looks_39 (tgt := 43) (by decide) ?_
        refine z_iconst C dX3_looks_43 ?_
        refine m_Vv C hH hS (mm_must hOk s_15 1 2 tx n ((ndE r (kdE r 2) 1)) (⟨i1, ⟨j1, j2, j3, j4, j5, j6, j7, j8, j9⟩, i3⟩) (by decide) (by decide)) (cwV 2 C.1.2.2.2.2 (lw_V q2662 q2664 qs95 q133 q2665) rfl rfl rfl (by decide +kernel) ⟨Nat.le_of_ble_eq_true rfl, Nat.le_of_ble_eq_true rfl⟩) rfl hl rfl (Nat.le_of_ble_eq_true rfl) dX3_looks_44 ⟨Nat.le_refl _, Nat.le_refl _⟩ (fun s_44_2 H locs hp_44_2 hH hS => ?_)
        obtain ⟨hp44_2, hf44_2⟩ := hp_44_2
        have e44 : ndE (ndE r (kdE r 2) 1) (decide ((1 : Int) = 1)) 2 = lkE r lo hi := ndE_congr (fun x hx => by
          rw [hx] at i3
          have h37 : s_15 37 0 = 0 := i3.1
          have h36 : mn (s_15 36 0) = x.2.2.2 := i3.2.1.2.2.2
          rw [(ndE_inr hx).1]
          have h99 := mn_small (v := s_15 36 0) hlo.2.2 lo
          rw [h36] at h99
          show (decide ((1 : Int) = 1)) = decide (lo ≤ x.2.2.2 ∧ x.2.2.2 ≤ hi)
          exact decide_eq_decide.mpr (by omega))
        rw [e44] at hp44_2
        obtain ⟨i1, i2, i3⟩ := hp44_2
        obtain ⟨j1, j2, j3, j4, j5, j6, j7, j8, j9⟩ := i2
        refine z_aload_n C dX3_looks_47 hl 0 rfl ?_
        refine m_getsZ C hH 37 ⟨by decide, by decide⟩ (s_44_2 37 0) rfl q2222 rfl dX3_looks_48 ?_
        refine z_ifle C dX3_looks_51 (tgt := 58) (by decide) ⟨by omega, by omega⟩ (fun c_51_2 => ?_) (fun c_51_2 => ?_)
        · refine z_aload_n C dX3_looks_58 hl 0 rfl ?_
          refine m_getsZ C hH 36 ⟨by decide, by decide⟩ (s_44_2 36 0) rfl q2221 rfl dX3_looks_59 ?_
          refine m_iret C hret hH hS dX3_looks_62 ?_
          refine ⟨?_, ⟨i1, ⟨j1, j2, j3, j4, j5, j6, j7, j8, j9⟩, i3⟩, hf15.th hf44_2 rfl⟩
          unfold lkV
          cases he : lkE r lo hi with
          | inl er =>
            rewrite [he] at i3
            have h1 := i3.1
            have h2 := i3.2.2
            first | (exfalso; omega) | rfl
          | inr x =>
            rewrite [he] at i3
            have h1 := i3.1
            have h36 : mn (s_44_2 36 0) = x.2.2.2 := i3.2.1.2.2.2
            have h2 := lkE_inr he
            have h99 := mn_small (v := s_44_2 36 0) hlo.2.2 lo
            rw [h36] at h99
            have h98 : mn (s_44_2 36 0) = s_44_2 36 0 := by unfold mn; rw [if_pos (by omega)]
            first | (exfalso; omega) | (show _ = x.2.2.2; omega)
        · refine z_iload_n C dX3_looks_54 hl 1 rfl ?_
          refine z_goto C dX3_looks_55 (tgt := 62) (by decide) ?_
          refine m_iret C hret hH hS dX3_looks_62 ?_
          refine ⟨?_, ⟨i1, ⟨j1, j2, j3, j4, j5, j6, j7, j8, j9⟩, i3⟩, hf15.th hf44_2 rfl⟩
          unfold lkV
          cases he : lkE r lo hi with
          | inl er =>
            rewrite [he] at i3
            have h1 := i3.1
            have h2 := i3.2.2
            first | (exfalso; omega) | rfl
          | inr x =>
            rewrite [he] at i3
            have h1 := i3.1
            have h36 : mn (s_44_2 36 0) = x.2.2.2 := i3.2.1.2.2.2
            have h2 := lkE_inr he
            have h99 := mn_small (v := s_44_2 36 0) hlo.2.2 lo
            rw [h36] at h99
            have h98 : mn (s_44_2 36 0) = s_44_2 36 0 := by unfold mn; rw [if_pos (by omega)]
            first | (exfalso; omega) | (show _ = x.2.2.2; omega)
  · refine z_iconst C dX3_looks_9 ?_
    refine z_goto C dX3_looks_10 (tgt := 14) (by decide) ?_
    refine z_iconst C dX3_looks_14 ?_
    refine m_Vv C hH hS (mm_must hOk σ 1 1 tx n r (hp) (by decide) (by decide)) (cwV 2 C.1.2.2.2.2 (lw_V q2662 q2664 qs95 q133 q2665) rfl rfl rfl (by decide +kernel) ⟨Nat.le_of_ble_eq_true rfl, Nat.le_of_ble_eq_true rfl⟩) rfl hl rfl (Nat.le_of_ble_eq_true rfl) dX3_looks_15 ⟨Nat.le_refl _, Nat.le_refl _⟩ (fun s_15_1 H locs hp_15_1 hH hS => ?_)
    obtain ⟨hp15_1, hf15_1⟩ := hp_15_1
    have e15 : ndE r (decide ((1 : Int) = 1)) 1 = ndE r (kdE r 2) 1 := ndE_congr (fun x hx => by
      subst hx
      have h35 : σ 35 0 = x.2.2.1 := hE.2.1.2.2.1
      show (decide ((1 : Int) = 1)) = decide (x.2.2.1 = 2)
      exact decide_eq_decide.mpr (by omega))
    rw [e15] at hp15_1
    obtain ⟨i1, i2, i3⟩ := hp15_1
    obtain ⟨j1, j2, j3, j4, j5, j6, j7, j8, j9⟩ := i2
    refine z_aload_n C dX3_looks_18 hl 0 rfl ?_
    refine z_aload_n C dX3_looks_19 hl 0 rfl ?_
    refine m_getsZ C hH 37 ⟨by decide, by decide⟩ (s_15_1 37 0) rfl q2222 rfl dX3_looks_20 ?_
    refine z_ifgt C dX3_looks_23 (tgt := 38) (by decide) ⟨by omega, by omega⟩ (fun c_23_1 => ?_) (fun c_23_1 => ?_)
    · refine z_iconst C dX3_looks_38 ?_
      refine z_goto C dX3_looks_39 (tgt := 43) (by decide) ?_
      refine z_iconst C dX3_looks_43 ?_
      refine m_Vv C hH hS (mm_must hOk s_15_1 1 2 tx n ((ndE r (kdE r 2) 1)) (⟨i1, ⟨j1, j2, j3, j4, j5, j6, j7, j8, j9⟩, i3⟩) (by decide) (by decide)) (cwV 2 C.1.2.2.2.2 (lw_V q2662 q2664 qs95 q133 q2665) rfl rfl rfl (by decide +kernel) ⟨Nat.le_of_ble_eq_true rfl, Nat.le_of_ble_eq_true rfl⟩) rfl hl rfl (Nat.le_of_ble_eq_true rfl) dX3_looks_44 ⟨Nat.le_refl _, Nat.le_refl _⟩ (fun s_44_3 H locs hp_44_3 hH hS => ?_)
      obtain ⟨hp44_3, hf44_3⟩ := hp_44_3
      have e44 : ndE (ndE r (kdE r 2) 1) (decide ((1 : Int) = 1)) 2 = lkE r lo hi := ndE_congr (fun x hx => by
        rw [hx] at i3
        have h37 : s_15_1 37 0 = 0 := i3.1
        have h36 : mn (s_15_1 36 0) = x.2.2.2 := i3.2.1.2.2.2
        rw [(ndE_inr hx).1]
        have h99 := mn_small (v := s_15_1 36 0) hlo.2.2 lo
        rw [h36] at h99
        show (decide ((1 : Int) = 1)) = decide (lo ≤ x.2.2.2 ∧ x.2.2.2 ≤ hi)
        exact decide_eq_decide.mpr (by omega))
      rw [e44] at hp44_3
      obtain ⟨i1, i2, i3⟩ := hp44_3
      obtain ⟨j1, j2, j3, j4, j5, j6, j7, j8, j9⟩ := i2
      refine z_aload_n C dX3_looks_47 hl 0 rfl ?_
      refine m_getsZ C hH 37 ⟨by decide, by decide⟩ (s_44_3 37 0) rfl q2222 rfl dX3_looks_48 ?_
      refine z_ifle C dX3_looks_51 (tgt := 58) (by decide) ⟨by omega, by omega⟩ (fun c_51_3 => ?_) (fun c_51_3 => ?_)
      · refine z_aload_n C dX3_looks_58 hl 0 rfl ?_
        refine m_getsZ C hH 36 ⟨by decide, by decide⟩ (s_44_3 36 0) rfl q2221 rfl dX3_looks_59 ?_
        refine m_iret C hret hH hS dX3_looks_62 ?_
        refine ⟨?_, ⟨i1, ⟨j1, j2, j3, j4, j5, j6, j7, j8, j9⟩, i3⟩, hf15_1.th hf44_3 rfl⟩
        unfold lkV
        cases he : lkE r lo hi with
        | inl er =>
          rewrite [he] at i3
          have h1 := i3.1
          have h2 := i3.2.2
          first | (exfalso; omega) | rfl
        | inr x =>
          rewrite [he] at i3
          have h1 := i3.1
          have h36 : mn (s_44_3 36 0) = x.2.2.2 := i3.2.1.2.2.2
          have h2 := lkE_inr he
          have h99 := mn_small (v := s_44_3 36 0) hlo.2.2 lo
          rw [h36] at h99
          have h98 : mn (s_44_3 36 0) = s_44_3 36 0 := by unfold mn; rw [if_pos (by omega)]
          first | (exfalso; omega) | (show _ = x.2.2.2; omega)
      · refine z_iload_n C dX3_looks_54 hl 1 rfl ?_
        refine z_goto C dX3_looks_55 (tgt := 62) (by decide) ?_
        refine m_iret C hret hH hS dX3_looks_62 ?_
        refine ⟨?_, ⟨i1, ⟨j1, j2, j3, j4, j5, j6, j7, j8, j9⟩, i3⟩, hf15_1.th hf44_3 rfl⟩
        unfold lkV
        cases he : lkE r lo hi with
        | inl er =>
          rewrite [he] at i3
          have h1 := i3.1
          have h2 := i3.2.2
          first | (exfalso; omega) | rfl
        | inr x =>
          rewrite [he] at i3
          have h1 := i3.1
          have h36 : mn (s_44_3 36 0) = x.2.2.2 := i3.2.1.2.2.2
          have h2 := lkE_inr he
          have h99 := mn_small (v := s_44_3 36 0) hlo.2.2 lo
          rw [h36] at h99
          have h98 : mn (s_44_3 36 0) = s_44_3 36 0 := by unfold mn; rw [if_pos (by omega)]
          first | (exfalso; omega) | (show _ = x.2.2.2; omega)
    · refine z_aload_n C dX3_looks_26 hl 0 rfl ?_
      refine m_getsZ C hH 36 ⟨by decide, by decide⟩ (s_15_1 36 0) rfl q2221 rfl dX3_looks_27 ?_
      refine z_iload_n C dX3_looks_30 hl 1 rfl ?_
      refine z_iload_n C dX3_looks_31 hl 2 rfl ?_
      refine m_SiF C hH hS (mm_in hOk s_15_1 (s_15_1 36 0) lo hi (⟨by omega, by omega⟩) (⟨by omega, by omega⟩) (⟨by omega, by omega⟩)) (va_cwS 3 C.1.2.2.2.2 (lw_S q2321 q2322 q133 q2323) rfl rfl rfl (by decide +kernel) ⟨Nat.le_of_ble_eq_true rfl, Nat.le_of_ble_eq_true rfl⟩) rfl hl rfl (Nat.le_of_ble_eq_true rfl) dX3_looks_32 ⟨Nat.le_refl _, Nat.le_refl _⟩ (fun H locs hH hS => ?_)
      refine z_topi (fun z_32_1 hz_32_1 => ?_)
      have q_32_1 := inZ_or (s_15_1 36 0) lo hi
      rw [← hz_32_1] at q_32_1
      refine z_ifeq C dX3_looks_35 (tgt := 42) (by decide) ⟨by omega, by omega⟩ (fun c_35_1 => ?_) (fun c_35_1 => ?_)
      · refine z_iconst C dX3_looks_42 ?_
        refine z_iconst C dX3_looks_43 ?_
        refine m_Vv C hH hS (mm_must hOk s_15_1 0 2 tx n ((ndE r (kdE r 2) 1)) (⟨i1, ⟨j1, j2, j3, j4, j5, j6, j7, j8, j9⟩, i3⟩) (by decide) (by decide)) (cwV 2 C.1.2.2.2.2 (lw_V q2662 q2664 qs95 q133 q2665) rfl rfl rfl (by decide +kernel) ⟨Nat.le_of_ble_eq_true rfl, Nat.le_of_ble_eq_true rfl⟩) rfl hl rfl (Nat.le_of_ble_eq_true rfl) dX3_looks_44 ⟨Nat.le_refl _, Nat.le_refl _⟩ (fun s_44_4 H locs hp_44_4 hH hS => ?_)
        obtain ⟨hp44_4, hf44_4⟩ := hp_44_4
        have e44 : ndE (ndE r (kdE r 2) 1) (decide ((0 : Int) = 1)) 2 = lkE r lo hi := ndE_congr (fun x hx => by
          rw [hx] at i3
          have h37 : s_15_1 37 0 = 0 := i3.1
          have h36 : mn (s_15_1 36 0) = x.2.2.2 := i3.2.1.2.2.2
          rw [(ndE_inr hx).1]
          have h99 := mn_small (v := s_15_1 36 0) hlo.2.2 lo
          rw [h36] at h99
          show (decide ((0 : Int) = 1)) = decide (lo ≤ x.2.2.2 ∧ x.2.2.2 ≤ hi)
          exact decide_eq_decide.mpr (by omega))
        rw [e44] at hp44_4
        obtain ⟨i1, i2, i3⟩ := hp44_4
        obtain ⟨j1, j2, j3, j4, j5, j6, j7, j8, j9⟩ := i2
        refine z_aload_n C dX3_looks_47 hl 0 rfl ?_
        refine m_getsZ C hH 37 ⟨by decide, by decide⟩ (s_44_4 37 0) rfl q2222 rfl dX3_looks_48 ?_
        refine z_ifle C dX3_looks_51 (tgt := 58) (by decide) ⟨by omega, by omega⟩ (fun c_51_4 => ?_) (fun c_51_4 => ?_)
        · refine z_aload_n C dX3_looks_58 hl 0 rfl ?_
          refine m_getsZ C hH 36 ⟨by decide, by decide⟩ (s_44_4 36 0) rfl q2221 rfl dX3_looks_59 ?_
          refine m_iret C hret hH hS dX3_looks_62 ?_
          refine ⟨?_, ⟨i1, ⟨j1, j2, j3, j4, j5, j6, j7, j8, j9⟩, i3⟩, hf15_1.th hf44_4 rfl⟩
          unfold lkV
          cases he : lkE r lo hi with
          | inl er =>
            rewrite [he] at i3
            have h1 := i3.1
            have h2 := i3.2.2
            first | (exfalso; omega) | rfl
          | inr x =>
            rewrite [he] at i3
            have h1 := i3.1
            have h36 : mn (s_44_4 36 0) = x.2.2.2 := i3.2.1.2.2.2
            have h2 := lkE_inr he
            have h99 := mn_small (v := s_44_4 36 0) hlo.2.2 lo
            rw [h36] at h99
            have h98 : mn (s_44_4 36 0) = s_44_4 36 0 := by unfold mn; rw [if_pos (by omega)]
            first | (exfalso; omega) | (show _ = x.2.2.2; omega)
        · refine z_iload_n C dX3_looks_54 hl 1 rfl ?_
          refine z_goto C dX3_looks_55 (tgt := 62) (by decide) ?_
          refine m_iret C hret hH hS dX3_looks_62 ?_
          refine ⟨?_, ⟨i1, ⟨j1, j2, j3, j4, j5, j6, j7, j8, j9⟩, i3⟩, hf15_1.th hf44_4 rfl⟩
          unfold lkV
          cases he : lkE r lo hi with
          | inl er =>
            rewrite [he] at i3
            have h1 := i3.1
            have h2 := i3.2.2
            first | (exfalso; omega) | rfl
          | inr x =>
            rewrite [he] at i3
            have h1 := i3.1
            have h36 : mn (s_44_4 36 0) = x.2.2.2 := i3.2.1.2.2.2
            have h2 := lkE_inr he
            have h99 := mn_small (v := s_44_4 36 0) hlo.2.2 lo
            rw [h36] at h99
            have h98 : mn (s_44_4 36 0) = s_44_4 36 0 := by unfold mn; rw [if_pos (by omega)]
            first | (exfalso; omega) | (show _ = x.2.2.2; omega)
      · refine z_iconst C dX3_looks_38 ?_
        refine z_goto C dX3_looks_39 (tgt := 43) (by decide) ?_
        refine z_iconst C dX3_looks_43 ?_
        refine m_Vv C hH hS (mm_must hOk s_15_1 1 2 tx n ((ndE r (kdE r 2) 1)) (⟨i1, ⟨j1, j2, j3, j4, j5, j6, j7, j8, j9⟩, i3⟩) (by decide) (by decide)) (cwV 2 C.1.2.2.2.2 (lw_V q2662 q2664 qs95 q133 q2665) rfl rfl rfl (by decide +kernel) ⟨Nat.le_of_ble_eq_true rfl, Nat.le_of_ble_eq_true rfl⟩) rfl hl rfl (Nat.le_of_ble_eq_true rfl) dX3_looks_44 ⟨Nat.le_refl _, Nat.le_refl _⟩ (fun s_44_5 H locs hp_44_5 hH hS => ?_)
        obtain ⟨hp44_5, hf44_5⟩ := hp_44_5
        have e44 : ndE (ndE r (kdE r 2) 1) (decide ((1 : Int) = 1)) 2 = lkE r lo hi := ndE_congr (fun x hx => by
          rw [hx] at i3
          have h37 : s_15_1 37 0 = 0 := i3.1
          have h36 : mn (s_15_1 36 0) = x.2.2.2 := i3.2.1.2.2.2
          rw [(ndE_inr hx).1]
          have h99 := mn_small (v := s_15_1 36 0) hlo.2.2 lo
          rw [h36] at h99
          show (decide ((1 : Int) = 1)) = decide (lo ≤ x.2.2.2 ∧ x.2.2.2 ≤ hi)
          exact decide_eq_decide.mpr (by omega))
        rw [e44] at hp44_5
        obtain ⟨i1, i2, i3⟩ := hp44_5
        obtain ⟨j1, j2, j3, j4, j5, j6, j7, j8, j9⟩ := i2
        refine z_aload_n C dX3_looks_47 hl 0 rfl ?_
        refine m_getsZ C hH 37 ⟨by decide, by decide⟩ (s_44_5 37 0) rfl q2222 rfl dX3_looks_48 ?_
        refine z_ifle C dX3_looks_51 (tgt := 58) (by decide) ⟨by omega, by omega⟩ (fun c_51_5 => ?_) (fun c_51_5 => ?_)
        · refine z_aload_n C dX3_looks_58 hl 0 rfl ?_
          refine m_getsZ C hH 36 ⟨by decide, by decide⟩ (s_44_5 36 0) rfl q2221 rfl dX3_looks_59 ?_
          refine m_iret C hret hH hS dX3_looks_62 ?_
          refine ⟨?_, ⟨i1, ⟨j1, j2, j3, j4, j5, j6, j7, j8, j9⟩, i3⟩, hf15_1.th hf44_5 rfl⟩
          unfold lkV
          cases he : lkE r lo hi with
          | inl er =>
            rewrite [he] at i3
            have h1 := i3.1
            have h2 := i3.2.2
            first | (exfalso; omega) | rfl
          | inr x =>
            rewrite [he] at i3
            have h1 := i3.1
            have h36 : mn (s_44_5 36 0) = x.2.2.2 := i3.2.1.2.2.2
            have h2 := lkE_inr he
            have h99 := mn_small (v := s_44_5 36 0) hlo.2.2 lo
            rw [h36] at h99
            have h98 : mn (s_44_5 36 0) = s_44_5 36 0 := by unfold mn; rw [if_pos (by omega)]
            first | (exfalso; omega) | (show _ = x.2.2.2; omega)
        · refine z_iload_n C dX3_looks_54 hl 1 rfl ?_
          refine z_goto C dX3_looks_55 (tgt := 62) (by decide) ?_
          refine m_iret C hret hH hS dX3_looks_62 ?_
          refine ⟨?_, ⟨i1, ⟨j1, j2, j3, j4, j5, j6, j7, j8, j9⟩, i3⟩, hf15_1.th hf44_5 rfl⟩
          unfold lkV
          cases he : lkE r lo hi with
          | inl er =>
            rewrite [he] at i3
            have h1 := i3.1
            have h2 := i3.2.2
            first | (exfalso; omega) | rfl
          | inr x =>
            rewrite [he] at i3
            have h1 := i3.1
            have h36 : mn (s_44_5 36 0) = x.2.2.2 := i3.2.1.2.2.2
            have h2 := lkE_inr he
            have h99 := mn_small (v := s_44_5 36 0) hlo.2.2 lo
            rw [h36] at h99
            have h98 : mn (s_44_5 36 0) = s_44_5 36 0 := by unfold mn; rw [if_pos (by omega)]
            first | (exfalso; omega) | (show _ = x.2.2.2; omega)
set_option maxHeartbeats 1000000 in
theorem mm_reads {l : Launch} {D : va_G} {dA : Nat → ClassId} {A : Nat → Prop} {o : Nat} {ad : Nat → Nat} (hOk : mOk o ad) (σ : Sg) (lo : Int) (hi : Int) (tx : Int → Int) (n : Int) (r : Er LX) (hp : PX σ tx n r) (hlo : 0 ≤ lo ∧ lo ≤ hi ∧ hi ≤ 99) : Met l yX3_reads (ws_ yX3_reads cX3_reads 4 (some .int)) (rmL 5 0 0) (MP D dA A o ad [.ref o, .int (iI lo), .int (iI hi)] σ) (MQi D dA A o ad (fun v σ' => v = lkV r lo hi ∧ PX σ' tx n (goE tx n (lkE r lo hi)) ∧ Fr [33, 34, 35, 36, 37, 38] σ σ')) 0 0 A := by
  refine z_ofW (by decide) rfl ?_
  intro pp ee s0 mm below meth cc0 ls C hret hname hl hH hS
  have hl : lv_has ls 4 [(0, .ref o), (1, .int (iI lo)), (2, .int (iI hi))] := hl
  obtain ⟨hT, hR, hE⟩ := hp
  have hp : PX σ tx n r := ⟨hT, hR, hE⟩
  obtain ⟨hx1, hx2, hx3, hx4⟩ := hT
  have hT : TxAt σ tx n := ⟨hx1, hx2, hx3, hx4⟩
  obtain ⟨g1, g2, g3, g4, g5, g6, g7, g8, g9⟩ := hR
  have hR : LxR σ n := ⟨g1, g2, g3, g4, g5, g6, g7, g8, g9⟩
  refine z_aload_n C dX3_reads_0 hl 0 rfl ?_
  refine z_iload_n C dX3_reads_1 hl 1 rfl ?_
  refine z_iload_n C dX3_reads_2 hl 2 rfl ?_
  refine m_Vi C hH hS (mm_looks hOk σ lo hi tx n r (hp) (by omega)) (cwV 2 C.1.2.2.2.2 (lw_V q2658 q2660 qs94 q133 q2661) rfl rfl rfl (by decide +kernel) ⟨Nat.le_of_ble_eq_true rfl, Nat.le_of_ble_eq_true rfl⟩) rfl hl rfl (Nat.le_of_ble_eq_true rfl) dX3_reads_3 ⟨Nat.le_refl _, Nat.le_refl _⟩ (fun r_3 s_3 H locs hp_3 hH hS => ?_)
  obtain ⟨hv3, hp3, hf3⟩ := hp_3
  refine z_istore_n C [(3, .int (iI r_3)), (0, .ref o), (1, .int (iI lo)), (2, .int (iI hi))] dX3_reads_6 hl (by decide) rfl (fun ls hl => ?_)
  refine z_aload_n C dX3_reads_7 hl 1 rfl ?_
  refine m_Vv C hH hS (mm_goesOn hOk s_3 tx n ((lkE r lo hi)) (hp3)) (cwV 0 C.1.2.2.2.2 (lw_V q2650 q2652 qs92 q133 q2653) rfl rfl rfl (by decide +kernel) ⟨Nat.le_of_ble_eq_true rfl, Nat.le_of_ble_eq_true rfl⟩) rfl hl rfl (Nat.le_of_ble_eq_true rfl) dX3_reads_8 ⟨Nat.le_refl _, Nat.le_refl _⟩ (fun s_8 H locs hp_8 hH hS => ?_)
  obtain ⟨hp8, hf8⟩ := hp_8
  refine z_iload_n C dX3_reads_11 hl 0 rfl ?_
  refine m_iret C hret hH hS dX3_reads_12 ?_
  exact ⟨hv3, hp8, (hf3.up rfl).th hf8 rfl⟩
