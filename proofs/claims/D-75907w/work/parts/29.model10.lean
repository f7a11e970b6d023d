/-! the reference's methods, 10 (written by gen/model10.py) -/
set_option maxRecDepth 100000
set_option maxHeartbeats 1000000 in
theorem mm_laysLosses {l : Launch} {D : va_G} {dA : Nat → ClassId} {A : Nat → Prop} {o : Nat} {ad : Nat → Nat} (hOk : mOk o ad) (σ : Sg)   : Met l yX3_laysLosses (ws_ yX3_laysLosses cX3_laysLosses 2 none) (rmL 1 0 0) (MP D dA A o ad [.ref o] σ) (MQv D dA A o ad (fun σ' => σ' = (sa σ 25 (wr (fun j => σ 1 (8 + j)) (σ 25) 0 20)))) 0 0 A := by
  refine z_ofW (by decide) rfl ?_
  intro pp ee s0 mm below meth cc0 ls C hret hname hl hH hS
  have hl : lv_has ls 2 [(0, .ref o)] := hl
  refine z_iconst C dX3_laysLosses_0 ?_
  refine z_istore_n C [(1, .int (iI 0)), (0, .ref o)] dX3_laysLosses_1 hl (by decide) rfl (fun ls hl => ?_)
  have J_2 : ∀ (fu : Nat) (k : Int) (s1 : Sg), (20 - k).toNat < fu → (0 ≤ k ∧ k ≤ 20) → (s1 = sa σ 25 (wr (fun j => σ 1 (8 + j)) (σ 25) 0 k)) → ∀ (H : Heap) (locs : List Loc) (ls : Array Slot), MH D dA A o ad s1 H → va_S A s0.heap H locs → lv_has ls 2 [(1, .int (iI k)), (0, .ref o)] → W pp l ee (rmL 1 0 0) s0 mm ([.ref o] : List Value).toArray below meth cc0 H locs 0 0 (MQ below (MQv D dA A o ad (fun σ' => σ' = (sa σ 25 (wr (fun j => σ 1 (8 + j)) (σ 25) 0 20)))) ([.ref o] : List Value).toArray s0 0 0 A) (F0 mm 2 ls []) := by
    intro fu
    induction fu with
    | zero => intro k s1 hn; exact absurd hn (Nat.not_lt_zero _)
    | succ fu ih_2 =>
      intro k s1 hn hk0 hs H locs ls hH hS hl
      refine z_iload_n C dX3_laysLosses_2 hl 0 rfl ?_
      refine z_bipush C dX3_laysLosses_3 (by decide +kernel) ?_
      refine z_icmpge C dX3_laysLosses_5 (tgt := 29) (by decide) ⟨⟨by omega, by omega⟩, ⟨by omega, by omega⟩⟩ (fun c_5 => ?_) (fun c_5 => ?_)
      · refine m_vret C hret hH hS dX3_laysLosses_29 ?_
        rw [hs, show k = 20 by omega]
      · refine z_aload_n C dX3_laysLosses_8 hl 1 rfl ?_
        refine m_geta C hH 25 ⟨by decide, by decide⟩ q2210 rfl dX3_laysLosses_9 ?_
        refine z_iload_n C dX3_laysLosses_12 hl 0 rfl ?_
        refine z_aload_n C dX3_laysLosses_13 hl 1 rfl ?_
        refine m_geta C hH 1 ⟨by decide, by decide⟩ q2186 rfl dX3_laysLosses_14 ?_
        refine z_bipush C dX3_laysLosses_17 (by decide +kernel) ?_
        refine z_iload_n C dX3_laysLosses_19 hl 0 rfl ?_
        refine z_iadd C dX3_laysLosses_20 ?_
        refine m_ialdZ C hOk hH 1 ⟨by decide, by decide⟩ (8 + k) (σ 1 (8 + k)) (by rw [hs]; rfl) (show 0 ≤ (8 + k) ∧ (8 + k) < (828 : Int) by omega) dX3_laysLosses_21 ?_
        refine m_iast C hOk hH hS 25 ⟨by decide, by decide⟩ (show 0 ≤ k ∧ k < (20 : Int) by omega) dX3_laysLosses_22 (fun H locs hH hS => ?_)
        refine z_iinc C [(1, .int (iI (k + 1))), (0, .ref o)] dX3_laysLosses_23 hl 0 rfl (by decide) rfl (fun ls hl => ?_)
        refine z_goto C dX3_laysLosses_26 (tgt := 2) (by decide) ?_
        exact ih_2 ((k + 1)) ((su s1 25 k (σ 1 (8 + k)))) (by omega) (by omega) (by rw [hs]; exact su_wr σ 25 (fun j => σ 1 (8 + j)) _ (by omega)) _ _ _ hH hS (lv_sub hl [0, 1] rfl)
  exact J_2 _ 0 σ (Nat.lt_succ_self _) (by omega) (by rw [wr_0, sa_id]) _ _ _ hH hS (lv_sub hl [0, 1] rfl)
set_option maxHeartbeats 1000000 in
theorem mm_fills {l : Launch} {D : va_G} {dA : Nat → ClassId} {A : Nat → Prop} {o : Nat} {ad : Nat → Nat} (hOk : mOk o ad) (σ : Sg) (ln : Int) (x : Int) (P : Pg) (w2 : Int) (hP : PgAt (σ 1) P) (hk : PgOk P) (hl0 : 0 ≤ ln ∧ ln < pN P) : Met l yX3_fills (ws_ yX3_fills cX3_fills 4 none) (rmL 1 0 0) (MP D dA A o ad [.ref o, .int (iI ln), .int (iI x)] σ) (MQv D dA A o ad (fun σ' => σ' = (su (sa σ 20 (wr (fun j => if pS P 2 = 1 ∨ ln = 0 then 0 else σ 20 (j - 40)) (σ 20) (40 * ln) (40 * ln + 40))) 21 ln x))) 0 0 A := by
  refine z_ofW (by decide) rfl ?_
  intro pp ee s0 mm below meth cc0 ls C hret hname hl hH hS
  have hl : lv_has ls 4 [(0, .ref o), (1, .int (iI ln)), (2, .int (iI x))] := hl
  have hk9 := hk
  have hP9 := hP
  obtain ⟨k1, k2, k3, k4, k5, k6, k7, k8, k9, k10, k11⟩ := hk
  obtain ⟨p1, p2, p3, p4, p5⟩ := hP
  have pn0 : 0 ≤ pN P := by show (0 : Int) ≤ ((pB P).length : Int); omega
  refine z_iconst C dX3_fills_0 ?_
  refine z_istore_n C [(3, .int (iI 0)), (0, .ref o), (1, .int (iI ln)), (2, .int (iI x))] dX3_fills_1 hl (by decide) rfl (fun ls hl => ?_)
  have J_2 : ∀ (fu : Nat) (k : Int) (s1 : Sg), (40 - k).toNat < fu → (0 ≤ k ∧ k ≤ 40) → (s1 = sa σ 20 (wr (fun j => if pS P 2 = 1 ∨ ln = 0 then 0 else σ 20 (j - 40)) (σ 20) (40 * ln) (40 * ln + k))) → ∀ (H : Heap) (locs : List Loc) (ls : Array Slot), MH D dA A o ad s1 H → va_S A s0.heap H locs → lv_has ls 4 [(3, .int (iI k)), (0, .ref o), (1, .int (iI ln)), (2, .int (iI x))] → W pp l ee (rmL 1 0 0) s0 mm ([.ref o, .int (iI ln), .int (iI x)] : List Value).toArray below meth cc0 H locs 0 0 (MQ below (MQv D dA A o ad (fun σ' => σ' = (su (sa σ 20 (wr (fun j => if pS P 2 = 1 ∨ ln = 0 then 0 else σ 20 (j - 40)) (σ 20) (40 * ln) (40 * ln + 40))) 21 ln x))) ([.ref o, .int (iI ln), .int (iI x)] : List Value).toArray s0 0 0 A) (F0 mm 2 ls []) := by
    intro fu
    induction fu with
    | zero => intro k s1 hn; exact absurd hn (Nat.not_lt_zero _)
    | succ fu ih_2 =>
      intro k s1 hn hk0 hs H locs ls hH hS hl
      refine z_iload_n C dX3_fills_2 hl 0 rfl ?_
      refine z_bipush C dX3_fills_3 (by decide +kernel) ?_
      refine z_icmpge C dX3_fills_5 (tgt := 56) (by decide) ⟨⟨by omega, by omega⟩, ⟨by omega, by omega⟩⟩ (fun c_5 => ?_) (fun c_5 => ?_)
      · refine z_aload_n C dX3_fills_56 hl 1 rfl ?_
        refine m_geta C hH 21 ⟨by decide, by decide⟩ q2206 rfl dX3_fills_57 ?_
        refine z_iload_n C dX3_fills_60 hl 2 rfl ?_
        refine z_iload_n C dX3_fills_61 hl 3 rfl ?_
        refine m_iast C hOk hH hS 21 ⟨by decide, by decide⟩ (show 0 ≤ ln ∧ ln < (20 : Int) by omega) dX3_fills_62 (fun H locs hH hS => ?_)
        refine m_vret C hret hH hS dX3_fills_63 ?_
        rw [hs, show k = 40 by omega]
      · have J_49 : ∀ (v : Int), (v = (if pS P 2 = 1 ∨ ln = 0 then 0 else σ 20 (40 * ln + k - 40))) → ∀ (H : Heap) (locs : List Loc) (ls : Array Slot), MH D dA A o ad s1 H → va_S A s0.heap H locs → lv_has ls 4 [(3, .int (iI k)), (0, .ref o), (1, .int (iI ln)), (2, .int (iI x))] → W pp l ee (rmL 1 0 0) s0 mm ([.ref o, .int (iI ln), .int (iI x)] : List Value).toArray below meth cc0 H locs 0 0 (MQ below (MQv D dA A o ad (fun σ' => σ' = (su (sa σ 20 (wr (fun j => if pS P 2 = 1 ∨ ln = 0 then 0 else σ 20 (j - 40)) (σ 20) (40 * ln) (40 * ln + 40))) 21 ln x))) ([.ref o, .int (iI ln), .int (iI x)] : List Value).toArray s0 0 0 A) (F0 mm 49 ls [.int (iI v), .int (iI (40 * ln + k)), .ref (ad 20)]) := by
          intro v hv H locs ls hH hS hl
          refine m_iast C hOk hH hS 20 ⟨by decide, by decide⟩ (show 0 ≤ (40 * ln + k) ∧ (40 * ln + k) < (800 : Int) by omega) dX3_fills_49 (fun H locs hH hS => ?_)
          refine z_iinc C [(3, .int (iI (k + 1))), (0, .ref o), (1, .int (iI ln)), (2, .int (iI x))] dX3_fills_50 hl 0 rfl (by decide) rfl (fun ls hl => ?_)
          refine z_goto C dX3_fills_53 (tgt := 2) (by decide) ?_
          exact ih_2 ((k + 1)) ((su s1 20 (40 * ln + k) v)) (by omega) (by omega) (by rw [hs, ← Int.add_assoc, ← su_wr _ _ _ _ (show 40 * ln ≤ 40 * ln + k by omega), hv]) _ _ _ hH hS (lv_sub hl [0, 1, 2, 3] rfl)
        refine z_aload_n C dX3_fills_8 hl 1 rfl ?_
        refine m_geta C hH 20 ⟨by decide, by decide⟩ q2205 rfl dX3_fills_9 ?_
        refine z_bipush C dX3_fills_12 (by decide +kernel) ?_
        refine z_iload_n C dX3_fills_14 hl 2 rfl ?_
        refine z_imul C dX3_fills_15 ?_
        refine z_iload_n C dX3_fills_16 hl 0 rfl ?_
        refine z_iadd C dX3_fills_17 ?_
        refine z_aload_n C dX3_fills_18 hl 1 rfl ?_
        refine m_geta C hH 1 ⟨by decide, by decide⟩ q2186 rfl dX3_fills_19 ?_
        refine z_iconst C dX3_fills_22 ?_
        refine m_ialdZ C hOk hH 1 ⟨by decide, by decide⟩ 4 (pS P 2) (by rw [hs]; show σ 1 4 = _; exact p3 2 (by omega) (by omega)) (show 0 ≤ 4 ∧ 4 < (828 : Int) by omega) dX3_fills_23 ?_
        refine z_iconst C dX3_fills_24 ?_
        refine z_icmpeq C dX3_fills_25 (tgt := 32) (by decide) ⟨⟨by omega, by omega⟩, ⟨by omega, by omega⟩⟩ (fun c_25 => ?_) (fun c_25 => ?_)
        · refine z_iconst C dX3_fills_32 ?_
          refine z_goto C dX3_fills_33 (tgt := 49) (by decide) ?_
          exact J_49 0 (by first | (rw [if_pos (by omega)]; done) | (rw [if_neg (by omega)]; done)) _ _ _ hH hS (lv_sub hl [0, 1, 2, 3] rfl)
        · refine z_iload_n C dX3_fills_28 hl 2 rfl ?_
          refine z_ifne C dX3_fills_29 (tgt := 36) (by decide) ⟨by omega, by omega⟩ (fun c_29 => ?_) (fun c_29 => ?_)
          · refine z_aload_n C dX3_fills_36 hl 1 rfl ?_
            refine m_geta C hH 20 ⟨by decide, by decide⟩ q2205 rfl dX3_fills_37 ?_
            refine z_bipush C dX3_fills_40 (by decide +kernel) ?_
            refine z_iload_n C dX3_fills_42 hl 2 rfl ?_
            refine z_iconst C dX3_fills_43 ?_
            refine z_isub C dX3_fills_44 ?_
            refine z_imul C dX3_fills_45 ?_
            refine z_iload_n C dX3_fills_46 hl 0 rfl ?_
            refine z_iadd C dX3_fills_47 ?_
            refine m_ialdZ C hOk hH 20 ⟨by decide, by decide⟩ ((40 * (ln - 1)) + k) (σ 20 (40 * ln + k - 40)) (by rw [hs, sa_k, wr_out _ _ (by omega)]; congr 1; omega) (show 0 ≤ ((40 * (ln - 1)) + k) ∧ ((40 * (ln - 1)) + k) < (800 : Int) by omega) dX3_fills_48 ?_
            exact J_49 ((σ 20 (40 * ln + k - 40))) (by first | (rw [if_pos (by omega)]; done) | (rw [if_neg (by omega)]; done)) _ _ _ hH hS (lv_sub hl [0, 1, 2, 3] rfl)
          · refine z_iconst C dX3_fills_32 ?_
            refine z_goto C dX3_fills_33 (tgt := 49) (by decide) ?_
            exact J_49 0 (by first | (rw [if_pos (by omega)]; done) | (rw [if_neg (by omega)]; done)) _ _ _ hH hS (lv_sub hl [0, 1, 2, 3] rfl)
  exact J_2 _ 0 σ (Nat.lt_succ_self _) (by omega) (by rw [show 40 * ln + (0 : Int) = 40 * ln from Int.add_zero _, wr_0, sa_id]) _ _ _ hH hS (lv_sub hl [0, 1, 2, 3] rfl)
set_option maxHeartbeats 1000000 in
theorem mm_wrongIn {l : Launch} {D : va_G} {dA : Nat → ClassId} {A : Nat → Prop} {o : Nat} {ad : Nat → Nat} (hOk : mOk o ad) (σ : Sg) (ln : Int) (P : Pg) (rr : Int → Int) (hP : PgAt (σ 1) P) (hk : PgOk P) (hl0 : 0 ≤ ln ∧ ln < pN P) (hg : ∀ k, 0 ≤ k → k < pW P → σ 20 (40 * ln + k) = rr k) (hb : ∀ k, rr k = 0 ∨ rr k = 1) : Met l yX3_wrongIn (ws_ yX3_wrongIn cX3_wrongIn 4 (some .int)) (rmL 2 0 0) (MP D dA A o ad [.ref o, .int (iI ln)] σ) (MQi D dA A o ad (fun r σ' => σ' = σ ∧ r = wrZ P rr ln)) 0 0 A := by
  refine z_ofW (by decide) rfl ?_
  intro pp ee s0 mm below meth cc0 ls C hret hname hl hH hS
  have hl : lv_has ls 4 [(0, .ref o), (1, .int (iI ln))] := hl
  have hk9 := hk
  have hP9 := hP
  obtain ⟨k1, k2, k3, k4, k5, k6, k7, k8, k9, k10, k11⟩ := hk
  obtain ⟨p1, p2, p3, p4, p5⟩ := hP
  have pn0 : 0 ≤ pN P := by show (0 : Int) ≤ ((pB P).length : Int); omega
  refine z_iconst C dX3_wrongIn_0 ?_
  refine z_istore_n C [(2, .int (iI 0)), (0, .ref o), (1, .int (iI ln))] dX3_wrongIn_1 hl (by decide) rfl (fun ls hl => ?_)
  refine z_iconst C dX3_wrongIn_2 ?_
  refine z_istore_n C [(3, .int (iI 0)), (2, .int (iI 0)), (0, .ref o), (1, .int (iI ln))] dX3_wrongIn_3 hl (by decide) rfl (fun ls hl => ?_)
  have J_4 : ∀ (fu : Nat) (t : Int) (k : Int), (pW P - k).toNat < fu → (0 ≤ k ∧ k ≤ pW P) → (t = cnt (fun k => if rr k = lnZ P ln k then 0 else 1) k) → ∀ (H : Heap) (locs : List Loc) (ls : Array Slot), MH D dA A o ad σ H → va_S A s0.heap H locs → lv_has ls 4 [(3, .int (iI k)), (2, .int (iI t)), (0, .ref o), (1, .int (iI ln))] → W pp l ee (rmL 2 0 0) s0 mm ([.ref o, .int (iI ln)] : List Value).toArray below meth cc0 H locs 0 0 (MQ below (MQi D dA A o ad (fun r σ' => σ' = σ ∧ r = wrZ P rr ln)) ([.ref o, .int (iI ln)] : List Value).toArray s0 0 0 A) (F0 mm 4 ls []) := by
    intro fu
    induction fu with
    | zero => intro t k hn; exact absurd hn (Nat.not_lt_zero _)
    | succ fu ih_4 =>
      intro t k hn hk0 ht H locs ls hH hS hl
      refine z_iload_n C dX3_wrongIn_4 hl 0 rfl ?_
      refine z_aload_n C dX3_wrongIn_5 hl 2 rfl ?_
      refine m_geta C hH 1 ⟨by decide, by decide⟩ q2186 rfl dX3_wrongIn_6 ?_
      refine z_iconst C dX3_wrongIn_9 ?_
      refine m_ialdZ C hOk hH 1 ⟨by decide, by decide⟩ 0 (pW P) (p1) (show 0 ≤ 0 ∧ 0 < (828 : Int) by omega) dX3_wrongIn_10 ?_
      refine z_icmpge C dX3_wrongIn_11 (tgt := 52) (by decide) ⟨⟨by omega, by omega⟩, ⟨by omega, by omega⟩⟩ (fun c_11 => ?_) (fun c_11 => ?_)
      · refine z_iload_n C dX3_wrongIn_52 hl 1 rfl ?_
        refine m_iret C hret hH hS dX3_wrongIn_53 ?_
        refine ⟨rfl, ?_⟩
        unfold wrZ; rw [ht, show k = pW P by omega]
      · have v1 := lnZ_01 P ln k
        have v2 := hb k
        refine z_iload_n C dX3_wrongIn_14 hl 1 rfl ?_
        refine z_aload_n C dX3_wrongIn_15 hl 2 rfl ?_
        refine m_geta C hH 20 ⟨by decide, by decide⟩ q2205 rfl dX3_wrongIn_16 ?_
        refine z_bipush C dX3_wrongIn_19 (by decide +kernel) ?_
        refine z_iload_n C dX3_wrongIn_21 hl 3 rfl ?_
        refine z_imul C dX3_wrongIn_22 ?_
        refine z_iload_n C dX3_wrongIn_23 hl 0 rfl ?_
        refine z_iadd C dX3_wrongIn_24 ?_
        refine m_ialdZ C hOk hH 20 ⟨by decide, by decide⟩ ((40 * ln) + k) (rr k) (hg k hk0.1 (by omega)) (show 0 ≤ ((40 * ln) + k) ∧ ((40 * ln) + k) < (800 : Int) by omega) dX3_wrongIn_25 ?_
        refine z_aload_n C dX3_wrongIn_26 hl 2 rfl ?_
        refine m_geta C hH 1 ⟨by decide, by decide⟩ q2186 rfl dX3_wrongIn_27 ?_
        refine z_iload_n C dX3_wrongIn_30 hl 3 rfl ?_
        refine z_iload_n C dX3_wrongIn_31 hl 0 rfl ?_
        refine m_SiF C hH hS (mm_dotAt hOk σ ln k) (va_cwS 2 C.1.2.2.2.2 (lw_S q2332 q2333 q133 q2334) rfl rfl rfl (by decide +kernel) ⟨Nat.le_of_ble_eq_true rfl, Nat.le_of_ble_eq_true rfl⟩) rfl hl rfl (Nat.le_of_ble_eq_true rfl) dX3_wrongIn_32 ⟨Nat.le_refl _, Nat.le_refl _⟩ (fun H locs hH hS => ?_)
        refine m_ialdZ C hOk hH 1 ⟨by decide, by decide⟩ (28 + 40 * ln + k) (lnZ P ln k) (p5 ln k (by omega) (by omega) (by omega) (by omega)) (show 0 ≤ (28 + 40 * ln + k) ∧ (28 + 40 * ln + k) < (828 : Int) by omega) dX3_wrongIn_35 ?_
        refine z_icmpne C dX3_wrongIn_36 (tgt := 43) (by decide) ⟨⟨by omega, by omega⟩, ⟨by omega, by omega⟩⟩ (fun c_36 => ?_) (fun c_36 => ?_)
        · refine z_iconst C dX3_wrongIn_43 ?_
          refine z_iadd C dX3_wrongIn_44 ?_
          refine z_istore_n C [(2, .int (iI (t + 1))), (3, .int (iI k)), (0, .ref o), (1, .int (iI ln))] dX3_wrongIn_45 hl (by decide) rfl (fun ls hl => ?_)
          refine z_iinc C [(3, .int (iI (k + 1))), (2, .int (iI (t + 1))), (0, .ref o), (1, .int (iI ln))] dX3_wrongIn_46 hl 1 rfl (by decide) rfl (fun ls hl => ?_)
          refine z_goto C dX3_wrongIn_49 (tgt := 4) (by decide) ?_
          exact ih_4 ((t + 1)) ((k + 1)) (by omega) (by omega) (by rw [cnt_go _ hk0.1, ← ht, if_neg (fun h => c_36 h)]) _ _ _ hH hS (lv_sub hl [0, 1, 2, 3] rfl)
        · refine z_iconst C dX3_wrongIn_39 ?_
          refine z_goto C dX3_wrongIn_40 (tgt := 44) (by decide) ?_
          refine z_iadd C dX3_wrongIn_44 ?_
          refine z_istore_n C [(2, .int (iI (t + 0))), (3, .int (iI k)), (0, .ref o), (1, .int (iI ln))] dX3_wrongIn_45 hl (by decide) rfl (fun ls hl => ?_)
          refine z_iinc C [(3, .int (iI (k + 1))), (2, .int (iI (t + 0))), (0, .ref o), (1, .int (iI ln))] dX3_wrongIn_46 hl 1 rfl (by decide) rfl (fun ls hl => ?_)
          refine z_goto C dX3_wrongIn_49 (tgt := 4) (by decide) ?_
          exact ih_4 ((t + 0)) ((k + 1)) (by omega) (by omega) (by rw [cnt_go _ hk0.1, ← ht, if_pos c_36]) _ _ _ hH hS (lv_sub hl [0, 1, 2, 3] rfl)
  exact J_4 _ 0 0 (Nat.lt_succ_self _) (by omega) (rfl) _ _ _ hH hS (lv_sub hl [0, 1, 2, 3] rfl)
set_option maxHeartbeats 1000000 in
theorem mm_isRead {l : Launch} {D : va_G} {dA : Nat → ClassId} {A : Nat → Prop} {o : Nat} {ad : Nat → Nat} (hOk : mOk o ad) (σ : Sg) (ln : Int) (P : Pg) (ev : Int) (g : Gt) (hP : PgAt (σ 1) P) (hk : PgOk P) (hl0 : 0 ≤ ln ∧ ln < pN P) (hev : σ 1 2 = ev) (hev2 : 1 ≤ ev ∧ ev ≤ 8) (hg : GtAt (pW P) σ g ln) (hgb : ∀ l k, g l k = 0 ∨ g l k = 1) : Met l yX3_isRead (ws_ yX3_isRead cX3_isRead 4 (some .boolean)) (rmL 6 0 0) (MP D dA A o ad [.ref o, .int (iI ln)] σ) (MQi D dA A o ad (fun r σ' => Fr [7, 8, 9, 10, 11, 12, 13, 14, 15, 16, 17, 18, 19] σ σ' ∧ ((rdX P ev g ln = none ∧ r = 0) ∨ ∃ res, rdX P ev g ln = some res ∧ r = 1 ∧ ∀ j, 0 ≤ j → j < pW P → σ' 15 j = res j))) 0 0 A := by
  refine z_ofW (by decide) rfl ?_
  intro pp ee s0 mm below meth cc0 ls C hret hname hl hH hS
  have hl : lv_has ls 4 [(0, .ref o), (1, .int (iI ln))] := hl
  have hk9 := hk
  have hP9 := hP
  obtain ⟨k1, k2, k3, k4, k5, k6, k7, k8, k9, k10, k11⟩ := hk
  obtain ⟨p1, p2, p3, p4, p5⟩ := hP
  have pn0 : 0 ≤ pN P := by show (0 : Int) ≤ ((pB P).length : Int); omega
  have i01 := isMk_01 P ev ln
  have i0 := isMk_0 P ev
  refine z_aload_n C dX3_isRead_0 hl 0 rfl ?_
  refine z_iload_n C dX3_isRead_1 hl 1 rfl ?_
  refine m_Vi C hH hS (mm_isMark hOk σ ln P ev (hP9) (hk9) (by omega) (hev) (by omega)) (cwV 1 C.1.2.2.2.2 (lw_V q2343 q2345 qs48 q133 q2346) rfl rfl rfl (by decide +kernel) ⟨Nat.le_of_ble_eq_true rfl, Nat.le_of_ble_eq_true rfl⟩) rfl hl rfl (Nat.le_of_ble_eq_true rfl) dX3_isRead_2 ⟨Nat.le_refl _, Nat.le_refl _⟩ (fun r_2 s_2 H locs hp_2 hH hS => ?_)
  obtain ⟨hr2, hf2⟩ := hp_2
  refine z_istore_n C [(2, .int (iI r_2)), (0, .ref o), (1, .int (iI ln))] dX3_isRead_5 hl (by decide) rfl (fun ls hl => ?_)
  refine z_aload_n C dX3_isRead_6 hl 1 rfl ?_
  refine z_iload_n C dX3_isRead_7 hl 2 rfl ?_
  refine m_Vv C hH hS (mm_codesLine hOk s_2 ln P (by rw [hf2.at 1 rfl]; exact hP9) (hk9) (by omega)) (cwV 1 C.1.2.2.2.2 (lw_V q2347 q2349 qs49 q133 q2350) rfl rfl rfl (by decide +kernel) ⟨Nat.le_of_ble_eq_true rfl, Nat.le_of_ble_eq_true rfl⟩) rfl hl rfl (Nat.le_of_ble_eq_true rfl) dX3_isRead_8 ⟨Nat.le_refl _, Nat.le_refl _⟩ (fun s_8 H locs hp_8 hH hS => ?_)
  obtain ⟨hc8, hf8⟩ := hp_8
  obtain ⟨c1, c2, c3, c4, c5⟩ := hc8
  have l1 : ((pR P ln).length : Int) ≤ pW P + 1 := rns_len (lnZ P ln) (show 0 ≤ pW P by omega)
  have l2 : ((pC P ln).length : Int) ≤ pW P + 1 := cds_len (upZ P ln) (lnZ P ln) (show 0 ≤ pW P by omega)
  refine z_iload_n C dX3_isRead_11 hl 0 rfl ?_
  refine z_ifeq C dX3_isRead_12 (tgt := 43) (by decide) ⟨by omega, by omega⟩ (fun c_12 => ?_) (fun c_12 => ?_)
  · have hm0 : isMk P ev ln = 0 := by omega
    have hln0 : ln ≠ 0 := fun e => by rw [e] at hm0; omega
    refine z_aload_n C dX3_isRead_43 hl 1 rfl ?_
    refine z_aload_n C dX3_isRead_44 hl 1 rfl ?_
    refine m_geta C hH 20 ⟨by decide, by decide⟩ q2205 rfl dX3_isRead_45 ?_
    refine z_bipush C dX3_isRead_48 (by decide +kernel) ?_
    refine z_iload_n C dX3_isRead_50 hl 2 rfl ?_
    refine z_iconst C dX3_isRead_51 ?_
    refine z_isub C dX3_isRead_52 ?_
    refine z_imul C dX3_isRead_53 ?_
    refine m_VvF C hH hS (mm_laysUpper hOk s_8 20 (40 * (ln - 1)) (⟨by decide, by decide⟩) (by decide) (Or.inr (show 0 ≤ 40 * (ln - 1) ∧ 40 * (ln - 1) + 40 ≤ (800 : Int) by omega))) (cwV 2 C.1.2.2.2.2 (lw_V q2355 q2357 qs51 q133 q2358) rfl rfl rfl (by decide +kernel) ⟨Nat.le_of_ble_eq_true rfl, Nat.le_of_ble_eq_true rfl⟩) rfl hl rfl (Nat.le_of_ble_eq_true rfl) dX3_isRead_54 ⟨Nat.le_refl _, Nat.le_refl _⟩ (fun H locs hH hS => ?_)
    refine z_aload_n C dX3_isRead_57 hl 1 rfl ?_
    refine m_Vi C hH hS (mm_readsCode hOk (sa s_8 7 (wr (fun j => if (40 * (ln - 1)) = -1 then 0 else s_8 20 ((40 * (ln - 1)) + j)) (s_8 7) 0 40)) (pW P) ((g (ln - 1))) (pC P ln) (by omega) (c1) (fun j h0 h1 => (by
      show wr (fun j => if 40 * (ln - 1) = -1 then 0 else s_8 20 (40 * (ln - 1) + j)) (s_8 7) 0 40 j = _
      rw [wr_in _ _ h0 (by omega), if_neg (by omega), hf8.at 20 rfl, hf2.at 20 rfl]; exact hg (ln - 1) j (by omega) (by omega) h0 h1)) (hgb (ln - 1)) (c4) (cds_ok _ _ (by omega)) (by omega)) (cwV 0 C.1.2.2.2.2 (lw_V q2465 q2467 qs69 q133 q2468) rfl rfl rfl (by decide +kernel) ⟨Nat.le_of_ble_eq_true rfl, Nat.le_of_ble_eq_true rfl⟩) rfl hl rfl (Nat.le_of_ble_eq_true rfl) dX3_isRead_58 ⟨Nat.le_refl _, Nat.le_refl _⟩ (fun r_58 s_58 H locs hp_58 hH hS => ?_)
    obtain ⟨hf58, hr58⟩ := hp_58
    refine m_zret C hret hH hS (by rcases hr58 with ⟨_, h⟩ | ⟨_, _, h, _⟩ <;> omega) dX3_isRead_61 ?_
    refine ⟨(frSa ((Fr.rf.th hf2 rfl).th hf8 rfl) rfl).th hf58 rfl, ?_⟩
    have e : rdX P ev g ln = rdC (g (ln - 1)) (pW P) (pC P ln) := by unfold rdX; rw [if_neg (by omega)]
    rw [e]
    rcases hr58 with h | ⟨res, h1, h2, h3⟩
    · exact Or.inl h
    · exact Or.inr ⟨res, h1, h2, fun j a b => h3 j a (by omega)⟩
  · refine z_iconst C dX3_isRead_15 ?_
    refine z_istore_n C [(3, .int (iI 0)), (2, .int (iI r_2)), (0, .ref o), (1, .int (iI ln))] dX3_isRead_16 hl (by decide) rfl (fun ls hl => ?_)
    have J_17 : ∀ (fu : Nat) (k : Int) (s1 : Sg), (40 - k).toNat < fu → (0 ≤ k ∧ k ≤ 40) → (s1 = sa s_8 15 (wr (s_8 8) (s_8 15) 0 k)) → ∀ (H : Heap) (locs : List Loc) (ls : Array Slot), MH D dA A o ad s1 H → va_S A s0.heap H locs → lv_has ls 4 [(3, .int (iI k)), (2, .int (iI r_2)), (0, .ref o), (1, .int (iI ln))] → W pp l ee (rmL 6 0 0) s0 mm ([.ref o, .int (iI ln)] : List Value).toArray below meth cc0 H locs 0 0 (MQ below (MQi D dA A o ad (fun r σ' => Fr [7, 8, 9, 10, 11, 12, 13, 14, 15, 16, 17, 18, 19] σ σ' ∧ ((rdX P ev g ln = none ∧ r = 0) ∨ ∃ res, rdX P ev g ln = some res ∧ r = 1 ∧ ∀ j, 0 ≤ j → j < pW P → σ' 15 j = res j))) ([.ref o, .int (iI ln)] : List Value).toArray s0 0 0 A) (F0 mm 17 ls []) := by
      intro fu
      induction fu with
      | zero => intro k s1 hn; exact absurd hn (Nat.not_lt_zero _)
      | succ fu ih_17 =>
        intro k s1 hn hk0 hs H locs ls hH hS hl
        refine z_iload_n C dX3_isRead_17 hl 0 rfl ?_
        refine z_bipush C dX3_isRead_18 (by decide +kernel) ?_
        refine z_icmpge C dX3_isRead_20 (tgt := 41) (by decide) ⟨⟨by omega, by omega⟩, ⟨by omega, by omega⟩⟩ (fun c_20 => ?_) (fun c_20 => ?_)
        · refine z_iconst C dX3_isRead_41 ?_
          refine m_zret C hret hH hS (by omega) dX3_isRead_42 ?_
          refine ⟨by rw [hs]; exact frSa ((Fr.rf.th hf2 rfl).th hf8 rfl) rfl, Or.inr ⟨lnZ P ln, by unfold rdX; rw [if_pos (by omega)], rfl, fun j h0 h1 => ?_⟩⟩
          rw [hs, sa_k, wr_in _ _ h0 (by omega)]; exact c3 j h0 h1
        · refine z_aload_n C dX3_isRead_23 hl 2 rfl ?_
          refine m_geta C hH 15 ⟨by decide, by decide⟩ q2200 rfl dX3_isRead_24 ?_
          refine z_iload_n C dX3_isRead_27 hl 0 rfl ?_
          refine z_aload_n C dX3_isRead_28 hl 2 rfl ?_
          refine m_geta C hH 8 ⟨by decide, by decide⟩ q2193 rfl dX3_isRead_29 ?_
          refine z_iload_n C dX3_isRead_32 hl 0 rfl ?_
          refine m_ialdZ C hOk hH 8 ⟨by decide, by decide⟩ k (s_8 8 k) (by rw [hs]; rfl) (show 0 ≤ k ∧ k < (40 : Int) by omega) dX3_isRead_33 ?_
          refine m_iast C hOk hH hS 15 ⟨by decide, by decide⟩ (show 0 ≤ k ∧ k < (40 : Int) by omega) dX3_isRead_34 (fun H locs hH hS => ?_)
          refine z_iinc C [(3, .int (iI (k + 1))), (2, .int (iI r_2)), (0, .ref o), (1, .int (iI ln))] dX3_isRead_35 hl 0 rfl (by decide) rfl (fun ls hl => ?_)
          refine z_goto C dX3_isRead_38 (tgt := 17) (by decide) ?_
          exact ih_17 ((k + 1)) ((su s1 15 k (s_8 8 k))) (by omega) (by omega) (by rw [hs]; exact su_wr s_8 15 (s_8 8) _ (by omega)) _ _ _ hH hS (lv_sub hl [0, 1, 2, 3] rfl)
    exact J_17 _ 0 s_8 (Nat.lt_succ_self _) (by omega) (by rw [wr_0, sa_id]) _ _ _ hH hS (lv_sub hl [0, 1, 2, 3] rfl)
set_option maxHeartbeats 1000000 in
theorem mm_sends {l : Launch} {D : va_G} {dA : Nat → ClassId} {A : Nat → Prop} {o : Nat} {ad : Nat → Nat} (hOk : mOk o ad) (σ : Sg) (ln : Int) (P : Pg) (ev : Int) (t : Sg) (g : Gt) (lz : Int → Int) (hP : PgAt (σ 1) P) (hk : PgOk P) (hl0 : 0 ≤ ln ∧ ln < pN P) (hev : σ 1 2 = ev) (hev2 : 1 ≤ ev ∧ ev ≤ 8) (hT : TauAt σ t) (hg : GtAt (pW P) σ g ln) (hgb : ∀ l k, g l k = 0 ∨ g l k = 1) (hls : ∀ i, 0 ≤ i → i < 20 → σ 25 i = lz i) (hlsr : ∀ i, 0 ≤ i → i < 20 → 0 ≤ lz i ∧ lz i ≤ 5) (htr : ∀ i, 0 ≤ t 22 i ∧ t 22 i ≤ 1000) : Met l yX3_sends (ws_ yX3_sends cX3_sends 4 (some .int)) (rmL 7 0 0) (MP D dA A o ad [.ref o, .int (iI ln)] σ) (MQi D dA A o ad (fun r σ' => r = (sdA P ev lz t g ln).2.2 ∧ TauAt σ' (sdA P ev lz t g ln).1 ∧ GtAt (pW P) σ' (sdA P ev lz t g ln).2.1 (if r = 0 then ln + 1 else ln) ∧ Fr [7, 8, 9, 10, 11, 12, 13, 14, 15, 16, 17, 18, 19, 20, 21, 22, 23, 26, 27, 29, 30] σ σ')) 0 0 A := by
  refine z_ofW (by decide) rfl ?_
  intro pp ee s0 mm below meth cc0 ls C hret hname hl hH hS
  have hl : lv_has ls 4 [(0, .ref o), (1, .int (iI ln))] := hl
  have hk9 := hk
  have hP9 := hP
  obtain ⟨k1, k2, k3, k4, k5, k6, k7, k8, k9, k10, k11⟩ := hk
  obtain ⟨p1, p2, p3, p4, p5⟩ := hP
  have pn0 : 0 ≤ pN P := by show (0 : Int) ≤ ((pB P).length : Int); omega
  have hlr := hlsr ln (by omega) (by omega)
  have htr1 := htr ln
  obtain ⟨cost, hcost⟩ : ∃ x, x = pS P 4 + bitsOf P ev ln := ⟨_, rfl⟩
  refine z_aload_n C dX3_sends_0 hl 0 rfl ?_
  refine m_geta C hH 1 ⟨by decide, by decide⟩ q2186 rfl dX3_sends_1 ?_
  refine z_bipush C dX3_sends_4 (by decide +kernel) ?_
  refine m_ialdZ C hOk hH 1 ⟨by decide, by decide⟩ 6 (pS P 4) (by have := p3 4 (by omega) (by omega); exact this) (show 0 ≤ 6 ∧ 6 < (828 : Int) by omega) dX3_sends_6 ?_
  refine z_aload_n C dX3_sends_7 hl 0 rfl ?_
  refine z_iload_n C dX3_sends_8 hl 1 rfl ?_
  refine m_Vi C hH hS (mm_sentBits hOk σ ln P ev (hP9) (hk9) (by omega) (hev) (by omega)) (cwV 1 C.1.2.2.2.2 (lw_V q2421 q2423 qs64 q133 q2424) rfl rfl rfl (by decide +kernel) ⟨Nat.le_of_ble_eq_true rfl, Nat.le_of_ble_eq_true rfl⟩) rfl hl rfl (Nat.le_of_ble_eq_true rfl) dX3_sends_9 ⟨Nat.le_refl _, Nat.le_refl _⟩ (fun r_9 s_9 H locs hp_9 hH hS => ?_)
  obtain ⟨hr9, hf9⟩ := hp_9
  refine z_iadd C dX3_sends_12 ?_
  refine z_istore_n C [(2, .int (iI ((pS P 4) + r_9))), (0, .ref o), (1, .int (iI ln))] dX3_sends_13 hl (by decide) rfl (fun ls hl => ?_)
  refine z_aload_n C dX3_sends_14 hl 1 rfl ?_
  refine m_geta C hH 23 ⟨by decide, by decide⟩ q2208 rfl dX3_sends_15 ?_
  refine z_iload_n C dX3_sends_18 hl 2 rfl ?_
  refine lv_dup2_11 C.1.1 C.1.2.1 dX3_sends_19 rfl rfl ?_
  refine m_ialdZ C hOk hH 23 ⟨by decide, by decide⟩ ln (t 23 ln) (by rw [hf9.at 23 rfl]; exact hT.1 23 (by omega) (by omega) ln (by omega) (by omega)) (show 0 ≤ ln ∧ ln < (20 : Int) by omega) dX3_sends_20 ?_
  refine z_iload_n C dX3_sends_21 hl 0 rfl ?_
  refine z_iadd C dX3_sends_22 ?_
  refine m_iast C hOk hH hS 23 ⟨by decide, by decide⟩ (show 0 ≤ ln ∧ ln < (20 : Int) by omega) dX3_sends_23 (fun H locs hH hS => ?_)
  refine z_aload_n C dX3_sends_24 hl 1 rfl ?_
  refine z_dup C dX3_sends_25 rfl ?_
  refine m_getsZ C hH 26 ⟨by decide, by decide⟩ (t 26 0) (by show s_9 26 0 = _; rw [hf9.at 26 rfl]; exact hT.2 26 (by omega) (by omega)) q2211 rfl dX3_sends_26 ?_
  refine z_iload_n C dX3_sends_29 hl 0 rfl ?_
  refine z_iadd C dX3_sends_30 ?_
  refine m_puts C hH hS 26 ⟨by decide, by decide⟩ q2211 rfl ⟨rfl, rfl⟩ dX3_sends_31 (fun H locs hH hS => ?_)
  refine z_aload_n C dX3_sends_34 hl 1 rfl ?_
  refine z_dup C dX3_sends_35 rfl ?_
  refine m_getsZ C hH 27 ⟨by decide, by decide⟩ (t 27 0) (by show s_9 27 0 = _; rw [hf9.at 27 rfl]; exact hT.2 27 (by omega) (by omega)) q2212 rfl dX3_sends_36 ?_
  refine z_iconst C dX3_sends_39 ?_
  refine z_iadd C dX3_sends_40 ?_
  refine m_puts C hH hS 27 ⟨by decide, by decide⟩ q2212 rfl ⟨rfl, rfl⟩ dX3_sends_41 (fun H locs hH hS => ?_)
  refine z_aload_n C dX3_sends_44 hl 1 rfl ?_
  refine m_geta C hH 22 ⟨by decide, by decide⟩ q2207 rfl dX3_sends_45 ?_
  refine z_iload_n C dX3_sends_48 hl 2 rfl ?_
  refine lv_dup2_11 C.1.1 C.1.2.1 dX3_sends_49 rfl rfl ?_
  refine m_ialdZ C hOk hH 22 ⟨by decide, by decide⟩ ln (t 22 ln) (by show s_9 22 ln = _; rw [hf9.at 22 rfl]; exact hT.1 22 (by omega) (by omega) ln (by omega) (by omega)) (show 0 ≤ ln ∧ ln < (20 : Int) by omega) dX3_sends_50 ?_
  refine z_iconst C dX3_sends_51 ?_
  refine z_iadd C dX3_sends_52 ?_
  refine m_iast C hOk hH hS 22 ⟨by decide, by decide⟩ (show 0 ≤ ln ∧ ln < (20 : Int) by omega) dX3_sends_53 (fun H locs hH hS => ?_)
  refine z_aload_n C dX3_sends_54 hl 1 rfl ?_
  refine m_geta C hH 22 ⟨by decide, by decide⟩ q2207 rfl dX3_sends_55 ?_
  refine z_iload_n C dX3_sends_58 hl 2 rfl ?_
  refine m_ialdZ C hOk hH 22 ⟨by decide, by decide⟩ ln (t 22 ln + 1) (su_self _ _ _ _) (show 0 ≤ ln ∧ ln < (20 : Int) by omega) dX3_sends_59 ?_
  refine z_aload_n C dX3_sends_60 hl 1 rfl ?_
  refine m_geta C hH 25 ⟨by decide, by decide⟩ q2210 rfl dX3_sends_61 ?_
  refine z_iload_n C dX3_sends_64 hl 2 rfl ?_
  refine m_ialdZ C hOk hH 25 ⟨by decide, by decide⟩ ln (lz ln) (by show s_9 25 ln = _; rw [hf9.at 25 rfl]; exact hls ln (by omega) (by omega)) (show 0 ≤ ln ∧ ln < (20 : Int) by omega) dX3_sends_65 ?_
  refine z_icmpgt C dX3_sends_66 (tgt := 81) (by decide) ⟨⟨by omega, by omega⟩, ⟨by omega, by omega⟩⟩ (fun c_66 => ?_) (fun c_66 => ?_)
  · refine z_aload_n C dX3_sends_81 hl 1 rfl ?_
    refine z_iload_n C dX3_sends_82 hl 2 rfl ?_
    refine m_Vi C hH hS (mm_isRead hOk (su (su (su (su s_9 23 ln ((t 23 ln) + ((pS P 4) + r_9))) 26 0 ((t 26 0) + ((pS P 4) + r_9))) 27 0 ((t 27 0) + 1)) 22 ln ((t 22 ln) + 1)) ln P ev g (by show PgAt (s_9 1) P; rw [hf9.at 1 rfl]; exact hP9) (hk9) (by omega) (by show s_9 1 2 = _; rw [hf9.at 1 rfl]; exact hev) (by omega) (hg.fr (by show s_9 20 = _; exact hf9.at 20 rfl) (Int.le_refl _)) (hgb)) (cwV 1 C.1.2.2.2.2 (lw_V q2563 q2565 qs82 q133 q2566) rfl rfl rfl (by decide +kernel) ⟨Nat.le_of_ble_eq_true rfl, Nat.le_of_ble_eq_true rfl⟩) rfl hl rfl (Nat.le_of_ble_eq_true rfl) dX3_sends_83 ⟨Nat.le_refl _, Nat.le_refl _⟩ (fun r_83 s_83 H locs hp_83 hH hS => ?_)
    obtain ⟨hf83, hr83⟩ := hp_83
    rcases hr83 with ⟨hn83, hr983⟩ | ⟨res, hs983, hr983, hq83⟩
    · subst hr983
      refine z_ifne C dX3_sends_86 (tgt := 101) (by decide) ⟨by omega, by omega⟩ (fun c_86 => ?_) (fun c_86 => ?_)
      · exact absurd c_86 (by decide)
      · refine z_aload_n C dX3_sends_89 hl 1 rfl ?_
        refine z_dup C dX3_sends_90 rfl ?_
        refine m_getsZ C hH 30 ⟨by decide, by decide⟩ (t 30 0) (by rw [hf83.at 30 rfl]; show s_9 30 0 = _; rw [hf9.at 30 rfl]; exact hT.2 30 (by omega) (by omega)) q2215 rfl dX3_sends_91 ?_
        refine z_iconst C dX3_sends_94 ?_
        refine z_iadd C dX3_sends_95 ?_
        refine m_puts C hH hS 30 ⟨by decide, by decide⟩ q2215 rfl ⟨rfl, rfl⟩ dX3_sends_96 (fun H locs hH hS => ?_)
        refine z_iconst C dX3_sends_99 ?_
        refine m_iret C hret hH hS dX3_sends_100 ?_
        have e := sdA_N (P := P) (ev := ev) (ls := lz) (t := t) (g := g) (l := ln) (by omega) hn83
        rw [e]
        refine ⟨rfl, ?_, (hg.fr (by show s_83 20 = _; rw [hf83.at 20 rfl]; show s_9 20 = _; exact hf9.at 20 rfl) (by rw [if_neg (by decide)]; exact Int.le_refl _)), frSu ((frSu (frSu (frSu (frSu (Fr.rf.th hf9 rfl) rfl) rfl) rfl) rfl).th hf83 rfl) rfl⟩
        have hh := tauSu ((tauSu (tauSu (tauSu (tauSu (hT.fr (s' := s_9) (fun k a b => hf9.at k (by rcases (show k = 21 ∨ k = 22 ∨ k = 23 ∨ k = 24 ∨ k = 25 ∨ k = 26 ∨ k = 27 ∨ k = 28 ∨ k = 29 ∨ k = 30 by omega) with h | h | h | h | h | h | h | h | h | h <;> subst h <;> rfl))) 23 ln (t 23 ln + (pS P 4 + r_9))) 26 0 (t 26 0 + (pS P 4 + r_9))) 27 0 (t 27 0 + 1)) 22 ln (t 22 ln + 1)).fr (s' := s_83) (fun k a b => hf83.at k (by rcases (show k = 21 ∨ k = 22 ∨ k = 23 ∨ k = 24 ∨ k = 25 ∨ k = 26 ∨ k = 27 ∨ k = 28 ∨ k = 29 ∨ k = 30 by omega) with h | h | h | h | h | h | h | h | h | h <;> subst h <;> rfl))) 30 0 (t 30 0 + 1)
        rw [← hr9]; exact hh
    · subst hr983
      refine z_ifne C dX3_sends_86 (tgt := 101) (by decide) ⟨by omega, by omega⟩ (fun c_86_1 => ?_) (fun c_86_1 => ?_)
      · refine z_iconst C dX3_sends_101 ?_
        refine z_istore_n C [(3, .int (iI 0)), (2, .int (iI ((pS P 4) + r_9))), (0, .ref o), (1, .int (iI ln))] dX3_sends_102 hl (by decide) rfl (fun ls hl => ?_)
        have J_103 : ∀ (fu : Nat) (k : Int) (s1 : Sg), (40 - k).toNat < fu → (0 ≤ k ∧ k ≤ 40) → (s1 = sa s_83 20 (wr (fun j => s_83 15 (j - 40 * ln)) (s_83 20) (40 * ln) (40 * ln + k))) → ∀ (H : Heap) (locs : List Loc) (ls : Array Slot), MH D dA A o ad s1 H → va_S A s0.heap H locs → lv_has ls 4 [(3, .int (iI k)), (2, .int (iI (pS P 4 + r_9))), (0, .ref o), (1, .int (iI ln))] → W pp l ee (rmL 7 0 0) s0 mm ([.ref o, .int (iI ln)] : List Value).toArray below meth cc0 H locs 0 0 (MQ below (MQi D dA A o ad (fun r σ' => r = (sdA P ev lz t g ln).2.2 ∧ TauAt σ' (sdA P ev lz t g ln).1 ∧ GtAt (pW P) σ' (sdA P ev lz t g ln).2.1 (if r = 0 then ln + 1 else ln) ∧ Fr [7, 8, 9, 10, 11, 12, 13, 14, 15, 16, 17, 18, 19, 20, 21, 22, 23, 26, 27, 29, 30] σ σ')) ([.ref o, .int (iI ln)] : List Value).toArray s0 0 0 A) (F0 mm 103 ls []) := by
          intro fu
          induction fu with
          | zero => intro k s1 hn; exact absurd hn (Nat.not_lt_zero _)
          | succ fu ih_103 =>
            intro k s1 hn hk0 hs H locs ls hH hS hl
            refine z_iload_n C dX3_sends_103 hl 0 rfl ?_
            refine z_bipush C dX3_sends_104 (by decide +kernel) ?_
            refine z_icmpge C dX3_sends_106 (tgt := 132) (by decide) ⟨⟨by omega, by omega⟩, ⟨by omega, by omega⟩⟩ (fun c_106 => ?_) (fun c_106 => ?_)
            · have hP8 : PgAt (s1 1) P := by rw [hs]; show PgAt (s_83 1) P; rw [hf83.at 1 rfl]; show PgAt (s_9 1) P; rw [hf9.at 1 rfl]; exact hP9
              refine z_aload_n C dX3_sends_132 hl 2 rfl ?_
              refine m_geta C hH 21 ⟨by decide, by decide⟩ q2206 rfl dX3_sends_133 ?_
              refine z_iload_n C dX3_sends_136 hl 3 rfl ?_
              refine z_aload_n C dX3_sends_137 hl 2 rfl ?_
              refine z_iload_n C dX3_sends_138 hl 3 rfl ?_
              refine m_ViF C hH hS (mm_wrongIn hOk s1 ln P res (hP8) (hk9) (by omega) (fun k a b => by rw [hs, sa_k, wr_in _ _ (by omega) (by omega)]; rw [show 40 * ln + k - 40 * ln = k by omega]; exact hq83 k a b) (rdX_01 hk9 hs983)) (cwV 1 C.1.2.2.2.2 (lw_V q2567 q2569 qs83 q133 q2570) rfl rfl rfl (by decide +kernel) ⟨Nat.le_of_ble_eq_true rfl, Nat.le_of_ble_eq_true rfl⟩) rfl hl rfl (Nat.le_of_ble_eq_true rfl) dX3_sends_139 ⟨Nat.le_refl _, Nat.le_refl _⟩ (fun H locs hH hS => ?_)
              have w1 := cnt_in (f := fun k => if res k = lnZ P ln k then 0 else 1) (w := pW P) (m := 1) (by omega) (by omega) (fun j _ _ => by split <;> omega)
              have w2 : wrZ P res ln = cnt (fun k => if res k = lnZ P ln k then 0 else 1) (pW P) := rfl
              refine z_ifne C dX3_sends_142 (tgt := 149) (by decide) ⟨by omega, by omega⟩ (fun c_142 => ?_) (fun c_142 => ?_)
              · refine z_iconst C dX3_sends_149 ?_
                refine m_iast C hOk hH hS 21 ⟨by decide, by decide⟩ (show 0 ≤ ln ∧ ln < (20 : Int) by omega) dX3_sends_150 (fun H locs hH hS => ?_)
                refine z_iconst C dX3_sends_151 ?_
                refine m_iret C hret hH hS dX3_sends_152 ?_
                have e := sdA_S (P := P) (ev := ev) (ls := lz) (t := t) (g := g) (l := ln) (by omega) hs983
                rw [e]
                refine ⟨rfl, ?_, ?_, frSu (by rw [hs]; exact frSa ((frSu (frSu (frSu (frSu (Fr.rf.th hf9 rfl) rfl) rfl) rfl) rfl).th hf83 rfl) rfl) rfl⟩
                · have hh := tauSu ((tauSu (tauSu (tauSu (tauSu (hT.fr (s' := s_9) (fun k a b => hf9.at k (by rcases (show k = 21 ∨ k = 22 ∨ k = 23 ∨ k = 24 ∨ k = 25 ∨ k = 26 ∨ k = 27 ∨ k = 28 ∨ k = 29 ∨ k = 30 by omega) with h | h | h | h | h | h | h | h | h | h <;> subst h <;> rfl))) 23 ln (t 23 ln + (pS P 4 + r_9))) 26 0 (t 26 0 + (pS P 4 + r_9))) 27 0 (t 27 0 + 1)) 22 ln (t 22 ln + 1)).fr (s' := s1) (fun k a b => by rw [hs, sa_ne _ _ (by omega)]; exact hf83.at k (by rcases (show k = 21 ∨ k = 22 ∨ k = 23 ∨ k = 24 ∨ k = 25 ∨ k = 26 ∨ k = 27 ∨ k = 28 ∨ k = 29 ∨ k = 30 by omega) with h | h | h | h | h | h | h | h | h | h <;> subst h <;> rfl))) 21 ln (if wrZ P res ln = 0 then 0 else 3)
                  rw [hr9] at hh
                  first | (rw [if_pos (by omega)] at hh ⊢; exact hh) | (rw [if_neg (by omega)] at hh ⊢; exact hh)
                · rw [if_pos rfl]
                  refine GtAt.set k2 hg hl0.1 (fun k a b => ?_) (fun j a => ?_)
                  · show s1 20 _ = _
                    rw [hs, sa_k, wr_in _ _ (by omega) (by omega), show 40 * ln + k - 40 * ln = k by omega]; exact hq83 k a b
                  · show s1 20 j = _
                    rw [hs, sa_k, wr_out _ _ (by omega), hf83.at 20 rfl]; show s_9 20 j = _; rw [hf9.at 20 rfl]
              · refine z_iconst C dX3_sends_145 ?_
                refine z_goto C dX3_sends_146 (tgt := 150) (by decide) ?_
                refine m_iast C hOk hH hS 21 ⟨by decide, by decide⟩ (show 0 ≤ ln ∧ ln < (20 : Int) by omega) dX3_sends_150 (fun H locs hH hS => ?_)
                refine z_iconst C dX3_sends_151 ?_
                refine m_iret C hret hH hS dX3_sends_152 ?_
                have e := sdA_S (P := P) (ev := ev) (ls := lz) (t := t) (g := g) (l := ln) (by omega) hs983
                rw [e]
                refine ⟨rfl, ?_, ?_, frSu (by rw [hs]; exact frSa ((frSu (frSu (frSu (frSu (Fr.rf.th hf9 rfl) rfl) rfl) rfl) rfl).th hf83 rfl) rfl) rfl⟩
                · have hh := tauSu ((tauSu (tauSu (tauSu (tauSu (hT.fr (s' := s_9) (fun k a b => hf9.at k (by rcases (show k = 21 ∨ k = 22 ∨ k = 23 ∨ k = 24 ∨ k = 25 ∨ k = 26 ∨ k = 27 ∨ k = 28 ∨ k = 29 ∨ k = 30 by omega) with h | h | h | h | h | h | h | h | h | h <;> subst h <;> rfl))) 23 ln (t 23 ln + (pS P 4 + r_9))) 26 0 (t 26 0 + (pS P 4 + r_9))) 27 0 (t 27 0 + 1)) 22 ln (t 22 ln + 1)).fr (s' := s1) (fun k a b => by rw [hs, sa_ne _ _ (by omega)]; exact hf83.at k (by rcases (show k = 21 ∨ k = 22 ∨ k = 23 ∨ k = 24 ∨ k = 25 ∨ k = 26 ∨ k = 27 ∨ k = 28 ∨ k = 29 ∨ k = 30 by omega) with h | h | h | h | h | h | h | h | h | h <;> subst h <;> rfl))) 21 ln (if wrZ P res ln = 0 then 0 else 3)
                  rw [hr9] at hh
                  first | (rw [if_pos (by omega)] at hh ⊢; exact hh) | (rw [if_neg (by omega)] at hh ⊢; exact hh)
                · rw [if_pos rfl]
                  refine GtAt.set k2 hg hl0.1 (fun k a b => ?_) (fun j a => ?_)
                  · show s1 20 _ = _
                    rw [hs, sa_k, wr_in _ _ (by omega) (by omega), show 40 * ln + k - 40 * ln = k by omega]; exact hq83 k a b
                  · show s1 20 j = _
                    rw [hs, sa_k, wr_out _ _ (by omega), hf83.at 20 rfl]; show s_9 20 j = _; rw [hf9.at 20 rfl]
            · refine z_aload_n C dX3_sends_109 hl 2 rfl ?_
              refine m_geta C hH 20 ⟨by decide, by decide⟩ q2205 rfl dX3_sends_110 ?_
              refine z_bipush C dX3_sends_113 (by decide +kernel) ?_
              refine z_iload_n C dX3_sends_115 hl 3 rfl ?_
              refine z_imul C dX3_sends_116 ?_
              refine z_iload_n C dX3_sends_117 hl 0 rfl ?_
              refine z_iadd C dX3_sends_118 ?_
              refine z_aload_n C dX3_sends_119 hl 2 rfl ?_
              refine m_geta C hH 15 ⟨by decide, by decide⟩ q2200 rfl dX3_sends_120 ?_
              refine z_iload_n C dX3_sends_123 hl 0 rfl ?_
              refine m_ialdZ C hOk hH 15 ⟨by decide, by decide⟩ k (s_83 15 k) (by rw [hs]; rfl) (show 0 ≤ k ∧ k < (40 : Int) by omega) dX3_sends_124 ?_
              refine m_iast C hOk hH hS 20 ⟨by decide, by decide⟩ (show 0 ≤ ((40 * ln) + k) ∧ ((40 * ln) + k) < (800 : Int) by omega) dX3_sends_125 (fun H locs hH hS => ?_)
              refine z_iinc C [(3, .int (iI (k + 1))), (2, .int (iI (pS P 4 + r_9))), (0, .ref o), (1, .int (iI ln))] dX3_sends_126 hl 0 rfl (by decide) rfl (fun ls hl => ?_)
              refine z_goto C dX3_sends_129 (tgt := 103) (by decide) ?_
              exact ih_103 ((k + 1)) ((su s1 20 ((40 * ln) + k) (s_83 15 k))) (by omega) (by omega) (by rw [hs, ← Int.add_assoc, ← su_wr _ _ _ _ (show 40 * ln ≤ 40 * ln + k by omega)]; rw [show 40 * ln + k - 40 * ln = k by omega]) _ _ _ hH hS (lv_sub hl [0, 1, 2, 3] rfl)
        exact J_103 _ 0 s_83 (Nat.lt_succ_self _) (by omega) (by rw [show 40 * ln + (0 : Int) = 40 * ln from Int.add_zero _, wr_0, sa_id]) _ _ _ hH hS (lv_sub hl [0, 1, 2, 3] rfl)
      · exact absurd c_86_1 (by decide)
  · refine z_aload_n C dX3_sends_69 hl 1 rfl ?_
    refine z_dup C dX3_sends_70 rfl ?_
    refine m_getsZ C hH 29 ⟨by decide, by decide⟩ (t 29 0) (by show s_9 29 0 = _; rw [hf9.at 29 rfl]; exact hT.2 29 (by omega) (by omega)) q2214 rfl dX3_sends_71 ?_
    refine z_iconst C dX3_sends_74 ?_
    refine z_iadd C dX3_sends_75 ?_
    refine m_puts C hH hS 29 ⟨by decide, by decide⟩ q2214 rfl ⟨rfl, rfl⟩ dX3_sends_76 (fun H locs hH hS => ?_)
    refine z_iconst C dX3_sends_79 ?_
    refine m_iret C hret hH hS dX3_sends_80 ?_
    have e := sdA_L (P := P) (ev := ev) (ls := lz) (t := t) (g := g) (l := ln) (by omega)
    rw [e]
    refine ⟨rfl, ?_, hg.fr (by show s_9 20 = _; exact hf9.at 20 rfl) (by rw [if_neg (by decide)]; exact Int.le_refl _), frSu (frSu (frSu (frSu (frSu (Fr.rf.th hf9 rfl) rfl) rfl) rfl) rfl) rfl⟩
    have hh := tauSu (tauSu (tauSu (tauSu (tauSu (hT.fr (s' := s_9) (fun k a b => hf9.at k (by rcases (show k = 21 ∨ k = 22 ∨ k = 23 ∨ k = 24 ∨ k = 25 ∨ k = 26 ∨ k = 27 ∨ k = 28 ∨ k = 29 ∨ k = 30 by omega) with h | h | h | h | h | h | h | h | h | h <;> subst h <;> rfl))) 23 ln (t 23 ln + (pS P 4 + r_9))) 26 0 (t 26 0 + (pS P 4 + r_9))) 27 0 (t 27 0 + 1)) 22 ln (t 22 ln + 1)) 29 0 (t 29 0 + 1)
    rw [← hr9]; exact hh
set_option maxHeartbeats 1000000 in
theorem mm_sendsAll {l : Launch} {D : va_G} {dA : Nat → ClassId} {A : Nat → Prop} {o : Nat} {ad : Nat → Nat} (hOk : mOk o ad) (σ : Sg) (P : Pg) (lz : Int → Int) (hP : PgAt (σ 1) P) (hk : PgOk P) (hls : ∀ i, 0 ≤ i → i < 20 → σ 25 i = lz i) (hlsr : ∀ i, 0 ≤ i → i < 20 → 0 ≤ lz i ∧ lz i ≤ 5) : Met l yX3_sendsAll (ws_ yX3_sendsAll cX3_sendsAll 3 none) (rmL 8 0 0) (MP D dA A o ad [.ref o] σ) (MQv D dA A o ad (fun σ' => TauAt σ' (sdR P (pS P 0) (pS P 3) lz).1 ∧ GtAt (pW P) σ' (sdR P (pS P 0) (pS P 3) lz).2.1 (pN P) ∧ Fr [7, 8, 9, 10, 11, 12, 13, 14, 15, 16, 17, 18, 19, 20, 21, 22, 23, 24, 26, 27, 28, 29, 30] σ σ')) 0 0 A := by
  refine z_ofW (by decide) rfl ?_
  intro pp ee s0 mm below meth cc0 ls C hret hname hl hH hS
  have hl : lv_has ls 3 [(0, .ref o)] := hl
  have hk9 := hk
  have hP9 := hP
  obtain ⟨k1, k2, k3, k4, k5, k6, k7, k8, k9, k10, k11⟩ := hk
  obtain ⟨p1, p2, p3, p4, p5⟩ := hP
  have pn0 : 0 ≤ pN P := by show (0 : Int) ≤ ((pB P).length : Int); omega
  have hev : σ 1 2 = pS P 0 := p3 0 (by omega) (by omega)
  have hst : σ 1 5 = pS P 3 := p3 3 (by omega) (by omega)
  have hak : σ 1 7 = pS P 5 := p3 5 (by omega) (by omega)
  refine z_iconst C dX3_sendsAll_0 ?_
  refine z_istore_n C [(1, .int (iI 0)), (0, .ref o)] dX3_sendsAll_1 hl (by decide) rfl (fun ls hl => ?_)
  have J_2 : ∀ (fu : Nat) (i : Int) (s1 : Sg), (20 - i).toNat < fu → (0 ≤ i ∧ i ≤ 20) → (Fr [21, 22, 23, 24] σ s1) → (∀ k, 21 ≤ k → k ≤ 24 → ∀ j, 0 ≤ j → j < i → s1 k j = 0) → ∀ (H : Heap) (locs : List Loc) (ls : Array Slot), MH D dA A o ad s1 H → va_S A s0.heap H locs → lv_has ls 3 [(1, .int (iI i)), (0, .ref o)] → W pp l ee (rmL 8 0 0) s0 mm ([.ref o] : List Value).toArray below meth cc0 H locs 0 0 (MQ below (MQv D dA A o ad (fun σ' => TauAt σ' (sdR P (pS P 0) (pS P 3) lz).1 ∧ GtAt (pW P) σ' (sdR P (pS P 0) (pS P 3) lz).2.1 (pN P) ∧ Fr [7, 8, 9, 10, 11, 12, 13, 14, 15, 16, 17, 18, 19, 20, 21, 22, 23, 24, 26, 27, 28, 29, 30] σ σ')) ([.ref o] : List Value).toArray s0 0 0 A) (F0 mm 2 ls []) := by
    intro fu
    induction fu with
    | zero => intro i s1 hn; exact absurd hn (Nat.not_lt_zero _)
    | succ fu ih_2 =>
      intro i s1 hn hi0 hf1 hz H locs ls hH hS hl
      refine z_iload_n C dX3_sendsAll_2 hl 0 rfl ?_
      refine z_bipush C dX3_sendsAll_3 (by decide +kernel) ?_
      refine z_icmpge C dX3_sendsAll_5 (tgt := 42) (by decide) ⟨⟨by omega, by omega⟩, ⟨by omega, by omega⟩⟩ (fun c_5 => ?_) (fun c_5 => ?_)
      · refine z_aload_n C dX3_sendsAll_42 hl 1 rfl ?_
        refine z_iconst C dX3_sendsAll_43 ?_
        refine m_puts C hH hS 26 ⟨by decide, by decide⟩ q2211 rfl ⟨rfl, rfl⟩ dX3_sendsAll_44 (fun H locs hH hS => ?_)
        refine z_aload_n C dX3_sendsAll_47 hl 1 rfl ?_
        refine z_iconst C dX3_sendsAll_48 ?_
        refine m_puts C hH hS 27 ⟨by decide, by decide⟩ q2212 rfl ⟨rfl, rfl⟩ dX3_sendsAll_49 (fun H locs hH hS => ?_)
        refine z_aload_n C dX3_sendsAll_52 hl 1 rfl ?_
        refine z_iconst C dX3_sendsAll_53 ?_
        refine m_puts C hH hS 28 ⟨by decide, by decide⟩ q2213 rfl ⟨rfl, rfl⟩ dX3_sendsAll_54 (fun H locs hH hS => ?_)
        refine z_aload_n C dX3_sendsAll_57 hl 1 rfl ?_
        refine z_iconst C dX3_sendsAll_58 ?_
        refine m_puts C hH hS 29 ⟨by decide, by decide⟩ q2214 rfl ⟨rfl, rfl⟩ dX3_sendsAll_59 (fun H locs hH hS => ?_)
        refine z_aload_n C dX3_sendsAll_62 hl 1 rfl ?_
        refine z_iconst C dX3_sendsAll_63 ?_
        refine m_puts C hH hS 30 ⟨by decide, by decide⟩ q2215 rfl ⟨rfl, rfl⟩ dX3_sendsAll_64 (fun H locs hH hS => ?_)
        refine z_iconst C dX3_sendsAll_67 ?_
        refine z_istore_n C [(1, .int (iI 0)), (0, .ref o)] dX3_sendsAll_68 hl (by decide) rfl (fun ls hl => ?_)
        have J_69 : ∀ (fu : Nat) (ln : Int) (s2 : Sg) (t : Sg) (g : Gt), sdM P (pS P 3) (t, g, ln) < fu → (SdI P (pS P 3) (t, g, ln)) → (TauAt s2 t) → (GtAt (pW P) s2 g ln) → (Fr [7, 8, 9, 10, 11, 12, 13, 14, 15, 16, 17, 18, 19, 20, 21, 22, 23, 24, 26, 27, 28, 29, 30] σ s2) → (itN (sdS P (pS P 0) (pS P 3) lz) (sdC P) 400 (t, g, ln) = sdR P (pS P 0) (pS P 3) lz) → ∀ (H : Heap) (locs : List Loc) (ls : Array Slot), MH D dA A o ad s2 H → va_S A s0.heap H locs → lv_has ls 3 [(1, .int (iI ln)), (0, .ref o)] → W pp l ee (rmL 8 0 0) s0 mm ([.ref o] : List Value).toArray below meth cc0 H locs 0 0 (MQ below (MQv D dA A o ad (fun σ' => TauAt σ' (sdR P (pS P 0) (pS P 3) lz).1 ∧ GtAt (pW P) σ' (sdR P (pS P 0) (pS P 3) lz).2.1 (pN P) ∧ Fr [7, 8, 9, 10, 11, 12, 13, 14, 15, 16, 17, 18, 19, 20, 21, 22, 23, 24, 26, 27, 28, 29, 30] σ σ')) ([.ref o] : List Value).toArray s0 0 0 A) (F0 mm 69 ls []) := by
          intro fu
          induction fu with
          | zero => intro ln s2 t g hn; exact absurd hn (Nat.not_lt_zero _)
          | succ fu ih_69 =>
            intro ln s2 t g hn hI hT hg hf2 hR H locs ls hH hS hl
            have e1 : s2 1 = σ 1 := hf2.at 1 rfl
            have hIa := hI.1
            have hIb := hI.2.1
            have hI3 := hI.2.2.1
            have hI4 := hI.2.2.2.1
            have hI8 := hI.2.2.2.2.2.2.2.1
            have hI6 := hI.2.2.2.2.2.1
            have hI7 := hI.2.2.2.2.2.2.1
            dsimp only at hIa hIb hI3 hI4 hI8 hI6 hI7
            refine z_iload_n C dX3_sendsAll_69 hl 0 rfl ?_
            refine z_aload_n C dX3_sendsAll_70 hl 1 rfl ?_
            refine m_geta C hH 1 ⟨by decide, by decide⟩ q2186 rfl dX3_sendsAll_71 ?_
            refine z_iconst C dX3_sendsAll_74 ?_
            refine m_ialdZ C hOk hH 1 ⟨by decide, by decide⟩ 1 (pN P) (by rw [e1]; exact p2) (show 0 ≤ 1 ∧ 1 < (828 : Int) by omega) dX3_sendsAll_75 ?_
            refine z_icmpge C dX3_sendsAll_76 (tgt := 163) (by decide) ⟨⟨by omega, by omega⟩, ⟨by omega, by omega⟩⟩ (fun c_76 => ?_) (fun c_76 => ?_)
            · refine m_vret C hret hH hS dX3_sendsAll_163 ?_
              have e9 := sdR_end (P := P) (ev := pS P 0) (mst := pS P 3) (ls := lz) (s := (t, g, ln)) (by dsimp only; omega)
              rw [hR] at e9
              rw [e9]
              exact ⟨hT, by rw [show pN P = ln by omega]; exact hg, hf2⟩
            · refine z_aload_n C dX3_sendsAll_79 hl 1 rfl ?_
              refine z_iload_n C dX3_sendsAll_80 hl 0 rfl ?_
              refine m_Vi C hH hS (mm_sends hOk s2 ln P ((pS P 0)) t g lz (by rw [e1]; exact hP9) (hk9) (by omega) (by rw [e1]; exact hev) (by omega) (hT) (hg) (hI.2.2.2.2.1) (fun i a b => by rw [hf2.at 25 rfl]; exact hls i a b) (hlsr) (fun i => by have := hI8 i; omega)) (cwV 1 C.1.2.2.2.2 (lw_V q2559 q2561 qs81 q133 q2562) rfl rfl rfl (by decide +kernel) ⟨Nat.le_of_ble_eq_true rfl, Nat.le_of_ble_eq_true rfl⟩) rfl hl rfl (Nat.le_of_ble_eq_true rfl) dX3_sendsAll_81 ⟨Nat.le_refl _, Nat.le_refl _⟩ (fun r_81 s_81 H locs hp_81 hH hS => ?_)
              obtain ⟨hr81, ht81, hg81, hf81⟩ := hp_81
              obtain ⟨⟨t2, g2, hw⟩, hA⟩ : ∃ q, sdA P (pS P 0) lz t g ln = q := ⟨_, rfl⟩
              rw [hA] at hr81 ht81 hg81
              dsimp only at hr81 ht81 hg81
              have hAi := sdA_in hA
              have hA1 := hAi.1
              have hA2 := hAi.2.1
              have hA3 := hAi.2.2.1
              refine z_istore_n C [(2, .int (iI r_81)), (1, .int (iI ln)), (0, .ref o)] dX3_sendsAll_84 hl (by decide) rfl (fun ls hl => ?_)
              refine z_iload_n C dX3_sendsAll_85 hl 0 rfl ?_
              refine z_ifle C dX3_sendsAll_86 (tgt := 147) (by decide) ⟨by omega, by omega⟩ (fun c_86 => ?_) (fun c_86 => ?_)
              · refine z_iload_n C dX3_sendsAll_147 hl 0 rfl ?_
                refine z_ifle C dX3_sendsAll_148 (tgt := 157) (by decide) ⟨by omega, by omega⟩ (fun c_148 => ?_) (fun c_148 => ?_)
                · refine z_iinc C [(1, .int (iI (ln + 1))), (2, .int (iI r_81)), (0, .ref o)] dX3_sendsAll_157 hl 1 rfl (by decide) rfl (fun ls hl => ?_)
                  refine z_goto C dX3_sendsAll_160 (tgt := 69) (by decide) ?_
                  exact ih_69 ((ln + 1)) s_81 t2 g2 (by rw [← sdS_o (mst := pS P 3) hA (by omega)]; have := (sdS_step (ls := lz) hk9 (show 1 ≤ pS P 0 ∧ pS P 0 ≤ 8 by omega) (show 0 ≤ pS P 3 ∧ pS P 3 ≤ 9 by omega) _ hI (decide_eq_true (show ln < pN P by omega))).1; omega) (by rw [← sdS_o (mst := pS P 3) hA (by omega)]; exact (sdS_step hk9 (by omega) (by omega) _ hI (decide_eq_true (show ln < pN P by omega))).2) (ht81) (by rw [if_pos (by omega)] at hg81; exact hg81) (hf2.th hf81 rfl) (by rw [← hR, sdR_go hk9 (by omega) (by omega) hI (show ln < pN P by omega), sdS_o (mst := pS P 3) hA (by omega)]) _ _ _ hH hS (lv_sub hl [0, 2] rfl)
                · refine z_aload_n C dX3_sendsAll_151 hl 2 rfl ?_
                  refine z_iload_n C dX3_sendsAll_152 hl 1 rfl ?_
                  refine z_iload_n C dX3_sendsAll_153 hl 0 rfl ?_
                  refine m_VvF C hH hS (mm_fills hOk s_81 ln r_81 P 0 (by rw [hf81.at 1 rfl, e1]; exact hP9) (hk9) (by omega)) (cwV 2 C.1.2.2.2.2 (lw_V q2571 q2573 qs84 q133 q2574) rfl rfl rfl (by decide +kernel) ⟨Nat.le_of_ble_eq_true rfl, Nat.le_of_ble_eq_true rfl⟩) rfl hl rfl (Nat.le_of_ble_eq_true rfl) dX3_sendsAll_154 ⟨Nat.le_refl _, Nat.le_refl _⟩ (fun H locs hH hS => ?_)
                  refine z_iinc C [(1, .int (iI (ln + 1))), (2, .int (iI r_81)), (0, .ref o)] dX3_sendsAll_157 hl 1 rfl (by decide) rfl (fun ls hl => ?_)
                  refine z_goto C dX3_sendsAll_160 (tgt := 69) (by decide) ?_
                  exact ih_69 ((ln + 1)) ((su (sa s_81 20 (wr (fun j => if pS P 2 = 1 ∨ ln = 0 then 0 else s_81 20 (j - 40)) (s_81 20) (40 * ln) (40 * ln + 40))) 21 ln r_81)) ((su t2 21 ln hw)) ((gset g2 ln (sdF P g2 ln))) (by rw [← sdS_f (mst := pS P 3) hA (by omega) (by omega)]; have := (sdS_step (ls := lz) hk9 (show 1 ≤ pS P 0 ∧ pS P 0 ≤ 8 by omega) (show 0 ≤ pS P 3 ∧ pS P 3 ≤ 9 by omega) _ hI (decide_eq_true (show ln < pN P by omega))).1; omega) (by rw [← sdS_f (mst := pS P 3) hA (by omega) (by omega)]; exact (sdS_step hk9 (by omega) (by omega) _ hI (decide_eq_true (show ln < pN P by omega))).2) ((by rw [← hr81]; exact tauSu (ht81.fr (fun k a b => sa_ne _ _ (by omega))) 21 ln r_81)) ((by
                    rw [if_neg (by omega)] at hg81
                    refine GtAt.set k2 hg81 hIa (fun k a b => ?_) (fun j a => ?_)
                    · show wr (fun j => if pS P 2 = 1 ∨ ln = 0 then 0 else s_81 20 (j - 40)) (s_81 20) (40 * ln) (40 * ln + 40) (40 * ln + k) = _
                      rw [wr_in _ _ (by omega) (by omega)]
                      unfold sdF
                      by_cases e : pS P 2 = 1 ∨ ln = 0
                      · rw [if_pos e, if_pos e]
                      · rw [if_neg e, if_neg e, show 40 * ln + k - 40 = 40 * (ln - 1) + k by omega]; exact hg81 (ln - 1) k (by omega) (by omega) a b
                    · show wr (fun j => if pS P 2 = 1 ∨ ln = 0 then 0 else s_81 20 (j - 40)) (s_81 20) (40 * ln) (40 * ln + 40) j = _
                      rw [wr_out _ _ (by omega)])) (frSu (frSa (hf2.th hf81 rfl) rfl) rfl) (by rw [← hR, sdR_go hk9 (by omega) (by omega) hI (show ln < pN P by omega), sdS_f (mst := pS P 3) hA (by omega) (by omega)]) _ _ _ hH hS (lv_sub hl [0, 2] rfl)
              · refine z_aload_n C dX3_sendsAll_89 hl 2 rfl ?_
                refine m_getsZ C hH 28 ⟨by decide, by decide⟩ (t2 28 0) (by exact ht81.2 28 (by omega) (by omega)) q2213 rfl dX3_sendsAll_90 ?_
                refine z_aload_n C dX3_sendsAll_93 hl 2 rfl ?_
                refine m_geta C hH 1 ⟨by decide, by decide⟩ q2186 rfl dX3_sendsAll_94 ?_
                refine z_iconst C dX3_sendsAll_97 ?_
                refine m_ialdZ C hOk hH 1 ⟨by decide, by decide⟩ 5 (pS P 3) (by rw [hf81.at 1 rfl, e1]; exact hst) (show 0 ≤ 5 ∧ 5 < (828 : Int) by omega) dX3_sendsAll_98 ?_
                refine z_icmpge C dX3_sendsAll_99 (tgt := 147) (by decide) ⟨⟨by omega, by omega⟩, ⟨by omega, by omega⟩⟩ (fun c_99 => ?_) (fun c_99 => ?_)
                · refine z_iload_n C dX3_sendsAll_147 hl 0 rfl ?_
                  refine z_ifle C dX3_sendsAll_148 (tgt := 157) (by decide) ⟨by omega, by omega⟩ (fun c_148_1 => ?_) (fun c_148_1 => ?_)
                  · refine z_iinc C [(1, .int (iI (ln + 1))), (2, .int (iI r_81)), (0, .ref o)] dX3_sendsAll_157 hl 1 rfl (by decide) rfl (fun ls hl => ?_)
                    refine z_goto C dX3_sendsAll_160 (tgt := 69) (by decide) ?_
                    exact ih_69 ((ln + 1)) s_81 t2 g2 (by rw [← sdS_o (mst := pS P 3) hA (by omega)]; have := (sdS_step (ls := lz) hk9 (show 1 ≤ pS P 0 ∧ pS P 0 ≤ 8 by omega) (show 0 ≤ pS P 3 ∧ pS P 3 ≤ 9 by omega) _ hI (decide_eq_true (show ln < pN P by omega))).1; omega) (by rw [← sdS_o (mst := pS P 3) hA (by omega)]; exact (sdS_step hk9 (by omega) (by omega) _ hI (decide_eq_true (show ln < pN P by omega))).2) (ht81) (by rw [if_pos (by omega)] at hg81; exact hg81) (hf2.th hf81 rfl) (by rw [← hR, sdR_go hk9 (by omega) (by omega) hI (show ln < pN P by omega), sdS_o (mst := pS P 3) hA (by omega)]) _ _ _ hH hS (lv_sub hl [0, 2] rfl)
                  · refine z_aload_n C dX3_sendsAll_151 hl 2 rfl ?_
                    refine z_iload_n C dX3_sendsAll_152 hl 1 rfl ?_
                    refine z_iload_n C dX3_sendsAll_153 hl 0 rfl ?_
                    refine m_VvF C hH hS (mm_fills hOk s_81 ln r_81 P 0 (by rw [hf81.at 1 rfl, e1]; exact hP9) (hk9) (by omega)) (cwV 2 C.1.2.2.2.2 (lw_V q2571 q2573 qs84 q133 q2574) rfl rfl rfl (by decide +kernel) ⟨Nat.le_of_ble_eq_true rfl, Nat.le_of_ble_eq_true rfl⟩) rfl hl rfl (Nat.le_of_ble_eq_true rfl) dX3_sendsAll_154 ⟨Nat.le_refl _, Nat.le_refl _⟩ (fun H locs hH hS => ?_)
                    refine z_iinc C [(1, .int (iI (ln + 1))), (2, .int (iI r_81)), (0, .ref o)] dX3_sendsAll_157 hl 1 rfl (by decide) rfl (fun ls hl => ?_)
                    refine z_goto C dX3_sendsAll_160 (tgt := 69) (by decide) ?_
                    exact ih_69 ((ln + 1)) ((su (sa s_81 20 (wr (fun j => if pS P 2 = 1 ∨ ln = 0 then 0 else s_81 20 (j - 40)) (s_81 20) (40 * ln) (40 * ln + 40))) 21 ln r_81)) ((su t2 21 ln hw)) ((gset g2 ln (sdF P g2 ln))) (by rw [← sdS_f (mst := pS P 3) hA (by omega) (by omega)]; have := (sdS_step (ls := lz) hk9 (show 1 ≤ pS P 0 ∧ pS P 0 ≤ 8 by omega) (show 0 ≤ pS P 3 ∧ pS P 3 ≤ 9 by omega) _ hI (decide_eq_true (show ln < pN P by omega))).1; omega) (by rw [← sdS_f (mst := pS P 3) hA (by omega) (by omega)]; exact (sdS_step hk9 (by omega) (by omega) _ hI (decide_eq_true (show ln < pN P by omega))).2) ((by rw [← hr81]; exact tauSu (ht81.fr (fun k a b => sa_ne _ _ (by omega))) 21 ln r_81)) ((by
                      rw [if_neg (by omega)] at hg81
                      refine GtAt.set k2 hg81 hIa (fun k a b => ?_) (fun j a => ?_)
                      · show wr (fun j => if pS P 2 = 1 ∨ ln = 0 then 0 else s_81 20 (j - 40)) (s_81 20) (40 * ln) (40 * ln + 40) (40 * ln + k) = _
                        rw [wr_in _ _ (by omega) (by omega)]
                        unfold sdF
                        by_cases e : pS P 2 = 1 ∨ ln = 0
                        · rw [if_pos e, if_pos e]
                        · rw [if_neg e, if_neg e, show 40 * ln + k - 40 = 40 * (ln - 1) + k by omega]; exact hg81 (ln - 1) k (by omega) (by omega) a b
                      · show wr (fun j => if pS P 2 = 1 ∨ ln = 0 then 0 else s_81 20 (j - 40)) (s_81 20) (40 * ln) (40 * ln + 40) j = _
                        rw [wr_out _ _ (by omega)])) (frSu (frSa (hf2.th hf81 rfl) rfl) rfl) (by rw [← hR, sdR_go hk9 (by omega) (by omega) hI (show ln < pN P by omega), sdS_f (mst := pS P 3) hA (by omega) (by omega)]) _ _ _ hH hS (lv_sub hl [0, 2] rfl)
                · refine z_aload_n C dX3_sendsAll_102 hl 2 rfl ?_
                  refine z_dup C dX3_sendsAll_103 rfl ?_
                  refine m_getsZ C hH 28 ⟨by decide, by decide⟩ (t2 28 0) (by exact ht81.2 28 (by omega) (by omega)) q2213 rfl dX3_sendsAll_104 ?_
                  refine z_iconst C dX3_sendsAll_107 ?_
                  refine z_iadd C dX3_sendsAll_108 ?_
                  refine m_puts C hH hS 28 ⟨by decide, by decide⟩ q2213 rfl ⟨rfl, rfl⟩ dX3_sendsAll_109 (fun H locs hH hS => ?_)
                  refine z_aload_n C dX3_sendsAll_112 hl 2 rfl ?_
                  refine m_geta C hH 24 ⟨by decide, by decide⟩ q2209 rfl dX3_sendsAll_113 ?_
                  refine z_iload_n C dX3_sendsAll_116 hl 1 rfl ?_
                  refine lv_dup2_11 C.1.1 C.1.2.1 dX3_sendsAll_117 rfl rfl ?_
                  refine m_ialdZ C hOk hH 24 ⟨by decide, by decide⟩ ln (t2 24 ln) (by show s_81 24 ln = _; exact ht81.1 24 (by omega) (by omega) ln (by omega) (by omega)) (show 0 ≤ ln ∧ ln < (20 : Int) by omega) dX3_sendsAll_118 ?_
                  refine z_iconst C dX3_sendsAll_119 ?_
                  refine z_iadd C dX3_sendsAll_120 ?_
                  refine m_iast C hOk hH hS 24 ⟨by decide, by decide⟩ (show 0 ≤ ln ∧ ln < (20 : Int) by omega) dX3_sendsAll_121 (fun H locs hH hS => ?_)
                  refine z_aload_n C dX3_sendsAll_122 hl 2 rfl ?_
                  refine z_dup C dX3_sendsAll_123 rfl ?_
                  refine m_getsZ C hH 26 ⟨by decide, by decide⟩ (t2 26 0) (by show s_81 26 0 = _; exact ht81.2 26 (by omega) (by omega)) q2211 rfl dX3_sendsAll_124 ?_
                  refine z_aload_n C dX3_sendsAll_127 hl 2 rfl ?_
                  refine m_geta C hH 1 ⟨by decide, by decide⟩ q2186 rfl dX3_sendsAll_128 ?_
                  refine z_bipush C dX3_sendsAll_131 (by decide +kernel) ?_
                  refine m_ialdZ C hOk hH 1 ⟨by decide, by decide⟩ 7 (pS P 5) (by show s_81 1 7 = _; rw [hf81.at 1 rfl, e1]; exact hak) (show 0 ≤ 7 ∧ 7 < (828 : Int) by omega) dX3_sendsAll_133 ?_
                  refine z_iadd C dX3_sendsAll_134 ?_
                  refine m_puts C hH hS 26 ⟨by decide, by decide⟩ q2211 rfl ⟨rfl, rfl⟩ dX3_sendsAll_135 (fun H locs hH hS => ?_)
                  refine z_aload_n C dX3_sendsAll_138 hl 2 rfl ?_
                  refine z_iload_n C dX3_sendsAll_139 hl 1 rfl ?_
                  refine m_Vi C hH hS (mm_markUpTo hOk (su (su (su s_81 28 0 ((t2 28 0) + 1)) 24 ln ((t2 24 ln) + 1)) 26 0 ((t2 26 0) + (pS P 5))) ln P ((pS P 0)) (by show PgAt (s_81 1) P; rw [hf81.at 1 rfl, e1]; exact hP9) (hk9) (by omega) (by show s_81 1 2 = _; rw [hf81.at 1 rfl, e1]; exact hev) (by omega)) (cwV 1 C.1.2.2.2.2 (lw_V q2425 q2427 qs65 q133 q2428) rfl rfl rfl (by decide +kernel) ⟨Nat.le_of_ble_eq_true rfl, Nat.le_of_ble_eq_true rfl⟩) rfl hl rfl (Nat.le_of_ble_eq_true rfl) dX3_sendsAll_140 ⟨Nat.le_refl _, Nat.le_refl _⟩ (fun r_140 s_140 H locs hp_140 hH hS => ?_)
                  obtain ⟨hr140, hf140⟩ := hp_140
                  subst hr140
                  refine z_istore_n C [(1, .int (iI ((mkTo P (pS P 0) ln)))), (2, .int (iI r_81)), (0, .ref o)] dX3_sendsAll_143 hl (by decide) rfl (fun ls hl => ?_)
                  refine z_goto C dX3_sendsAll_144 (tgt := 69) (by decide) ?_
                  exact ih_69 (((mkTo P (pS P 0) ln))) s_140 ((su (su (su t2 28 0 (t2 28 0 + 1)) 24 ln (t2 24 ln + 1)) 26 0 (t2 26 0 + pS P 5))) g2 (by rw [← sdS_b (mst := pS P 3) hA ⟨by omega, by omega⟩]; have := (sdS_step (ls := lz) hk9 (show 1 ≤ pS P 0 ∧ pS P 0 ≤ 8 by omega) (show 0 ≤ pS P 3 ∧ pS P 3 ≤ 9 by omega) _ hI (decide_eq_true (show ln < pN P by omega))).1; omega) (by rw [← sdS_b (mst := pS P 3) hA ⟨by omega, by omega⟩]; exact (sdS_step hk9 (by omega) (by omega) _ hI (decide_eq_true (show ln < pN P by omega))).2) ((tauSu (tauSu (tauSu ht81 28 0 (t2 28 0 + 1)) 24 ln (t2 24 ln + 1)) 26 0 (t2 26 0 + pS P 5)).fr (fun k a b => hf140.at k (by rcases (show k = 21 ∨ k = 22 ∨ k = 23 ∨ k = 24 ∨ k = 25 ∨ k = 26 ∨ k = 27 ∨ k = 28 ∨ k = 29 ∨ k = 30 by omega) with h | h | h | h | h | h | h | h | h | h <;> subst h <;> rfl))) (by rw [if_neg (by omega)] at hg81; exact hg81.fr (by rw [hf140.at 20 rfl]; rfl) (by have := mkTo_le P (pS P 0) hIa; omega)) ((frSu (frSu (frSu (hf2.th hf81 rfl) rfl) rfl) rfl).th hf140 rfl) (by rw [← hR, sdR_go hk9 (by omega) (by omega) hI (show ln < pN P by omega), sdS_b (mst := pS P 3) hA ⟨by omega, by omega⟩]) _ _ _ hH hS (lv_sub hl [0, 2] rfl)
        exact J_69 _ 0 ((su (su (su (su (su s1 26 0 0) 27 0 0) 28 0 0) 29 0 0) 30 0 0)) ((fun _ _ => 0)) ((fun _ _ => 0)) (Nat.lt_succ_self _) (sd0_I hk9 (by omega)) (⟨fun k a b j c d => by
          show su (su (su (su (su s1 26 0 0) 27 0 0) 28 0 0) 29 0 0) 30 0 0 k j = 0
          rw [su_ne _ _ _ (by omega), su_ne _ _ _ (by omega), su_ne _ _ _ (by omega), su_ne _ _ _ (by omega), su_ne _ _ _ (by omega)]; exact hz k a b j c (by omega), fun k a b => by
          show su (su (su (su (su s1 26 0 0) 27 0 0) 28 0 0) 29 0 0) 30 0 0 k 0 = 0
          rcases (show k = 26 ∨ k = 27 ∨ k = 28 ∨ k = 29 ∨ k = 30 by omega) with h | h | h | h | h <;> subst h <;> rfl⟩) (fun l k a b => absurd b (by omega)) (frSu (frSu (frSu (frSu (frSu (hf1.up rfl) rfl) rfl) rfl) rfl) rfl) (rfl) _ _ _ hH hS (lv_sub hl [0, 1] rfl)
      · refine z_aload_n C dX3_sendsAll_8 hl 1 rfl ?_
        refine m_geta C hH 21 ⟨by decide, by decide⟩ q2206 rfl dX3_sendsAll_9 ?_
        refine z_iload_n C dX3_sendsAll_12 hl 0 rfl ?_
        refine z_iconst C dX3_sendsAll_13 ?_
        refine m_iast C hOk hH hS 21 ⟨by decide, by decide⟩ (show 0 ≤ i ∧ i < (20 : Int) by omega) dX3_sendsAll_14 (fun H locs hH hS => ?_)
        refine z_aload_n C dX3_sendsAll_15 hl 1 rfl ?_
        refine m_geta C hH 22 ⟨by decide, by decide⟩ q2207 rfl dX3_sendsAll_16 ?_
        refine z_iload_n C dX3_sendsAll_19 hl 0 rfl ?_
        refine z_iconst C dX3_sendsAll_20 ?_
        refine m_iast C hOk hH hS 22 ⟨by decide, by decide⟩ (show 0 ≤ i ∧ i < (20 : Int) by omega) dX3_sendsAll_21 (fun H locs hH hS => ?_)
        refine z_aload_n C dX3_sendsAll_22 hl 1 rfl ?_
        refine m_geta C hH 23 ⟨by decide, by decide⟩ q2208 rfl dX3_sendsAll_23 ?_
        refine z_iload_n C dX3_sendsAll_26 hl 0 rfl ?_
        refine z_iconst C dX3_sendsAll_27 ?_
        refine m_iast C hOk hH hS 23 ⟨by decide, by decide⟩ (show 0 ≤ i ∧ i < (20 : Int) by omega) dX3_sendsAll_28 (fun H locs hH hS => ?_)
        refine z_aload_n C dX3_sendsAll_29 hl 1 rfl ?_
        refine m_geta C hH 24 ⟨by decide, by decide⟩ q2209 rfl dX3_sendsAll_30 ?_
        refine z_iload_n C dX3_sendsAll_33 hl 0 rfl ?_
        refine z_iconst C dX3_sendsAll_34 ?_
        refine m_iast C hOk hH hS 24 ⟨by decide, by decide⟩ (show 0 ≤ i ∧ i < (20 : Int) by omega) dX3_sendsAll_35 (fun H locs hH hS => ?_)
        refine z_iinc C [(1, .int (iI (i + 1))), (0, .ref o)] dX3_sendsAll_36 hl 0 rfl (by decide) rfl (fun ls hl => ?_)
        refine z_goto C dX3_sendsAll_39 (tgt := 2) (by decide) ?_
        exact ih_2 ((i + 1)) ((su (su (su (su s1 21 i 0) 22 i 0) 23 i 0) 24 i 0)) (by omega) (by omega) (frSu (frSu (frSu (frSu hf1 rfl) rfl) rfl) rfl) (fun k a b j c d => by
          rcases (show k = 21 ∨ k = 22 ∨ k = 23 ∨ k = 24 by omega) with h | h | h | h <;> subst h
          · show uZ (s1 21) i 0 j = 0; unfold uZ; by_cases e : j = i; rw [if_pos e]; rw [if_neg e]; exact hz 21 (by omega) (by omega) j c (by omega)
          · show uZ (s1 22) i 0 j = 0; unfold uZ; by_cases e : j = i; rw [if_pos e]; rw [if_neg e]; exact hz 22 (by omega) (by omega) j c (by omega)
          · show uZ (s1 23) i 0 j = 0; unfold uZ; by_cases e : j = i; rw [if_pos e]; rw [if_neg e]; exact hz 23 (by omega) (by omega) j c (by omega)
          · show uZ (s1 24) i 0 j = 0; unfold uZ; by_cases e : j = i; rw [if_pos e]; rw [if_neg e]; exact hz 24 (by omega) (by omega) j c (by omega)) _ _ _ hH hS (lv_sub hl [0, 1] rfl)
  exact J_2 _ 0 σ (Nat.lt_succ_self _) (by omega) (Fr.rf) (fun k a b j c d => absurd d (by omega)) _ _ _ hH hS (lv_sub hl [0, 1] rfl)
