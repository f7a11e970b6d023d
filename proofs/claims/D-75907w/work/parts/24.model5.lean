/-! the reference's methods, 5 (written by gen/model5.py) -/
set_option maxRecDepth 100000
set_option maxHeartbeats 1000000 in
theorem mm_blacks {l : Launch} {D : va_G} {dA : Nat → ClassId} {A : Nat → Prop} {o : Nat} {ad : Nat → Nat} (hOk : mOk o ad) (σ : Sg) (ln : Int) (P : Pg) (hP : PgAt (σ 1) P) (hk : PgOk P) (hl0 : 0 ≤ ln ∧ ln < pN P) : Met l yX3_blacks (ws_ yX3_blacks cX3_blacks 4 (some .int)) (rmL 2 0 0) (MP D dA A o ad [.ref o, .int (iI ln)] σ) (MQi D dA A o ad (fun r σ' => σ' = σ ∧ r = bkZ P ln)) 0 0 A := by
  refine z_ofW (by decide) rfl ?_
  intro pp ee s0 mm below meth cc0 ls C hret hname hl hH hS
  have hl : lv_has ls 4 [(0, .ref o), (1, .int (iI ln))] := hl
  have hk9 := hk
  have hP9 := hP
  obtain ⟨k1, k2, k3, k4, k5, k6, k7, k8, k9, k10, k11⟩ := hk
  obtain ⟨p1, p2, p3, p4, p5⟩ := hP
  have pn0 : 0 ≤ pN P := by show (0 : Int) ≤ ((pB P).length : Int); omega
  refine z_iconst C dX3_blacks_0 ?_
  refine z_istore_n C [(2, .int (iI 0)), (0, .ref o), (1, .int (iI ln))] dX3_blacks_1 hl (by decide) rfl (fun ls hl => ?_)
  refine z_iconst C dX3_blacks_2 ?_
  refine z_istore_n C [(3, .int (iI 0)), (2, .int (iI 0)), (0, .ref o), (1, .int (iI ln))] dX3_blacks_3 hl (by decide) rfl (fun ls hl => ?_)
  have J_4 : ∀ (n : Nat) (t : Int) (k : Int), (pW P - k).toNat < n → (0 ≤ k ∧ k ≤ pW P) → (t = cnt (lnZ P ln) k) → ∀ (H : Heap) (locs : List Loc) (ls : Array Slot), MH D dA A o ad σ H → va_S A s0.heap H locs → lv_has ls 4 [(3, .int (iI k)), (2, .int (iI t)), (0, .ref o), (1, .int (iI ln))] → W pp l ee (rmL 2 0 0) s0 mm ([.ref o, .int (iI ln)] : List Value).toArray below meth cc0 H locs 0 0 (MQ below (MQi D dA A o ad (fun r σ' => σ' = σ ∧ r = bkZ P ln)) ([.ref o, .int (iI ln)] : List Value).toArray s0 0 0 A) (F0 mm 4 ls []) := by
    intro n
    induction n with
    | zero => intro t k hn; exact absurd hn (Nat.not_lt_zero _)
    | succ n ih_4 =>
      intro t k hn hk0 ht H locs ls hH hS hl
      refine z_iload_n C dX3_blacks_4 hl 0 rfl ?_
      refine z_aload_n C dX3_blacks_5 hl 2 rfl ?_
      refine m_geta C hH 1 ⟨by decide, by decide⟩ q2186 rfl dX3_blacks_6 ?_
      refine z_iconst C dX3_blacks_9 ?_
      refine m_ialdZ C hOk hH 1 ⟨by decide, by decide⟩ 0 (pW P) (p1) (show 0 ≤ 0 ∧ 0 < (828 : Int) by omega) dX3_blacks_10 ?_
      refine z_icmpge C dX3_blacks_11 (tgt := 33) (by decide) ⟨⟨by omega, by omega⟩, ⟨by omega, by omega⟩⟩ (fun c_11 => ?_) (fun c_11 => ?_)
      · refine z_iload_n C dX3_blacks_33 hl 1 rfl ?_
        refine m_iret C hret hH hS dX3_blacks_34 ?_
        refine ⟨rfl, ?_⟩
        unfold bkZ; rw [ht, show k = pW P by omega]
      · refine z_iload_n C dX3_blacks_14 hl 1 rfl ?_
        refine z_aload_n C dX3_blacks_15 hl 2 rfl ?_
        refine m_geta C hH 1 ⟨by decide, by decide⟩ q2186 rfl dX3_blacks_16 ?_
        refine z_iload_n C dX3_blacks_19 hl 3 rfl ?_
        refine z_iload_n C dX3_blacks_20 hl 0 rfl ?_
        refine m_SiF C hH hS (mm_dotAt hOk σ ln k) (va_cwS 2 C.1.2.2.2.2 (lw_S q2332 q2333 q133 q2334) rfl rfl rfl (by decide +kernel) ⟨Nat.le_of_ble_eq_true rfl, Nat.le_of_ble_eq_true rfl⟩) rfl hl rfl (Nat.le_of_ble_eq_true rfl) dX3_blacks_21 ⟨Nat.le_refl _, Nat.le_refl _⟩ (fun H locs hH hS => ?_)
        refine m_ialdZ C hOk hH 1 ⟨by decide, by decide⟩ (28 + 40 * ln + k) (lnZ P ln k) (p5 ln k (by omega) (by omega) (by omega) (by omega)) (show 0 ≤ (28 + 40 * ln + k) ∧ (28 + 40 * ln + k) < (828 : Int) by omega) dX3_blacks_24 ?_
        refine z_iadd C dX3_blacks_25 ?_
        refine z_istore_n C [(2, .int (iI (t + (lnZ P ln k)))), (3, .int (iI k)), (0, .ref o), (1, .int (iI ln))] dX3_blacks_26 hl (by decide) rfl (fun ls hl => ?_)
        refine z_iinc C [(3, .int (iI (k + 1))), (2, .int (iI (t + (lnZ P ln k)))), (0, .ref o), (1, .int (iI ln))] dX3_blacks_27 hl 1 rfl (by decide) rfl (fun ls hl => ?_)
        refine z_goto C dX3_blacks_30 (tgt := 4) (by decide) ?_
        exact ih_4 ((t + (lnZ P ln k))) ((k + 1)) (by omega) (by omega) (by rw [cnt_go _ hk0.1, ← ht]) _ _ _ hH hS (lv_sub hl [0, 1, 2, 3] rfl)
  exact J_4 _ 0 0 (Nat.lt_succ_self _) (by omega) (rfl) _ _ _ hH hS (lv_sub hl [0, 1, 2, 3] rfl)
set_option maxHeartbeats 1000000 in
theorem mm_ahead {l : Launch} {D : va_G} {dA : Nat → ClassId} {A : Nat → Prop} {o : Nat} {ad : Nat → Nat} (hOk : mOk o ad) (σ : Sg) (ln : Int) (x : Int) (P : Pg) (hP : PgAt (σ 1) P) (hk : PgOk P) (hl0 : 0 ≤ ln ∧ ln < pN P) (hx : 0 ≤ x ∧ x < pW P) : Met l yX3_ahead (ws_ yX3_ahead cX3_ahead 3 (some .int)) (rmL 2 0 0) (MP D dA A o ad [.ref o, .int (iI ln), .int (iI x)] σ) (MQi D dA A o ad (fun r σ' => σ' = σ ∧ r = if x = 0 then 0 else lnZ P ln (x - 1))) 0 0 A := by
  refine z_ofW (by decide) rfl ?_
  intro pp ee s0 mm below meth cc0 ls C hret hname hl hH hS
  have hl : lv_has ls 3 [(0, .ref o), (1, .int (iI ln)), (2, .int (iI x))] := hl
  have hk9 := hk
  have hP9 := hP
  obtain ⟨k1, k2, k3, k4, k5, k6, k7, k8, k9, k10, k11⟩ := hk
  obtain ⟨p1, p2, p3, p4, p5⟩ := hP
  have pn0 : 0 ≤ pN P := by show (0 : Int) ≤ ((pB P).length : Int); omega
  refine z_iload_n C dX3_ahead_0 hl 2 rfl ?_
  refine z_ifne C dX3_ahead_1 (tgt := 8) (by decide) ⟨by omega, by omega⟩ (fun c_1 => ?_) (fun c_1 => ?_)
  · refine z_aload_n C dX3_ahead_8 hl 0 rfl ?_
    refine m_geta C hH 1 ⟨by decide, by decide⟩ q2186 rfl dX3_ahead_9 ?_
    refine z_iload_n C dX3_ahead_12 hl 1 rfl ?_
    refine z_iload_n C dX3_ahead_13 hl 2 rfl ?_
    refine z_iconst C dX3_ahead_14 ?_
    refine z_isub C dX3_ahead_15 ?_
    refine m_SiF C hH hS (mm_dotAt hOk σ ln (x - 1)) (va_cwS 2 C.1.2.2.2.2 (lw_S q2332 q2333 q133 q2334) rfl rfl rfl (by decide +kernel) ⟨Nat.le_of_ble_eq_true rfl, Nat.le_of_ble_eq_true rfl⟩) rfl hl rfl (Nat.le_of_ble_eq_true rfl) dX3_ahead_16 ⟨Nat.le_refl _, Nat.le_refl _⟩ (fun H locs hH hS => ?_)
    refine m_ialdZ C hOk hH 1 ⟨by decide, by decide⟩ (28 + 40 * ln + (x - 1)) (lnZ P ln (x - 1)) (by have := p5 ln (x - 1) (by omega) (by omega) (by omega) (by omega); exact this) (show 0 ≤ (28 + 40 * ln + (x - 1)) ∧ (28 + 40 * ln + (x - 1)) < (828 : Int) by omega) dX3_ahead_19 ?_
    refine m_iret C hret hH hS dX3_ahead_20 ?_
    refine ⟨rfl, ?_⟩
    first | rw [if_pos (by omega)] | rw [if_neg (by omega)]
  · refine z_iconst C dX3_ahead_4 ?_
    refine z_goto C dX3_ahead_5 (tgt := 20) (by decide) ?_
    refine m_iret C hret hH hS dX3_ahead_20 ?_
    refine ⟨rfl, ?_⟩
    first | rw [if_pos (by omega)] | rw [if_neg (by omega)]
set_option maxHeartbeats 1000000 in
theorem mm_changes {l : Launch} {D : va_G} {dA : Nat → ClassId} {A : Nat → Prop} {o : Nat} {ad : Nat → Nat} (hOk : mOk o ad) (σ : Sg) (ln : Int) (P : Pg) (hP : PgAt (σ 1) P) (hk : PgOk P) (hl0 : 0 ≤ ln ∧ ln < pN P) : Met l yX3_changes (ws_ yX3_changes cX3_changes 4 (some .int)) (rmL 3 0 0) (MP D dA A o ad [.ref o, .int (iI ln)] σ) (MQi D dA A o ad (fun r σ' => σ' = σ ∧ r = chZ P ln)) 0 0 A := by
  refine z_ofW (by decide) rfl ?_
  intro pp ee s0 mm below meth cc0 ls C hret hname hl hH hS
  have hl : lv_has ls 4 [(0, .ref o), (1, .int (iI ln))] := hl
  have hk9 := hk
  have hP9 := hP
  obtain ⟨k1, k2, k3, k4, k5, k6, k7, k8, k9, k10, k11⟩ := hk
  obtain ⟨p1, p2, p3, p4, p5⟩ := hP
  have pn0 : 0 ≤ pN P := by show (0 : Int) ≤ ((pB P).length : Int); omega
  refine z_iconst C dX3_changes_0 ?_
  refine z_istore_n C [(2, .int (iI 0)), (0, .ref o), (1, .int (iI ln))] dX3_changes_1 hl (by decide) rfl (fun ls hl => ?_)
  refine z_iconst C dX3_changes_2 ?_
  refine z_istore_n C [(3, .int (iI 0)), (2, .int (iI 0)), (0, .ref o), (1, .int (iI ln))] dX3_changes_3 hl (by decide) rfl (fun ls hl => ?_)
  have J_4 : ∀ (n : Nat) (t : Int) (k : Int), (pW P - k).toNat < n → (0 ≤ k ∧ k ≤ pW P) → (t = cnt (isCh (lnZ P ln)) k) → ∀ (H : Heap) (locs : List Loc) (ls : Array Slot), MH D dA A o ad σ H → va_S A s0.heap H locs → lv_has ls 4 [(3, .int (iI k)), (2, .int (iI t)), (0, .ref o), (1, .int (iI ln))] → W pp l ee (rmL 3 0 0) s0 mm ([.ref o, .int (iI ln)] : List Value).toArray below meth cc0 H locs 0 0 (MQ below (MQi D dA A o ad (fun r σ' => σ' = σ ∧ r = chZ P ln)) ([.ref o, .int (iI ln)] : List Value).toArray s0 0 0 A) (F0 mm 4 ls []) := by
    intro n
    induction n with
    | zero => intro t k hn; exact absurd hn (Nat.not_lt_zero _)
    | succ n ih_4 =>
      intro t k hn hk0 ht H locs ls hH hS hl
      refine z_iload_n C dX3_changes_4 hl 0 rfl ?_
      refine z_aload_n C dX3_changes_5 hl 2 rfl ?_
      refine m_geta C hH 1 ⟨by decide, by decide⟩ q2186 rfl dX3_changes_6 ?_
      refine z_iconst C dX3_changes_9 ?_
      refine m_ialdZ C hOk hH 1 ⟨by decide, by decide⟩ 0 (pW P) (p1) (show 0 ≤ 0 ∧ 0 < (828 : Int) by omega) dX3_changes_10 ?_
      refine z_icmpge C dX3_changes_11 (tgt := 47) (by decide) ⟨⟨by omega, by omega⟩, ⟨by omega, by omega⟩⟩ (fun c_11 => ?_) (fun c_11 => ?_)
      · refine z_iload_n C dX3_changes_47 hl 1 rfl ?_
        refine m_iret C hret hH hS dX3_changes_48 ?_
        refine ⟨rfl, ?_⟩
        unfold chZ; rw [ht, show k = pW P by omega]
      · have v1 := lnZ_01 P ln k
        have v2 := lnZ_01 P ln (k - 1)
        refine z_iload_n C dX3_changes_14 hl 1 rfl ?_
        refine z_aload_n C dX3_changes_15 hl 2 rfl ?_
        refine m_geta C hH 1 ⟨by decide, by decide⟩ q2186 rfl dX3_changes_16 ?_
        refine z_iload_n C dX3_changes_19 hl 3 rfl ?_
        refine z_iload_n C dX3_changes_20 hl 0 rfl ?_
        refine m_SiF C hH hS (mm_dotAt hOk σ ln k) (va_cwS 2 C.1.2.2.2.2 (lw_S q2332 q2333 q133 q2334) rfl rfl rfl (by decide +kernel) ⟨Nat.le_of_ble_eq_true rfl, Nat.le_of_ble_eq_true rfl⟩) rfl hl rfl (Nat.le_of_ble_eq_true rfl) dX3_changes_21 ⟨Nat.le_refl _, Nat.le_refl _⟩ (fun H locs hH hS => ?_)
        refine m_ialdZ C hOk hH 1 ⟨by decide, by decide⟩ (28 + 40 * ln + k) (lnZ P ln k) (p5 ln k (by omega) (by omega) (by omega) (by omega)) (show 0 ≤ (28 + 40 * ln + k) ∧ (28 + 40 * ln + k) < (828 : Int) by omega) dX3_changes_24 ?_
        refine z_aload_n C dX3_changes_25 hl 2 rfl ?_
        refine z_iload_n C dX3_changes_26 hl 3 rfl ?_
        refine z_iload_n C dX3_changes_27 hl 0 rfl ?_
        refine m_ViF C hH hS (mm_ahead hOk σ ln k P (hP9) (hk9) (by omega) (by omega)) (cwV 2 C.1.2.2.2.2 (lw_V q2339 q2341 qs47 q133 q2342) rfl rfl rfl (by decide +kernel) ⟨Nat.le_of_ble_eq_true rfl, Nat.le_of_ble_eq_true rfl⟩) rfl hl rfl (Nat.le_of_ble_eq_true rfl) dX3_changes_28 ⟨Nat.le_refl _, Nat.le_refl _⟩ (fun H locs hH hS => ?_)
        refine z_icmpeq C dX3_changes_31 (tgt := 38) (by decide) ⟨⟨by omega, by omega⟩, ⟨by split <;> omega, by split <;> omega⟩⟩ (fun c_31 => ?_) (fun c_31 => ?_)
        · refine z_iconst C dX3_changes_38 ?_
          refine z_iadd C dX3_changes_39 ?_
          refine z_istore_n C [(2, .int (iI (t + 0))), (3, .int (iI k)), (0, .ref o), (1, .int (iI ln))] dX3_changes_40 hl (by decide) rfl (fun ls hl => ?_)
          refine z_iinc C [(3, .int (iI (k + 1))), (2, .int (iI (t + 0))), (0, .ref o), (1, .int (iI ln))] dX3_changes_41 hl 1 rfl (by decide) rfl (fun ls hl => ?_)
          refine z_goto C dX3_changes_44 (tgt := 4) (by decide) ?_
          exact ih_4 ((t + 0)) ((k + 1)) (by omega) (by omega) (by rw [cnt_go _ hk0.1, ← ht]; unfold isCh; rw [if_pos c_31]) _ _ _ hH hS (lv_sub hl [0, 1, 2, 3] rfl)
        · refine z_iconst C dX3_changes_34 ?_
          refine z_goto C dX3_changes_35 (tgt := 39) (by decide) ?_
          refine z_iadd C dX3_changes_39 ?_
          refine z_istore_n C [(2, .int (iI (t + 1))), (3, .int (iI k)), (0, .ref o), (1, .int (iI ln))] dX3_changes_40 hl (by decide) rfl (fun ls hl => ?_)
          refine z_iinc C [(3, .int (iI (k + 1))), (2, .int (iI (t + 1))), (0, .ref o), (1, .int (iI ln))] dX3_changes_41 hl 1 rfl (by decide) rfl (fun ls hl => ?_)
          refine z_goto C dX3_changes_44 (tgt := 4) (by decide) ?_
          exact ih_4 ((t + 1)) ((k + 1)) (by omega) (by omega) (by rw [cnt_go _ hk0.1, ← ht]; unfold isCh; rw [if_neg (fun h => c_31 h)]) _ _ _ hH hS (lv_sub hl [0, 1, 2, 3] rfl)
  exact J_4 _ 0 0 (Nat.lt_succ_self _) (by omega) (rfl) _ _ _ hH hS (lv_sub hl [0, 1, 2, 3] rfl)
set_option maxHeartbeats 1000000 in
theorem mm_differs {l : Launch} {D : va_G} {dA : Nat → ClassId} {A : Nat → Prop} {o : Nat} {ad : Nat → Nat} (hOk : mOk o ad) (σ : Sg) (ln : Int) (x : Int) (P : Pg) (hP : PgAt (σ 1) P) (hk : PgOk P) (hl0 : 0 ≤ ln ∧ ln < pN P) (hx : x = -1 ∨ (0 ≤ x ∧ x < pN P)) : Met l yX3_differs (ws_ yX3_differs cX3_differs 5 (some .int)) (rmL 3 0 0) (MP D dA A o ad [.ref o, .int (iI ln), .int (iI x)] σ) (MQi D dA A o ad (fun r σ' => σ' = σ ∧ r = dfZ P ln x)) 0 0 A := by
  refine z_ofW (by decide) rfl ?_
  intro pp ee s0 mm below meth cc0 ls C hret hname hl hH hS
  have hl : lv_has ls 5 [(0, .ref o), (1, .int (iI ln)), (2, .int (iI x))] := hl
  have hk9 := hk
  have hP9 := hP
  obtain ⟨k1, k2, k3, k4, k5, k6, k7, k8, k9, k10, k11⟩ := hk
  obtain ⟨p1, p2, p3, p4, p5⟩ := hP
  have pn0 : 0 ≤ pN P := by show (0 : Int) ≤ ((pB P).length : Int); omega
  refine z_iconst C dX3_differs_0 ?_
  refine z_istore_n C [(3, .int (iI 0)), (0, .ref o), (1, .int (iI ln)), (2, .int (iI x))] dX3_differs_1 hl (by decide) rfl (fun ls hl => ?_)
  refine z_iconst C dX3_differs_2 ?_
  refine z_istore C [(4, .int (iI 0)), (3, .int (iI 0)), (0, .ref o), (1, .int (iI ln)), (2, .int (iI x))] dX3_differs_3 hl (by decide) rfl (fun ls hl => ?_)
  have J_5 : ∀ (n : Nat) (t : Int) (k : Int), (pW P - k).toNat < n → (0 ≤ k ∧ k ≤ pW P) → (t = cnt (fun k => if lnZ P ln k = loZ P x k then 0 else 1) k) → ∀ (H : Heap) (locs : List Loc) (ls : Array Slot), MH D dA A o ad σ H → va_S A s0.heap H locs → lv_has ls 5 [(4, .int (iI k)), (3, .int (iI t)), (0, .ref o), (1, .int (iI ln)), (2, .int (iI x))] → W pp l ee (rmL 3 0 0) s0 mm ([.ref o, .int (iI ln), .int (iI x)] : List Value).toArray below meth cc0 H locs 0 0 (MQ below (MQi D dA A o ad (fun r σ' => σ' = σ ∧ r = dfZ P ln x)) ([.ref o, .int (iI ln), .int (iI x)] : List Value).toArray s0 0 0 A) (F0 mm 5 ls []) := by
    intro n
    induction n with
    | zero => intro t k hn; exact absurd hn (Nat.not_lt_zero _)
    | succ n ih_5 =>
      intro t k hn hk0 ht H locs ls hH hS hl
      refine z_iload C dX3_differs_5 hl 0 rfl ?_
      refine z_aload_n C dX3_differs_7 hl 2 rfl ?_
      refine m_geta C hH 1 ⟨by decide, by decide⟩ q2186 rfl dX3_differs_8 ?_
      refine z_iconst C dX3_differs_11 ?_
      refine m_ialdZ C hOk hH 1 ⟨by decide, by decide⟩ 0 (pW P) (p1) (show 0 ≤ 0 ∧ 0 < (828 : Int) by omega) dX3_differs_12 ?_
      refine z_icmpge C dX3_differs_13 (tgt := 64) (by decide) ⟨⟨by omega, by omega⟩, ⟨by omega, by omega⟩⟩ (fun c_13 => ?_) (fun c_13 => ?_)
      · refine z_iload_n C dX3_differs_64 hl 1 rfl ?_
        refine m_iret C hret hH hS dX3_differs_65 ?_
        refine ⟨rfl, ?_⟩
        unfold dfZ; rw [ht, show k = pW P by omega]
      · have v1 := lnZ_01 P ln k
        refine z_iload_n C dX3_differs_16 hl 1 rfl ?_
        refine z_aload_n C dX3_differs_17 hl 2 rfl ?_
        refine m_geta C hH 1 ⟨by decide, by decide⟩ q2186 rfl dX3_differs_18 ?_
        refine z_iload_n C dX3_differs_21 hl 3 rfl ?_
        refine z_iload C dX3_differs_22 hl 0 rfl ?_
        refine m_SiF C hH hS (mm_dotAt hOk σ ln k) (va_cwS 2 C.1.2.2.2.2 (lw_S q2332 q2333 q133 q2334) rfl rfl rfl (by decide +kernel) ⟨Nat.le_of_ble_eq_true rfl, Nat.le_of_ble_eq_true rfl⟩) rfl hl rfl (Nat.le_of_ble_eq_true rfl) dX3_differs_24 ⟨Nat.le_refl _, Nat.le_refl _⟩ (fun H locs hH hS => ?_)
        refine m_ialdZ C hOk hH 1 ⟨by decide, by decide⟩ (28 + 40 * ln + k) (lnZ P ln k) (p5 ln k (by omega) (by omega) (by omega) (by omega)) (show 0 ≤ (28 + 40 * ln + k) ∧ (28 + 40 * ln + k) < (828 : Int) by omega) dX3_differs_27 ?_
        have J_48 : ∀ (v : Int), (v = loZ P x k) → (v = 0 ∨ v = 1) → ∀ (H : Heap) (locs : List Loc) (ls : Array Slot), MH D dA A o ad σ H → va_S A s0.heap H locs → lv_has ls 5 [(4, .int (iI k)), (3, .int (iI t)), (0, .ref o), (1, .int (iI ln)), (2, .int (iI x))] → W pp l ee (rmL 3 0 0) s0 mm ([.ref o, .int (iI ln), .int (iI x)] : List Value).toArray below meth cc0 H locs 0 0 (MQ below (MQi D dA A o ad (fun r σ' => σ' = σ ∧ r = dfZ P ln x)) ([.ref o, .int (iI ln), .int (iI x)] : List Value).toArray s0 0 0 A) (F0 mm 48 ls [.int (iI v), .int (iI (lnZ P ln k)), .int (iI t)]) := by
          intro v hv hv2 H locs ls hH hS hl
          refine z_icmpne C dX3_differs_48 (tgt := 55) (by decide) ⟨⟨by omega, by omega⟩, ⟨by omega, by omega⟩⟩ (fun c_48 => ?_) (fun c_48 => ?_)
          · refine z_iconst C dX3_differs_55 ?_
            refine z_iadd C dX3_differs_56 ?_
            refine z_istore_n C [(3, .int (iI (t + 1))), (4, .int (iI k)), (0, .ref o), (1, .int (iI ln)), (2, .int (iI x))] dX3_differs_57 hl (by decide) rfl (fun ls hl => ?_)
            refine z_iinc C [(4, .int (iI (k + 1))), (3, .int (iI (t + 1))), (0, .ref o), (1, .int (iI ln)), (2, .int (iI x))] dX3_differs_58 hl 1 rfl (by decide) rfl (fun ls hl => ?_)
            refine z_goto C dX3_differs_61 (tgt := 5) (by decide) ?_
            exact ih_5 ((t + 1)) ((k + 1)) (by omega) (by omega) (by rw [cnt_go _ hk0.1, ← ht, if_neg (fun h => c_48 (hv ▸ h))]) _ _ _ hH hS (lv_sub hl [0, 1, 2, 3, 4] rfl)
          · refine z_iconst C dX3_differs_51 ?_
            refine z_goto C dX3_differs_52 (tgt := 56) (by decide) ?_
            refine z_iadd C dX3_differs_56 ?_
            refine z_istore_n C [(3, .int (iI (t + 0))), (4, .int (iI k)), (0, .ref o), (1, .int (iI ln)), (2, .int (iI x))] dX3_differs_57 hl (by decide) rfl (fun ls hl => ?_)
            refine z_iinc C [(4, .int (iI (k + 1))), (3, .int (iI (t + 0))), (0, .ref o), (1, .int (iI ln)), (2, .int (iI x))] dX3_differs_58 hl 1 rfl (by decide) rfl (fun ls hl => ?_)
            refine z_goto C dX3_differs_61 (tgt := 5) (by decide) ?_
            exact ih_5 ((t + 0)) ((k + 1)) (by omega) (by omega) (by rw [cnt_go _ hk0.1, ← ht, if_pos (hv ▸ c_48)]) _ _ _ hH hS (lv_sub hl [0, 1, 2, 3, 4] rfl)
        refine z_iload_n C dX3_differs_28 hl 4 rfl ?_
        refine z_iconst C dX3_differs_29 ?_
        refine z_icmpne C dX3_differs_30 (tgt := 37) (by decide) ⟨⟨by omega, by omega⟩, ⟨by omega, by omega⟩⟩ (fun c_30 => ?_) (fun c_30 => ?_)
        · refine z_aload_n C dX3_differs_37 hl 2 rfl ?_
          refine m_geta C hH 1 ⟨by decide, by decide⟩ q2186 rfl dX3_differs_38 ?_
          refine z_iload_n C dX3_differs_41 hl 4 rfl ?_
          refine z_iload C dX3_differs_42 hl 0 rfl ?_
          refine m_SiF C hH hS (mm_dotAt hOk σ x k) (va_cwS 2 C.1.2.2.2.2 (lw_S q2332 q2333 q133 q2334) rfl rfl rfl (by decide +kernel) ⟨Nat.le_of_ble_eq_true rfl, Nat.le_of_ble_eq_true rfl⟩) rfl hl rfl (Nat.le_of_ble_eq_true rfl) dX3_differs_44 ⟨Nat.le_refl _, Nat.le_refl _⟩ (fun H locs hH hS => ?_)
          refine m_ialdZ C hOk hH 1 ⟨by decide, by decide⟩ (28 + 40 * x + k) (lnZ P x k) (p5 x k (by omega) (by omega) (by omega) (by omega)) (show 0 ≤ (28 + 40 * x + k) ∧ (28 + 40 * x + k) < (828 : Int) by omega) dX3_differs_47 ?_
          exact J_48 ((lnZ P x k)) (by unfold loZ; first | (rw [if_pos (by omega)]; done) | (rw [if_neg (by omega)]; done)) (by first | exact Or.inl rfl | exact lnZ_01 P x k) _ _ _ hH hS (lv_sub hl [0, 1, 2, 3, 4] rfl)
        · refine z_iconst C dX3_differs_33 ?_
          refine z_goto C dX3_differs_34 (tgt := 48) (by decide) ?_
          exact J_48 0 (by unfold loZ; first | (rw [if_pos (by omega)]; done) | (rw [if_neg (by omega)]; done)) (by first | exact Or.inl rfl | exact lnZ_01 P x k) _ _ _ hH hS (lv_sub hl [0, 1, 2, 3, 4] rfl)
  exact J_5 _ 0 0 (Nat.lt_succ_self _) (by omega) (rfl) _ _ _ hH hS (lv_sub hl [0, 1, 2, 3, 4] rfl)
set_option maxHeartbeats 1000000 in
theorem mm_isLine {l : Launch} {D : va_G} {dA : Nat → ClassId} {A : Nat → Prop} {o : Nat} {ad : Nat → Nat} (hOk : mOk o ad) (σ : Sg) (ln : Int) (P : Pg) (hP : PgAt (σ 1) P) (hk : PgOk P) (hr : zR ln) : Met l yX3_isLine (ws_ yX3_isLine cX3_isLine 2 (some .boolean)) (rmL 2 0 0) (MP D dA A o ad [.ref o, .int (iI ln)] σ) (MQi D dA A o ad (fun r σ' => σ' = σ ∧ r = if 0 ≤ ln ∧ ln ≤ pN P - 1 then 1 else 0)) 0 0 A := by
  refine z_ofW (by decide) rfl ?_
  intro pp ee s0 mm below meth cc0 ls C hret hname hl hH hS
  have hl : lv_has ls 2 [(0, .ref o), (1, .int (iI ln))] := hl
  have hk9 := hk
  have hP9 := hP
  obtain ⟨k1, k2, k3, k4, k5, k6, k7, k8, k9, k10, k11⟩ := hk
  obtain ⟨p1, p2, p3, p4, p5⟩ := hP
  have pn0 : 0 ≤ pN P := by show (0 : Int) ≤ ((pB P).length : Int); omega
  refine z_iload_n C dX3_isLine_0 hl 1 rfl ?_
  refine z_iconst C dX3_isLine_1 ?_
  refine z_aload_n C dX3_isLine_2 hl 0 rfl ?_
  refine m_geta C hH 1 ⟨by decide, by decide⟩ q2186 rfl dX3_isLine_3 ?_
  refine z_iconst C dX3_isLine_6 ?_
  refine m_ialdZ C hOk hH 1 ⟨by decide, by decide⟩ 1 (pN P) (p2) (show 0 ≤ 1 ∧ 1 < (828 : Int) by omega) dX3_isLine_7 ?_
  refine z_iconst C dX3_isLine_8 ?_
  refine z_isub C dX3_isLine_9 ?_
  refine m_SiF C hH hS (mm_in hOk σ ln 0 ((pN P) - 1) (hr) (by decide) (⟨by omega, by omega⟩)) (va_cwS 3 C.1.2.2.2.2 (lw_S q2321 q2322 q133 q2323) rfl rfl rfl (by decide +kernel) ⟨Nat.le_of_ble_eq_true rfl, Nat.le_of_ble_eq_true rfl⟩) rfl hl rfl (Nat.le_of_ble_eq_true rfl) dX3_isLine_10 ⟨Nat.le_refl _, Nat.le_refl _⟩ (fun H locs hH hS => ?_)
  refine z_topi (fun z_10 hz_10 => ?_)
  have q_10 := inZ_or ln 0 ((pN P) - 1)
  rw [← hz_10] at q_10
  refine m_zret C hret hH hS (by omega) dX3_isLine_13 ?_
  exact ⟨rfl, hz_10⟩
set_option maxHeartbeats 1000000 in
theorem mm_isDot {l : Launch} {D : va_G} {dA : Nat → ClassId} {A : Nat → Prop} {o : Nat} {ad : Nat → Nat} (hOk : mOk o ad) (σ : Sg) (ln : Int) (x : Int) (P : Pg) (hP : PgAt (σ 1) P) (hk : PgOk P) (hr : zR ln) (hr2 : zR x) : Met l yX3_isDot (ws_ yX3_isDot cX3_isDot 3 (some .boolean)) (rmL 3 0 0) (MP D dA A o ad [.ref o, .int (iI ln), .int (iI x)] σ) (MQi D dA A o ad (fun r σ' => σ' = σ ∧ r = if (0 ≤ ln ∧ ln ≤ pN P - 1) ∧ 0 ≤ x ∧ x ≤ pW P - 1 then 1 else 0)) 0 0 A := by
  refine z_ofW (by decide) rfl ?_
  intro pp ee s0 mm below meth cc0 ls C hret hname hl hH hS
  have hl : lv_has ls 3 [(0, .ref o), (1, .int (iI ln)), (2, .int (iI x))] := hl
  have hk9 := hk
  have hP9 := hP
  obtain ⟨k1, k2, k3, k4, k5, k6, k7, k8, k9, k10, k11⟩ := hk
  obtain ⟨p1, p2, p3, p4, p5⟩ := hP
  have pn0 : 0 ≤ pN P := by show (0 : Int) ≤ ((pB P).length : Int); omega
  have hr_1 := hr.1
  have hr_2 := hr.2
  have hr2_1 := hr2.1
  have hr2_2 := hr2.2
  refine z_aload_n C dX3_isDot_0 hl 0 rfl ?_
  refine z_iload_n C dX3_isDot_1 hl 1 rfl ?_
  refine m_ViF C hH hS (mm_isLine hOk σ ln P (hP9) (hk9) (⟨by omega, by omega⟩)) (cwV 1 C.1.2.2.2.2 (lw_V q2413 q2415 qs63 q133 q2416) rfl rfl rfl (by decide +kernel) ⟨Nat.le_of_ble_eq_true rfl, Nat.le_of_ble_eq_true rfl⟩) rfl hl rfl (Nat.le_of_ble_eq_true rfl) dX3_isDot_2 ⟨Nat.le_refl _, Nat.le_refl _⟩ (fun H locs hH hS => ?_)
  refine z_topi (fun z_2 hz_2 => ?_)
  have q_2 := inZ_or ln 0 (pN P - 1)
  rw [← hz_2] at q_2
  refine z_ifeq C dX3_isDot_5 (tgt := 28) (by decide) ⟨by omega, by omega⟩ (fun c_5 => ?_) (fun c_5 => ?_)
  · refine z_iconst C dX3_isDot_28 ?_
    refine m_zret C hret hH hS (by omega) dX3_isDot_29 ?_
    refine ⟨rfl, ?_⟩
    first | (rw [if_pos (by omega)]; done) | (rw [if_neg (by omega)]; done)
  · refine z_iload_n C dX3_isDot_8 hl 2 rfl ?_
    refine z_iconst C dX3_isDot_9 ?_
    refine z_aload_n C dX3_isDot_10 hl 0 rfl ?_
    refine m_geta C hH 1 ⟨by decide, by decide⟩ q2186 rfl dX3_isDot_11 ?_
    refine z_iconst C dX3_isDot_14 ?_
    refine m_ialdZ C hOk hH 1 ⟨by decide, by decide⟩ 0 (pW P) (p1) (show 0 ≤ 0 ∧ 0 < (828 : Int) by omega) dX3_isDot_15 ?_
    refine z_iconst C dX3_isDot_16 ?_
    refine z_isub C dX3_isDot_17 ?_
    refine m_SiF C hH hS (mm_in hOk σ x 0 ((pW P) - 1) (⟨by omega, by omega⟩) (⟨by omega, by omega⟩) (⟨by omega, by omega⟩)) (va_cwS 3 C.1.2.2.2.2 (lw_S q2321 q2322 q133 q2323) rfl rfl rfl (by decide +kernel) ⟨Nat.le_of_ble_eq_true rfl, Nat.le_of_ble_eq_true rfl⟩) rfl hl rfl (Nat.le_of_ble_eq_true rfl) dX3_isDot_18 ⟨Nat.le_refl _, Nat.le_refl _⟩ (fun H locs hH hS => ?_)
    refine z_topi (fun z_18 hz_18 => ?_)
    have q_18 := inZ_or x 0 ((pW P) - 1)
    rw [← hz_18] at q_18
    refine z_ifeq C dX3_isDot_21 (tgt := 28) (by decide) ⟨by omega, by omega⟩ (fun c_21 => ?_) (fun c_21 => ?_)
    · refine z_iconst C dX3_isDot_28 ?_
      refine m_zret C hret hH hS (by omega) dX3_isDot_29 ?_
      refine ⟨rfl, ?_⟩
      first | (rw [if_pos (by omega)]; done) | (rw [if_neg (by omega)]; done)
    · refine z_iconst C dX3_isDot_24 ?_
      refine z_goto C dX3_isDot_25 (tgt := 29) (by decide) ?_
      refine m_zret C hret hH hS (by omega) dX3_isDot_29 ?_
      refine ⟨rfl, ?_⟩
      first | (rw [if_pos (by omega)]; done) | (rw [if_neg (by omega)]; done)
set_option maxHeartbeats 1000000 in
theorem mm_dot {l : Launch} {D : va_G} {dA : Nat → ClassId} {A : Nat → Prop} {o : Nat} {ad : Nat → Nat} (hOk : mOk o ad) (σ : Sg) (ln : Int) (x : Int) (P : Pg) (hP : PgAt (σ 1) P) (hk : PgOk P) (hr : zR ln) (hr2 : zR x) : Met l yX3_dot (ws_ yX3_dot cX3_dot 3 (some .int)) (rmL 4 0 0) (MP D dA A o ad [.ref o, .int (iI ln), .int (iI x)] σ) (MQi D dA A o ad (fun r σ' => σ' 0 0 = (if (0 ≤ ln ∧ ln ≤ pN P - 1) ∧ 0 ≤ x ∧ x ≤ pW P - 1 then 0 else 1) ∧ (σ' 0 0 = 0 → r = lnZ P ln x) ∧ Fr [0, 7, 8, 9, 10, 11, 12, 13, 14, 15, 16, 17, 18, 19] σ σ')) 0 0 A := by
  refine z_ofW (by decide) rfl ?_
  intro pp ee s0 mm below meth cc0 ls C hret hname hl hH hS
  have hl : lv_has ls 3 [(0, .ref o), (1, .int (iI ln)), (2, .int (iI x))] := hl
  have hk9 := hk
  have hP9 := hP
  obtain ⟨k1, k2, k3, k4, k5, k6, k7, k8, k9, k10, k11⟩ := hk
  obtain ⟨p1, p2, p3, p4, p5⟩ := hP
  have pn0 : 0 ≤ pN P := by show (0 : Int) ≤ ((pB P).length : Int); omega
  have hr_1 := hr.1
  have hr_2 := hr.2
  have hr2_1 := hr2.1
  have hr2_2 := hr2.2
  refine z_aload_n C dX3_dot_0 hl 0 rfl ?_
  refine z_aload_n C dX3_dot_1 hl 0 rfl ?_
  refine z_iload_n C dX3_dot_2 hl 1 rfl ?_
  refine z_iload_n C dX3_dot_3 hl 2 rfl ?_
  refine m_ViF C hH hS (mm_isDot hOk σ ln x P (hP9) (hk9) (hr) (hr2)) (cwV 2 C.1.2.2.2.2 (lw_V q2409 q2411 qs62 q133 q2412) rfl rfl rfl (by decide +kernel) ⟨Nat.le_of_ble_eq_true rfl, Nat.le_of_ble_eq_true rfl⟩) rfl hl rfl (Nat.le_of_ble_eq_true rfl) dX3_dot_4 ⟨Nat.le_refl _, Nat.le_refl _⟩ (fun H locs hH hS => ?_)
  refine z_topi (fun z_4 hz_4 => ?_)
  have q_4 := isDot_or ln x (pN P) (pW P)
  rw [← hz_4] at q_4
  refine z_ifeq C dX3_dot_7 (tgt := 14) (by decide) ⟨by omega, by omega⟩ (fun c_7 => ?_) (fun c_7 => ?_)
  · refine z_iconst C dX3_dot_14 ?_
    refine m_puts C hH hS 0 ⟨by decide, by decide⟩ q2185 rfl ⟨rfl, rfl⟩ dX3_dot_15 (fun H locs hH hS => ?_)
    refine z_aload_n C dX3_dot_18 hl 0 rfl ?_
    refine m_getsZ C hH 0 ⟨by decide, by decide⟩ 1 rfl q2185 rfl dX3_dot_19 ?_
    refine z_ifle C dX3_dot_22 (tgt := 29) (by decide) ⟨by omega, by omega⟩ (fun c_22 => ?_) (fun c_22 => ?_)
    · exact absurd c_22 (by decide)
    · refine z_iconst C dX3_dot_25 ?_
      refine z_goto C dX3_dot_26 (tgt := 39) (by decide) ?_
      refine m_iret C hret hH hS dX3_dot_39 ?_
      refine ⟨?_, ?_, frSu Fr.rf rfl⟩
      · rw [su_self]; first | rw [if_pos (by omega)] | rw [if_neg (by omega)]
      · rw [su_self]; first | (intro h; exact absurd h (by decide)) | (intro _; rfl)
  · refine z_iconst C dX3_dot_10 ?_
    refine z_goto C dX3_dot_11 (tgt := 15) (by decide) ?_
    refine m_puts C hH hS 0 ⟨by decide, by decide⟩ q2185 rfl ⟨rfl, rfl⟩ dX3_dot_15 (fun H locs hH hS => ?_)
    refine z_aload_n C dX3_dot_18 hl 0 rfl ?_
    refine m_getsZ C hH 0 ⟨by decide, by decide⟩ 0 rfl q2185 rfl dX3_dot_19 ?_
    refine z_ifle C dX3_dot_22 (tgt := 29) (by decide) ⟨by omega, by omega⟩ (fun c_22_1 => ?_) (fun c_22_1 => ?_)
    · refine z_aload_n C dX3_dot_29 hl 0 rfl ?_
      refine m_geta C hH 1 ⟨by decide, by decide⟩ q2186 rfl dX3_dot_30 ?_
      refine z_iload_n C dX3_dot_33 hl 1 rfl ?_
      refine z_iload_n C dX3_dot_34 hl 2 rfl ?_
      refine m_SiF C hH hS (mm_dotAt hOk (su σ 0 0 0) ln x) (va_cwS 2 C.1.2.2.2.2 (lw_S q2332 q2333 q133 q2334) rfl rfl rfl (by decide +kernel) ⟨Nat.le_of_ble_eq_true rfl, Nat.le_of_ble_eq_true rfl⟩) rfl hl rfl (Nat.le_of_ble_eq_true rfl) dX3_dot_35 ⟨Nat.le_refl _, Nat.le_refl _⟩ (fun H locs hH hS => ?_)
      refine m_ialdZ C hOk hH 1 ⟨by decide, by decide⟩ (28 + 40 * ln + x) (lnZ P ln x) (p5 ln x (by omega) (by omega) (by omega) (by omega)) (show 0 ≤ (28 + 40 * ln + x) ∧ (28 + 40 * ln + x) < (828 : Int) by omega) dX3_dot_38 ?_
      refine m_iret C hret hH hS dX3_dot_39 ?_
      refine ⟨?_, ?_, frSu Fr.rf rfl⟩
      · rw [su_self]; first | rw [if_pos (by omega)] | rw [if_neg (by omega)]
      · rw [su_self]; first | (intro h; exact absurd h (by decide)) | (intro _; rfl)
    · exact absurd c_22_1 (by decide)
set_option maxHeartbeats 1000000 in
theorem mm_modesOf {l : Launch} {D : va_G} {dA : Nat → ClassId} {A : Nat → Prop} {o : Nat} {ad : Nat → Nat} (hOk : mOk o ad) (σ : Sg) (kd : Int) (w : Int) (L : List Md) (hkd : zR kd) (hw : 0 ≤ w ∧ w ≤ 40) (hm : MdsAt σ L) (hL : ∀ m ∈ L, MdOk w m) (hlen : (L.length : Int) ≤ 41) : Met l yX3_modesOf (ws_ yX3_modesOf cX3_modesOf 4 (some .int)) (rmL 2 0 0) (MP D dA A o ad [.ref o, .int (iI kd)] σ) (MQi D dA A o ad (fun r σ' => σ' = σ ∧ r = mdZ L kd)) 0 0 A := by
  refine z_ofW (by decide) rfl ?_
  intro pp ee s0 mm below meth cc0 ls C hret hname hl hH hS
  have hl : lv_has ls 4 [(0, .ref o), (1, .int (iI kd))] := hl
  have hkd1 := hkd.1
  have hkd2 := hkd.2
  refine z_iconst C dX3_modesOf_0 ?_
  refine z_istore_n C [(2, .int (iI 0)), (0, .ref o), (1, .int (iI kd))] dX3_modesOf_1 hl (by decide) rfl (fun ls hl => ?_)
  refine z_iconst C dX3_modesOf_2 ?_
  refine z_istore_n C [(3, .int (iI 0)), (2, .int (iI 0)), (0, .ref o), (1, .int (iI kd))] dX3_modesOf_3 hl (by decide) rfl (fun ls hl => ?_)
  have J_4 : ∀ (n : Nat) (t : Int) (k : Int), ((L.length : Int) - k).toNat < n → (0 ≤ k ∧ k ≤ (L.length : Int)) → (t = cnt (fun k => if (gM L k).1 = kd then 1 else 0) k) → ∀ (H : Heap) (locs : List Loc) (ls : Array Slot), MH D dA A o ad σ H → va_S A s0.heap H locs → lv_has ls 4 [(3, .int (iI k)), (2, .int (iI t)), (0, .ref o), (1, .int (iI kd))] → W pp l ee (rmL 2 0 0) s0 mm ([.ref o, .int (iI kd)] : List Value).toArray below meth cc0 H locs 0 0 (MQ below (MQi D dA A o ad (fun r σ' => σ' = σ ∧ r = mdZ L kd)) ([.ref o, .int (iI kd)] : List Value).toArray s0 0 0 A) (F0 mm 4 ls []) := by
    intro n
    induction n with
    | zero => intro t k hn; exact absurd hn (Nat.not_lt_zero _)
    | succ n ih_4 =>
      intro t k hn hk ht H locs ls hH hS hl
      refine z_iload_n C dX3_modesOf_4 hl 0 rfl ?_
      refine z_aload_n C dX3_modesOf_5 hl 2 rfl ?_
      refine m_getsZ C hH 14 ⟨by decide, by decide⟩ ((L.length : Int)) (hm.1) q2199 rfl dX3_modesOf_6 ?_
      refine z_icmpge C dX3_modesOf_9 (tgt := 36) (by decide) ⟨⟨by omega, by omega⟩, ⟨by omega, by omega⟩⟩ (fun c_9 => ?_) (fun c_9 => ?_)
      · refine z_iload_n C dX3_modesOf_36 hl 1 rfl ?_
        refine m_iret C hret hH hS dX3_modesOf_37 ?_
        refine ⟨rfl, ?_⟩
        unfold mdZ; rw [ht, show k = (L.length : Int) by omega]
      · have e := hm.2 k hk.1 (by omega)
        have ok := hL _ (gM_mem hk.1 (show k < (L.length : Int) by omega))
        obtain ⟨e10, e11, e12, e13⟩ := e
        obtain ⟨o1, o2, o3, o4, o5, o6, o7, o8, o9⟩ := ok
        refine z_iload_n C dX3_modesOf_12 hl 1 rfl ?_
        refine z_aload_n C dX3_modesOf_13 hl 2 rfl ?_
        refine m_geta C hH 10 ⟨by decide, by decide⟩ q2195 rfl dX3_modesOf_14 ?_
        refine z_iload_n C dX3_modesOf_17 hl 0 rfl ?_
        refine m_ialdZ C hOk hH 10 ⟨by decide, by decide⟩ k ((gM L k).1) (e10) (show 0 ≤ k ∧ k < (48 : Int) by omega) dX3_modesOf_18 ?_
        refine z_iload_n C dX3_modesOf_19 hl 3 rfl ?_
        refine z_icmpne C dX3_modesOf_20 (tgt := 27) (by decide) ⟨⟨by omega, by omega⟩, ⟨by omega, by omega⟩⟩ (fun c_20 => ?_) (fun c_20 => ?_)
        · refine z_iconst C dX3_modesOf_27 ?_
          refine z_iadd C dX3_modesOf_28 ?_
          refine z_istore_n C [(2, .int (iI (t + 0))), (3, .int (iI k)), (0, .ref o), (1, .int (iI kd))] dX3_modesOf_29 hl (by decide) rfl (fun ls hl => ?_)
          refine z_iinc C [(3, .int (iI (k + 1))), (2, .int (iI (t + 0))), (0, .ref o), (1, .int (iI kd))] dX3_modesOf_30 hl 1 rfl (by decide) rfl (fun ls hl => ?_)
          refine z_goto C dX3_modesOf_33 (tgt := 4) (by decide) ?_
          exact ih_4 ((t + 0)) ((k + 1)) (by omega) (by omega) (by rw [cnt_go _ hk.1, ← ht, if_neg (fun h => c_20 h)]) _ _ _ hH hS (lv_sub hl [0, 1, 2, 3] rfl)
        · refine z_iconst C dX3_modesOf_23 ?_
          refine z_goto C dX3_modesOf_24 (tgt := 28) (by decide) ?_
          refine z_iadd C dX3_modesOf_28 ?_
          refine z_istore_n C [(2, .int (iI (t + 1))), (3, .int (iI k)), (0, .ref o), (1, .int (iI kd))] dX3_modesOf_29 hl (by decide) rfl (fun ls hl => ?_)
          refine z_iinc C [(3, .int (iI (k + 1))), (2, .int (iI (t + 1))), (0, .ref o), (1, .int (iI kd))] dX3_modesOf_30 hl 1 rfl (by decide) rfl (fun ls hl => ?_)
          refine z_goto C dX3_modesOf_33 (tgt := 4) (by decide) ?_
          exact ih_4 ((t + 1)) ((k + 1)) (by omega) (by omega) (by rw [cnt_go _ hk.1, ← ht, if_pos c_20]) _ _ _ hH hS (lv_sub hl [0, 1, 2, 3] rfl)
  exact J_4 _ 0 0 (Nat.lt_succ_self _) (by omega) (rfl) _ _ _ hH hS (lv_sub hl [0, 1, 2, 3] rfl)
