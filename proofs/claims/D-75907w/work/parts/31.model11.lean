/-! the reference's methods, 11 (written by gen/model11.py) -/
set_option maxRecDepth 100000
set_option maxHeartbeats 1000000 in
theorem mm_sendsPage {l : Launch} {D : va_G} {dA : Nat → ClassId} {A : Nat → Prop} {o : Nat} {ad : Nat → Nat} (hOk : mOk o ad) (σ : Sg) (P : Pg) (hP : PgAt (σ 1) P) (hk : PgOk P) : Met l yX3_sendsPage (ws_ yX3_sendsPage cX3_sendsPage 1 none) (rmL 9 0 0) (MP D dA A o ad [.ref o] σ) (MQv D dA A o ad (fun σ' => TauAt σ' (sdQ P).1 ∧ GtAt (pW P) σ' (sdQ P).2.1 (pN P) ∧ Fr [7, 8, 9, 10, 11, 12, 13, 14, 15, 16, 17, 18, 19, 20, 21, 22, 23, 24, 25, 26, 27, 28, 29, 30] σ σ')) 0 0 A := by
  refine z_ofW (by decide) rfl ?_
  intro pp ee s0 mm below meth cc0 ls C hret hname hl hH hS
  have hl : lv_has ls 1 [(0, .ref o)] := hl
  have hk9 := hk
  have hP9 := hP
  obtain ⟨k1, k2, k3, k4, k5, k6, k7, k8, k9, k10, k11⟩ := hk
  obtain ⟨p1, p2, p3, p4, p5⟩ := hP
  have pn0 : 0 ≤ pN P := by show (0 : Int) ≤ ((pB P).length : Int); omega
  have hlo : ∀ i, 0 ≤ i → i < 20 → 0 ≤ pL P i ∧ pL P i ≤ 5 := hk9.2.2.2.2.2.2.2.2.2.1
  refine z_aload_n C dX3_sendsPage_0 hl 0 rfl ?_
  refine m_VvF C hH hS (mm_laysLosses hOk σ ) (cwV 0 C.1.2.2.2.2 (lw_V q2551 q2553 qs79 q133 q2554) rfl rfl rfl (by decide +kernel) ⟨Nat.le_of_ble_eq_true rfl, Nat.le_of_ble_eq_true rfl⟩) rfl hl rfl (Nat.le_of_ble_eq_true rfl) dX3_sendsPage_1 ⟨Nat.le_refl _, Nat.le_refl _⟩ (fun H locs hH hS => ?_)
  refine z_aload_n C dX3_sendsPage_4 hl 0 rfl ?_
  refine m_Vv C hH hS (mm_sendsAll hOk (sa σ 25 (wr (fun j => σ 1 (8 + j)) (σ 25) 0 20)) P ((pL P)) (hP9) (hk9) (fun i a b => by show wr (fun j => σ 1 (8 + j)) (σ 25) 0 20 i = _; rw [wr_in _ _ a (by omega)]; exact p4 i a b) (hlo)) (cwV 0 C.1.2.2.2.2 (lw_V q2555 q2557 qs80 q133 q2558) rfl rfl rfl (by decide +kernel) ⟨Nat.le_of_ble_eq_true rfl, Nat.le_of_ble_eq_true rfl⟩) rfl hl rfl (Nat.le_of_ble_eq_true rfl) dX3_sendsPage_5 ⟨Nat.le_refl _, Nat.le_refl _⟩ (fun s_5 H locs hp_5 hH hS => ?_)
  obtain ⟨ht5, hg5, hf5⟩ := hp_5
  refine m_vret C hret hH hS dX3_sendsPage_8 ?_
  exact ⟨ht5, hg5, (frSa Fr.rf rfl).th hf5 rfl⟩
set_option maxHeartbeats 1000000 in
theorem mm_wrongDots {l : Launch} {D : va_G} {dA : Nat → ClassId} {A : Nat → Prop} {o : Nat} {ad : Nat → Nat} (hOk : mOk o ad) (σ : Sg) (P : Pg) (g : Gt) (hP : PgAt (σ 1) P) (hk : PgOk P) (hg : GtAt (pW P) σ g (pN P)) (hb : ∀ l k, g l k = 0 ∨ g l k = 1) : Met l yX3_wrongDots (ws_ yX3_wrongDots cX3_wrongDots 3 (some .int)) (rmL 3 0 0) (MP D dA A o ad [.ref o] σ) (MQi D dA A o ad (fun r σ' => σ' = σ ∧ r = wdZ P g)) 0 0 A := by
  refine z_ofW (by decide) rfl ?_
  intro pp ee s0 mm below meth cc0 ls C hret hname hl hH hS
  have hl : lv_has ls 3 [(0, .ref o)] := hl
  have hk9 := hk
  have hP9 := hP
  obtain ⟨k1, k2, k3, k4, k5, k6, k7, k8, k9, k10, k11⟩ := hk
  obtain ⟨p1, p2, p3, p4, p5⟩ := hP
  have pn0 : 0 ≤ pN P := by show (0 : Int) ≤ ((pB P).length : Int); omega
  refine z_iconst C dX3_wrongDots_0 ?_
  refine z_istore_n C [(1, .int (iI 0)), (0, .ref o)] dX3_wrongDots_1 hl (by decide) rfl (fun ls hl => ?_)
  refine z_iconst C dX3_wrongDots_2 ?_
  refine z_istore_n C [(2, .int (iI 0)), (1, .int (iI 0)), (0, .ref o)] dX3_wrongDots_3 hl (by decide) rfl (fun ls hl => ?_)
  have J_4 : ∀ (fu : Nat) (t : Int) (k : Int), (pN P - k).toNat < fu → (0 ≤ k ∧ k ≤ pN P) → (t = cnt (fun l => wrZ P (g l) l) k) → ∀ (H : Heap) (locs : List Loc) (ls : Array Slot), MH D dA A o ad σ H → va_S A s0.heap H locs → lv_has ls 3 [(2, .int (iI k)), (1, .int (iI t)), (0, .ref o)] → W pp l ee (rmL 3 0 0) s0 mm ([.ref o] : List Value).toArray below meth cc0 H locs 0 0 (MQ below (MQi D dA A o ad (fun r σ' => σ' = σ ∧ r = wdZ P g)) ([.ref o] : List Value).toArray s0 0 0 A) (F0 mm 4 ls []) := by
    intro fu
    induction fu with
    | zero => intro t k hn; exact absurd hn (Nat.not_lt_zero _)
    | succ fu ih_4 =>
      intro t k hn hk0 ht H locs ls hH hS hl
      refine z_iload_n C dX3_wrongDots_4 hl 0 rfl ?_
      refine z_aload_n C dX3_wrongDots_5 hl 2 rfl ?_
      refine m_geta C hH 1 ⟨by decide, by decide⟩ q2186 rfl dX3_wrongDots_6 ?_
      refine z_iconst C dX3_wrongDots_9 ?_
      refine m_ialdZ C hOk hH 1 ⟨by decide, by decide⟩ 1 (pN P) (p2) (show 0 ≤ 1 ∧ 1 < (828 : Int) by omega) dX3_wrongDots_10 ?_
      refine z_icmpge C dX3_wrongDots_11 (tgt := 28) (by decide) ⟨⟨by omega, by omega⟩, ⟨by omega, by omega⟩⟩ (fun c_11 => ?_) (fun c_11 => ?_)
      · refine z_iload_n C dX3_wrongDots_28 hl 1 rfl ?_
        refine m_iret C hret hH hS dX3_wrongDots_29 ?_
        refine ⟨rfl, ?_⟩
        unfold wdZ; rw [ht, show k = pN P by omega]
      · refine z_iload_n C dX3_wrongDots_14 hl 1 rfl ?_
        refine z_aload_n C dX3_wrongDots_15 hl 2 rfl ?_
        refine z_iload_n C dX3_wrongDots_16 hl 0 rfl ?_
        refine m_ViF C hH hS (mm_wrongIn hOk σ k P ((g k)) (hP9) (hk9) (by omega) (fun j a b => hg k j hk0.1 (by omega) a b) (hb k)) (cwV 1 C.1.2.2.2.2 (lw_V q2567 q2569 qs83 q133 q2570) rfl rfl rfl (by decide +kernel) ⟨Nat.le_of_ble_eq_true rfl, Nat.le_of_ble_eq_true rfl⟩) rfl hl rfl (Nat.le_of_ble_eq_true rfl) dX3_wrongDots_17 ⟨Nat.le_refl _, Nat.le_refl _⟩ (fun H locs hH hS => ?_)
        refine z_iadd C dX3_wrongDots_20 ?_
        refine z_istore_n C [(1, .int (iI (t + (wrZ P ((g k)) k)))), (2, .int (iI k)), (0, .ref o)] dX3_wrongDots_21 hl (by decide) rfl (fun ls hl => ?_)
        refine z_iinc C [(2, .int (iI (k + 1))), (1, .int (iI (t + (wrZ P ((g k)) k)))), (0, .ref o)] dX3_wrongDots_22 hl 1 rfl (by decide) rfl (fun ls hl => ?_)
        refine z_goto C dX3_wrongDots_25 (tgt := 4) (by decide) ?_
        exact ih_4 ((t + (wrZ P ((g k)) k))) ((k + 1)) (by omega) (by omega) (by rw [cnt_go _ hk0.1, ← ht]) _ _ _ hH hS (lv_sub hl [0, 1, 2] rfl)
  exact J_4 _ 0 0 (Nat.lt_succ_self _) (by omega) (rfl) _ _ _ hH hS (lv_sub hl [0, 1, 2] rfl)
set_option maxHeartbeats 1000000 in
theorem mm_statesOf {l : Launch} {D : va_G} {dA : Nat → ClassId} {A : Nat → Prop} {o : Nat} {ad : Nat → Nat} (hOk : mOk o ad) (σ : Sg) (x : Int) (P : Pg) (t : Sg) (hP : PgAt (σ 1) P) (hk : PgOk P) (hT : TauAt σ t) (htr : ∀ l, 0 ≤ t 21 l ∧ t 21 l ≤ 3) (hx : zR x) : Met l yX3_statesOf (ws_ yX3_statesOf cX3_statesOf 4 (some .int)) (rmL 1 0 0) (MP D dA A o ad [.ref o, .int (iI x)] σ) (MQi D dA A o ad (fun r σ' => σ' = σ ∧ r = soZ P t x)) 0 0 A := by
  refine z_ofW (by decide) rfl ?_
  intro pp ee s0 mm below meth cc0 ls C hret hname hl hH hS
  have hl : lv_has ls 4 [(0, .ref o), (1, .int (iI x))] := hl
  have hk9 := hk
  have hP9 := hP
  obtain ⟨k1, k2, k3, k4, k5, k6, k7, k8, k9, k10, k11⟩ := hk
  obtain ⟨p1, p2, p3, p4, p5⟩ := hP
  have pn0 : 0 ≤ pN P := by show (0 : Int) ≤ ((pB P).length : Int); omega
  have hx_1 := hx.1
  have hx_2 := hx.2
  refine z_iconst C dX3_statesOf_0 ?_
  refine z_istore_n C [(2, .int (iI 0)), (0, .ref o), (1, .int (iI x))] dX3_statesOf_1 hl (by decide) rfl (fun ls hl => ?_)
  refine z_iconst C dX3_statesOf_2 ?_
  refine z_istore_n C [(3, .int (iI 0)), (2, .int (iI 0)), (0, .ref o), (1, .int (iI x))] dX3_statesOf_3 hl (by decide) rfl (fun ls hl => ?_)
  have J_4 : ∀ (fu : Nat) (q : Int) (k : Int), (pN P - k).toNat < fu → (0 ≤ k ∧ k ≤ pN P) → (q = cnt (fun l => if t 21 l = x then 1 else 0) k) → ∀ (H : Heap) (locs : List Loc) (ls : Array Slot), MH D dA A o ad σ H → va_S A s0.heap H locs → lv_has ls 4 [(3, .int (iI k)), (2, .int (iI q)), (0, .ref o), (1, .int (iI x))] → W pp l ee (rmL 1 0 0) s0 mm ([.ref o, .int (iI x)] : List Value).toArray below meth cc0 H locs 0 0 (MQ below (MQi D dA A o ad (fun r σ' => σ' = σ ∧ r = soZ P t x)) ([.ref o, .int (iI x)] : List Value).toArray s0 0 0 A) (F0 mm 4 ls []) := by
    intro fu
    induction fu with
    | zero => intro q k hn; exact absurd hn (Nat.not_lt_zero _)
    | succ fu ih_4 =>
      intro q k hn hk0 hq H locs ls hH hS hl
      refine z_iload_n C dX3_statesOf_4 hl 0 rfl ?_
      refine z_aload_n C dX3_statesOf_5 hl 2 rfl ?_
      refine m_geta C hH 1 ⟨by decide, by decide⟩ q2186 rfl dX3_statesOf_6 ?_
      refine z_iconst C dX3_statesOf_9 ?_
      refine m_ialdZ C hOk hH 1 ⟨by decide, by decide⟩ 1 (pN P) (p2) (show 0 ≤ 1 ∧ 1 < (828 : Int) by omega) dX3_statesOf_10 ?_
      refine z_icmpge C dX3_statesOf_11 (tgt := 38) (by decide) ⟨⟨by omega, by omega⟩, ⟨by omega, by omega⟩⟩ (fun c_11 => ?_) (fun c_11 => ?_)
      · refine z_iload_n C dX3_statesOf_38 hl 1 rfl ?_
        refine m_iret C hret hH hS dX3_statesOf_39 ?_
        refine ⟨rfl, ?_⟩
        unfold soZ; rw [hq, show k = pN P by omega]
      · have v1 := htr k
        refine z_iload_n C dX3_statesOf_14 hl 1 rfl ?_
        refine z_aload_n C dX3_statesOf_15 hl 2 rfl ?_
        refine m_geta C hH 21 ⟨by decide, by decide⟩ q2206 rfl dX3_statesOf_16 ?_
        refine z_iload_n C dX3_statesOf_19 hl 0 rfl ?_
        refine m_ialdZ C hOk hH 21 ⟨by decide, by decide⟩ k (t 21 k) (hT.1 21 (by omega) (by omega) k hk0.1 (by omega)) (show 0 ≤ k ∧ k < (20 : Int) by omega) dX3_statesOf_20 ?_
        refine z_iload_n C dX3_statesOf_21 hl 3 rfl ?_
        refine z_icmpne C dX3_statesOf_22 (tgt := 29) (by decide) ⟨⟨by omega, by omega⟩, ⟨by omega, by omega⟩⟩ (fun c_22 => ?_) (fun c_22 => ?_)
        · refine z_iconst C dX3_statesOf_29 ?_
          refine z_iadd C dX3_statesOf_30 ?_
          refine z_istore_n C [(2, .int (iI (q + 0))), (3, .int (iI k)), (0, .ref o), (1, .int (iI x))] dX3_statesOf_31 hl (by decide) rfl (fun ls hl => ?_)
          refine z_iinc C [(3, .int (iI (k + 1))), (2, .int (iI (q + 0))), (0, .ref o), (1, .int (iI x))] dX3_statesOf_32 hl 1 rfl (by decide) rfl (fun ls hl => ?_)
          refine z_goto C dX3_statesOf_35 (tgt := 4) (by decide) ?_
          exact ih_4 ((q + 0)) ((k + 1)) (by omega) (by omega) (by rw [cnt_go _ hk0.1, ← hq, if_neg (fun h => c_22 h)]) _ _ _ hH hS (lv_sub hl [0, 1, 2, 3] rfl)
        · refine z_iconst C dX3_statesOf_25 ?_
          refine z_goto C dX3_statesOf_26 (tgt := 30) (by decide) ?_
          refine z_iadd C dX3_statesOf_30 ?_
          refine z_istore_n C [(2, .int (iI (q + 1))), (3, .int (iI k)), (0, .ref o), (1, .int (iI x))] dX3_statesOf_31 hl (by decide) rfl (fun ls hl => ?_)
          refine z_iinc C [(3, .int (iI (k + 1))), (2, .int (iI (q + 1))), (0, .ref o), (1, .int (iI x))] dX3_statesOf_32 hl 1 rfl (by decide) rfl (fun ls hl => ?_)
          refine z_goto C dX3_statesOf_35 (tgt := 4) (by decide) ?_
          exact ih_4 ((q + 1)) ((k + 1)) (by omega) (by omega) (by rw [cnt_go _ hk0.1, ← hq, if_pos c_22]) _ _ _ hH hS (lv_sub hl [0, 1, 2, 3] rfl)
  exact J_4 _ 0 0 (Nat.lt_succ_self _) (by omega) (rfl) _ _ _ hH hS (lv_sub hl [0, 1, 2, 3] rfl)
set_option maxHeartbeats 1000000 in
theorem mm_sent {l : Launch} {D : va_G} {dA : Nat → ClassId} {A : Nat → Prop} {o : Nat} {ad : Nat → Nat} (hOk : mOk o ad) (σ : Sg) (x : Int) (P : Pg) (hP : PgAt (σ 1) P) (hk : PgOk P) (hr : zR x) : Met l yX3_sent (ws_ yX3_sent cX3_sent 2 (some .int)) (rmL 10 0 0) (MP D dA A o ad [.ref o, .int (iI x)] σ) (MQi D dA A o ad (fun r σ' => σ' 0 0 = (if 0 ≤ x ∧ x ≤ 9 then 0 else 1) ∧ (σ' 0 0 = 0 → r = seZ P x) ∧ Fr [0, 7, 8, 9, 10, 11, 12, 13, 14, 15, 16, 17, 18, 19, 20, 21, 22, 23, 24, 25, 26, 27, 28, 29, 30] σ σ')) 0 0 A := by
  refine z_ofW (by decide) rfl ?_
  intro pp ee s0 mm below meth cc0 ls C hret hname hl hH hS
  have hl : lv_has ls 2 [(0, .ref o), (1, .int (iI x))] := hl
  have hk9 := hk
  have hP9 := hP
  obtain ⟨k1, k2, k3, k4, k5, k6, k7, k8, k9, k10, k11⟩ := hk
  obtain ⟨p1, p2, p3, p4, p5⟩ := hP
  have pn0 : 0 ≤ pN P := by show (0 : Int) ≤ ((pB P).length : Int); omega
  have hr_1 := hr.1
  have hr_2 := hr.2
  refine z_aload_n C dX3_sent_0 hl 0 rfl ?_
  refine z_iload_n C dX3_sent_1 hl 1 rfl ?_
  refine z_iconst C dX3_sent_2 ?_
  refine z_bipush C dX3_sent_3 (by decide +kernel) ?_
  refine m_SiF C hH hS (mm_in hOk σ x 0 9 (⟨by omega, by omega⟩) (⟨by omega, by omega⟩) (⟨by omega, by omega⟩)) (va_cwS 3 C.1.2.2.2.2 (lw_S q2321 q2322 q133 q2323) rfl rfl rfl (by decide +kernel) ⟨Nat.le_of_ble_eq_true rfl, Nat.le_of_ble_eq_true rfl⟩) rfl hl rfl (Nat.le_of_ble_eq_true rfl) dX3_sent_5 ⟨Nat.le_refl _, Nat.le_refl _⟩ (fun H locs hH hS => ?_)
  refine z_topi (fun z_5 hz_5 => ?_)
  have q_5 := inZ_or x 0 9
  rw [← hz_5] at q_5
  refine z_ifeq C dX3_sent_8 (tgt := 15) (by decide) ⟨by omega, by omega⟩ (fun c_8 => ?_) (fun c_8 => ?_)
  · refine z_iconst C dX3_sent_15 ?_
    refine m_puts C hH hS 0 ⟨by decide, by decide⟩ q2185 rfl ⟨rfl, rfl⟩ dX3_sent_16 (fun H locs hH hS => ?_)
    refine z_aload_n C dX3_sent_19 hl 0 rfl ?_
    refine m_getsZ C hH 0 ⟨by decide, by decide⟩ 1 rfl q2185 rfl dX3_sent_20 ?_
    refine z_ifle C dX3_sent_23 (tgt := 28) (by decide) ⟨by omega, by omega⟩ (fun c_23 => ?_) (fun c_23 => ?_)
    · exact absurd c_23 (by decide)
    · refine z_iconst C dX3_sent_26 ?_
      refine m_iret C hret hH hS dX3_sent_27 ?_
      refine ⟨by rw [show (su σ 0 0 1) 0 0 = 1 from (su_self _ _ _ _)]; first | (rw [if_pos (by omega)]; done) | (rw [if_neg (by omega)]; done) | (rw [if_neg (by omega), if_pos (by omega)]; done) | (rw [if_neg (by omega), if_neg (by omega)]; done), fun hth => ?_, (frSu Fr.rf rfl)⟩
      exact absurd ((show (su σ 0 0 1) 0 0 = 1 from (su_self _ _ _ _)).symm.trans hth) (by decide)
  · refine z_iconst C dX3_sent_11 ?_
    refine z_goto C dX3_sent_12 (tgt := 16) (by decide) ?_
    refine m_puts C hH hS 0 ⟨by decide, by decide⟩ q2185 rfl ⟨rfl, rfl⟩ dX3_sent_16 (fun H locs hH hS => ?_)
    refine z_aload_n C dX3_sent_19 hl 0 rfl ?_
    refine m_getsZ C hH 0 ⟨by decide, by decide⟩ 0 rfl q2185 rfl dX3_sent_20 ?_
    refine z_ifle C dX3_sent_23 (tgt := 28) (by decide) ⟨by omega, by omega⟩ (fun c_23_1 => ?_) (fun c_23_1 => ?_)
    · refine z_aload_n C dX3_sent_28 hl 0 rfl ?_
      refine m_Vv C hH hS (mm_sendsPage hOk (su σ 0 0 0) P (hP9) (hk9)) (cwV 0 C.1.2.2.2.2 (lw_V q2547 q2549 qs78 q133 q2550) rfl rfl rfl (by decide +kernel) ⟨Nat.le_of_ble_eq_true rfl, Nat.le_of_ble_eq_true rfl⟩) rfl hl rfl (Nat.le_of_ble_eq_true rfl) dX3_sent_29 ⟨Nat.le_refl _, Nat.le_refl _⟩ (fun s_29 H locs hp_29 hH hS => ?_)
      obtain ⟨ht29, hg29, hf29⟩ := hp_29
      refine z_iload_n C dX3_sent_32 hl 1 rfl ?_
      rcases (show x = 0 ∨ x = 1 ∨ x = 2 ∨ x = 3 ∨ x = 4 ∨ x = 5 ∨ x = 6 ∨ x = 7 ∨ x = 8 ∨ x = 9 ∨ (x < 0 ∨ 9 < x) by omega) with ts_33 | ts_33 | ts_33 | ts_33 | ts_33 | ts_33 | ts_33 | ts_33 | ts_33 | ts_33 | ts_33
      · refine z_tsIn C ts_33 dX3_sent_33 (by decide) rfl (tgt := 88) (by decide) ?_
        refine z_aload_n C dX3_sent_88 hl 0 rfl ?_
        refine m_getsZ C hH 26 ⟨by decide, by decide⟩ ((sdQ P).1 26 0) (ht29.2 26 (by omega) (by omega)) q2211 rfl dX3_sent_89 ?_
        refine m_iret C hret hH hS dX3_sent_92 ?_
        refine ⟨by rw [show s_29 0 0 = 0 from (by rw [hf29.at 0 rfl]; exact su_self _ _ _ _)]; first | (rw [if_pos (by omega)]; done) | (rw [if_neg (by omega)]; done) | (rw [if_neg (by omega), if_pos (by omega)]; done) | (rw [if_neg (by omega), if_neg (by omega)]; done), fun hth => ?_, ((frSu Fr.rf rfl).th hf29 rfl)⟩
        unfold seZ; rw [if_pos (by omega)]
      · refine z_tsIn C ts_33 dX3_sent_33 (by decide) rfl (tgt := 93) (by decide) ?_
        refine z_aload_n C dX3_sent_93 hl 0 rfl ?_
        refine m_getsZ C hH 27 ⟨by decide, by decide⟩ ((sdQ P).1 27 0) (ht29.2 27 (by omega) (by omega)) q2212 rfl dX3_sent_94 ?_
        refine m_iret C hret hH hS dX3_sent_97 ?_
        refine ⟨by rw [show s_29 0 0 = 0 from (by rw [hf29.at 0 rfl]; exact su_self _ _ _ _)]; first | (rw [if_pos (by omega)]; done) | (rw [if_neg (by omega)]; done) | (rw [if_neg (by omega), if_pos (by omega)]; done) | (rw [if_neg (by omega), if_neg (by omega)]; done), fun hth => ?_, ((frSu Fr.rf rfl).th hf29 rfl)⟩
        unfold seZ; rw [if_neg (by omega), if_pos (by omega)]
      · refine z_tsIn C ts_33 dX3_sent_33 (by decide) rfl (tgt := 98) (by decide) ?_
        refine z_aload_n C dX3_sent_98 hl 0 rfl ?_
        refine m_getsZ C hH 28 ⟨by decide, by decide⟩ ((sdQ P).1 28 0) (ht29.2 28 (by omega) (by omega)) q2213 rfl dX3_sent_99 ?_
        refine m_iret C hret hH hS dX3_sent_102 ?_
        refine ⟨by rw [show s_29 0 0 = 0 from (by rw [hf29.at 0 rfl]; exact su_self _ _ _ _)]; first | (rw [if_pos (by omega)]; done) | (rw [if_neg (by omega)]; done) | (rw [if_neg (by omega), if_pos (by omega)]; done) | (rw [if_neg (by omega), if_neg (by omega)]; done), fun hth => ?_, ((frSu Fr.rf rfl).th hf29 rfl)⟩
        unfold seZ; rw [if_neg (by omega), if_neg (by omega), if_pos (by omega)]
      · refine z_tsIn C ts_33 dX3_sent_33 (by decide) rfl (tgt := 118) (by decide) ?_
        refine z_aload_n C dX3_sent_118 hl 0 rfl ?_
        refine z_iload_n C dX3_sent_119 hl 1 rfl ?_
        refine z_iconst C dX3_sent_120 ?_
        refine z_isub C dX3_sent_121 ?_
        refine m_ViF C hH hS (mm_statesOf hOk s_29 (x - 3) P ((sdQ P).1) (by rw [hf29.at 1 rfl]; exact hP9) (hk9) (ht29) (fun l => (sdR_I hk9 (by omega) (by omega) _).2.2.2.2.2.2.2.2.2.2.2.2.2 l) (⟨by omega, by omega⟩)) (cwV 1 C.1.2.2.2.2 (lw_V q2579 q2581 qs86 q133 q2582) rfl rfl rfl (by decide +kernel) ⟨Nat.le_of_ble_eq_true rfl, Nat.le_of_ble_eq_true rfl⟩) rfl hl rfl (Nat.le_of_ble_eq_true rfl) dX3_sent_122 ⟨Nat.le_refl _, Nat.le_refl _⟩ (fun H locs hH hS => ?_)
        refine m_iret C hret hH hS dX3_sent_125 ?_
        refine ⟨by rw [show s_29 0 0 = 0 from (by rw [hf29.at 0 rfl]; exact su_self _ _ _ _)]; first | (rw [if_pos (by omega)]; done) | (rw [if_neg (by omega)]; done) | (rw [if_neg (by omega), if_pos (by omega)]; done) | (rw [if_neg (by omega), if_neg (by omega)]; done), fun hth => ?_, ((frSu Fr.rf rfl).th hf29 rfl)⟩
        unfold seZ; rw [if_neg (by omega), if_neg (by omega), if_neg (by omega), if_neg (by omega), if_neg (by omega), if_neg (by omega)]
      · refine z_tsIn C ts_33 dX3_sent_33 (by decide) rfl (tgt := 118) (by decide) ?_
        refine z_aload_n C dX3_sent_118 hl 0 rfl ?_
        refine z_iload_n C dX3_sent_119 hl 1 rfl ?_
        refine z_iconst C dX3_sent_120 ?_
        refine z_isub C dX3_sent_121 ?_
        refine m_ViF C hH hS (mm_statesOf hOk s_29 (x - 3) P ((sdQ P).1) (by rw [hf29.at 1 rfl]; exact hP9) (hk9) (ht29) (fun l => (sdR_I hk9 (by omega) (by omega) _).2.2.2.2.2.2.2.2.2.2.2.2.2 l) (⟨by omega, by omega⟩)) (cwV 1 C.1.2.2.2.2 (lw_V q2579 q2581 qs86 q133 q2582) rfl rfl rfl (by decide +kernel) ⟨Nat.le_of_ble_eq_true rfl, Nat.le_of_ble_eq_true rfl⟩) rfl hl rfl (Nat.le_of_ble_eq_true rfl) dX3_sent_122 ⟨Nat.le_refl _, Nat.le_refl _⟩ (fun H locs hH hS => ?_)
        refine m_iret C hret hH hS dX3_sent_125 ?_
        refine ⟨by rw [show s_29 0 0 = 0 from (by rw [hf29.at 0 rfl]; exact su_self _ _ _ _)]; first | (rw [if_pos (by omega)]; done) | (rw [if_neg (by omega)]; done) | (rw [if_neg (by omega), if_pos (by omega)]; done) | (rw [if_neg (by omega), if_neg (by omega)]; done), fun hth => ?_, ((frSu Fr.rf rfl).th hf29 rfl)⟩
        unfold seZ; rw [if_neg (by omega), if_neg (by omega), if_neg (by omega), if_neg (by omega), if_neg (by omega), if_neg (by omega)]
      · refine z_tsIn C ts_33 dX3_sent_33 (by decide) rfl (tgt := 118) (by decide) ?_
        refine z_aload_n C dX3_sent_118 hl 0 rfl ?_
        refine z_iload_n C dX3_sent_119 hl 1 rfl ?_
        refine z_iconst C dX3_sent_120 ?_
        refine z_isub C dX3_sent_121 ?_
        refine m_ViF C hH hS (mm_statesOf hOk s_29 (x - 3) P ((sdQ P).1) (by rw [hf29.at 1 rfl]; exact hP9) (hk9) (ht29) (fun l => (sdR_I hk9 (by omega) (by omega) _).2.2.2.2.2.2.2.2.2.2.2.2.2 l) (⟨by omega, by omega⟩)) (cwV 1 C.1.2.2.2.2 (lw_V q2579 q2581 qs86 q133 q2582) rfl rfl rfl (by decide +kernel) ⟨Nat.le_of_ble_eq_true rfl, Nat.le_of_ble_eq_true rfl⟩) rfl hl rfl (Nat.le_of_ble_eq_true rfl) dX3_sent_122 ⟨Nat.le_refl _, Nat.le_refl _⟩ (fun H locs hH hS => ?_)
        refine m_iret C hret hH hS dX3_sent_125 ?_
        refine ⟨by rw [show s_29 0 0 = 0 from (by rw [hf29.at 0 rfl]; exact su_self _ _ _ _)]; first | (rw [if_pos (by omega)]; done) | (rw [if_neg (by omega)]; done) | (rw [if_neg (by omega), if_pos (by omega)]; done) | (rw [if_neg (by omega), if_neg (by omega)]; done), fun hth => ?_, ((frSu Fr.rf rfl).th hf29 rfl)⟩
        unfold seZ; rw [if_neg (by omega), if_neg (by omega), if_neg (by omega), if_neg (by omega), if_neg (by omega), if_neg (by omega)]
      · refine z_tsIn C ts_33 dX3_sent_33 (by decide) rfl (tgt := 118) (by decide) ?_
        refine z_aload_n C dX3_sent_118 hl 0 rfl ?_
        refine z_iload_n C dX3_sent_119 hl 1 rfl ?_
        refine z_iconst C dX3_sent_120 ?_
        refine z_isub C dX3_sent_121 ?_
        refine m_ViF C hH hS (mm_statesOf hOk s_29 (x - 3) P ((sdQ P).1) (by rw [hf29.at 1 rfl]; exact hP9) (hk9) (ht29) (fun l => (sdR_I hk9 (by omega) (by omega) _).2.2.2.2.2.2.2.2.2.2.2.2.2 l) (⟨by omega, by omega⟩)) (cwV 1 C.1.2.2.2.2 (lw_V q2579 q2581 qs86 q133 q2582) rfl rfl rfl (by decide +kernel) ⟨Nat.le_of_ble_eq_true rfl, Nat.le_of_ble_eq_true rfl⟩) rfl hl rfl (Nat.le_of_ble_eq_true rfl) dX3_sent_122 ⟨Nat.le_refl _, Nat.le_refl _⟩ (fun H locs hH hS => ?_)
        refine m_iret C hret hH hS dX3_sent_125 ?_
        refine ⟨by rw [show s_29 0 0 = 0 from (by rw [hf29.at 0 rfl]; exact su_self _ _ _ _)]; first | (rw [if_pos (by omega)]; done) | (rw [if_neg (by omega)]; done) | (rw [if_neg (by omega), if_pos (by omega)]; done) | (rw [if_neg (by omega), if_neg (by omega)]; done), fun hth => ?_, ((frSu Fr.rf rfl).th hf29 rfl)⟩
        unfold seZ; rw [if_neg (by omega), if_neg (by omega), if_neg (by omega), if_neg (by omega), if_neg (by omega), if_neg (by omega)]
      · refine z_tsIn C ts_33 dX3_sent_33 (by decide) rfl (tgt := 103) (by decide) ?_
        refine z_aload_n C dX3_sent_103 hl 0 rfl ?_
        refine m_ViF C hH hS (mm_wrongDots hOk s_29 P ((sdQ P).2.1) (by rw [hf29.at 1 rfl]; exact hP9) (hk9) (hg29) ((sdR_I hk9 (by omega) (by omega) _).2.2.2.2.1)) (cwV 0 C.1.2.2.2.2 (lw_V q2575 q2577 qs85 q133 q2578) rfl rfl rfl (by decide +kernel) ⟨Nat.le_of_ble_eq_true rfl, Nat.le_of_ble_eq_true rfl⟩) rfl hl rfl (Nat.le_of_ble_eq_true rfl) dX3_sent_104 ⟨Nat.le_refl _, Nat.le_refl _⟩ (fun H locs hH hS => ?_)
        refine m_iret C hret hH hS dX3_sent_107 ?_
        refine ⟨by rw [show s_29 0 0 = 0 from (by rw [hf29.at 0 rfl]; exact su_self _ _ _ _)]; first | (rw [if_pos (by omega)]; done) | (rw [if_neg (by omega)]; done) | (rw [if_neg (by omega), if_pos (by omega)]; done) | (rw [if_neg (by omega), if_neg (by omega)]; done), fun hth => ?_, ((frSu Fr.rf rfl).th hf29 rfl)⟩
        unfold seZ; rw [if_neg (by omega), if_neg (by omega), if_neg (by omega), if_pos (by omega)]
      · refine z_tsIn C ts_33 dX3_sent_33 (by decide) rfl (tgt := 108) (by decide) ?_
        refine z_aload_n C dX3_sent_108 hl 0 rfl ?_
        refine m_getsZ C hH 29 ⟨by decide, by decide⟩ ((sdQ P).1 29 0) (ht29.2 29 (by omega) (by omega)) q2214 rfl dX3_sent_109 ?_
        refine m_iret C hret hH hS dX3_sent_112 ?_
        refine ⟨by rw [show s_29 0 0 = 0 from (by rw [hf29.at 0 rfl]; exact su_self _ _ _ _)]; first | (rw [if_pos (by omega)]; done) | (rw [if_neg (by omega)]; done) | (rw [if_neg (by omega), if_pos (by omega)]; done) | (rw [if_neg (by omega), if_neg (by omega)]; done), fun hth => ?_, ((frSu Fr.rf rfl).th hf29 rfl)⟩
        unfold seZ; rw [if_neg (by omega), if_neg (by omega), if_neg (by omega), if_neg (by omega), if_pos (by omega)]
      · refine z_tsIn C ts_33 dX3_sent_33 (by decide) rfl (tgt := 113) (by decide) ?_
        refine z_aload_n C dX3_sent_113 hl 0 rfl ?_
        refine m_getsZ C hH 30 ⟨by decide, by decide⟩ ((sdQ P).1 30 0) (ht29.2 30 (by omega) (by omega)) q2215 rfl dX3_sent_114 ?_
        refine m_iret C hret hH hS dX3_sent_117 ?_
        refine ⟨by rw [show s_29 0 0 = 0 from (by rw [hf29.at 0 rfl]; exact su_self _ _ _ _)]; first | (rw [if_pos (by omega)]; done) | (rw [if_neg (by omega)]; done) | (rw [if_neg (by omega), if_pos (by omega)]; done) | (rw [if_neg (by omega), if_neg (by omega)]; done), fun hth => ?_, ((frSu Fr.rf rfl).th hf29 rfl)⟩
        unfold seZ; rw [if_neg (by omega), if_neg (by omega), if_neg (by omega), if_neg (by omega), if_neg (by omega), if_pos (by omega)]
      · omega
    · exact absurd c_23_1 (by decide)
set_option maxHeartbeats 1000000 in
theorem mm_sentLine {l : Launch} {D : va_G} {dA : Nat → ClassId} {A : Nat → Prop} {o : Nat} {ad : Nat → Nat} (hOk : mOk o ad) (σ : Sg) (ln : Int) (x : Int) (P : Pg) (hP : PgAt (σ 1) P) (hk : PgOk P) (hr : zR ln) (hr2 : zR x) : Met l yX3_sentLine (ws_ yX3_sentLine cX3_sentLine 3 (some .int)) (rmL 10 0 0) (MP D dA A o ad [.ref o, .int (iI ln), .int (iI x)] σ) (MQi D dA A o ad (fun r σ' => σ' 0 0 = (if ¬ (0 ≤ ln ∧ ln ≤ pN P - 1) then 1 else if 0 ≤ x ∧ x ≤ 4 then 0 else 2) ∧ (σ' 0 0 = 0 → r = slZ P ln x) ∧ Fr [0, 7, 8, 9, 10, 11, 12, 13, 14, 15, 16, 17, 18, 19, 20, 21, 22, 23, 24, 25, 26, 27, 28, 29, 30] σ σ')) 0 0 A := by
  refine z_ofW (by decide) rfl ?_
  intro pp ee s0 mm below meth cc0 ls C hret hname hl hH hS
  have hl : lv_has ls 3 [(0, .ref o), (1, .int (iI ln)), (2, .int (iI x))] := hl
  have hk9 := hk
  have hP9 := hP
  obtain ⟨k1, k2, k3, k4, k5, k6, k7, k8, k9, k10, k11⟩ := hk
  obtain ⟨p1, p2, p3, p4, p5⟩ := hP
  have pn0 : 0 ≤ pN P := by show (0 : Int) ≤ ((pB P).length : Int); omega
  have hr_1 := hr.1
  have hr_2 := hr.2
  have hr2_1 := hr2.1
  have hr2_2 := hr2.2
  refine z_aload_n C dX3_sentLine_0 hl 0 rfl ?_
  refine z_aload_n C dX3_sentLine_1 hl 0 rfl ?_
  refine z_iload_n C dX3_sentLine_2 hl 1 rfl ?_
  refine m_ViF C hH hS (mm_isLine hOk σ ln P (hP9) (hk9) (⟨by omega, by omega⟩)) (cwV 1 C.1.2.2.2.2 (lw_V q2413 q2415 qs63 q133 q2416) rfl rfl rfl (by decide +kernel) ⟨Nat.le_of_ble_eq_true rfl, Nat.le_of_ble_eq_true rfl⟩) rfl hl rfl (Nat.le_of_ble_eq_true rfl) dX3_sentLine_3 ⟨Nat.le_refl _, Nat.le_refl _⟩ (fun H locs hH hS => ?_)
  refine z_topi (fun z_3 hz_3 => ?_)
  have q_3 := inZ_or ln 0 (pN P - 1)
  rw [← hz_3] at q_3
  refine z_ifne C dX3_sentLine_6 (tgt := 13) (by decide) ⟨by omega, by omega⟩ (fun c_6 => ?_) (fun c_6 => ?_)
  · refine z_iload_n C dX3_sentLine_13 hl 2 rfl ?_
    refine z_iconst C dX3_sentLine_14 ?_
    refine z_iconst C dX3_sentLine_15 ?_
    refine m_SiF C hH hS (mm_in hOk σ x 0 4 (⟨by omega, by omega⟩) (⟨by omega, by omega⟩) (⟨by omega, by omega⟩)) (va_cwS 3 C.1.2.2.2.2 (lw_S q2321 q2322 q133 q2323) rfl rfl rfl (by decide +kernel) ⟨Nat.le_of_ble_eq_true rfl, Nat.le_of_ble_eq_true rfl⟩) rfl hl rfl (Nat.le_of_ble_eq_true rfl) dX3_sentLine_16 ⟨Nat.le_refl _, Nat.le_refl _⟩ (fun H locs hH hS => ?_)
    refine z_topi (fun z_16 hz_16 => ?_)
    have q_16 := inZ_or x 0 4
    rw [← hz_16] at q_16
    refine z_ifeq C dX3_sentLine_19 (tgt := 26) (by decide) ⟨by omega, by omega⟩ (fun c_19 => ?_) (fun c_19 => ?_)
    · refine z_iconst C dX3_sentLine_26 ?_
      refine m_puts C hH hS 0 ⟨by decide, by decide⟩ q2185 rfl ⟨rfl, rfl⟩ dX3_sentLine_27 (fun H locs hH hS => ?_)
      refine z_aload_n C dX3_sentLine_30 hl 0 rfl ?_
      refine m_getsZ C hH 0 ⟨by decide, by decide⟩ 2 rfl q2185 rfl dX3_sentLine_31 ?_
      refine z_ifle C dX3_sentLine_34 (tgt := 39) (by decide) ⟨by omega, by omega⟩ (fun c_34 => ?_) (fun c_34 => ?_)
      · exact absurd c_34 (by decide)
      · refine z_iconst C dX3_sentLine_37 ?_
        refine m_iret C hret hH hS dX3_sentLine_38 ?_
        refine ⟨by rw [show (su σ 0 0 2) 0 0 = 2 from (su_self _ _ _ _)]; first | (rw [if_pos (by omega)]; done) | (rw [if_neg (by omega)]; done) | (rw [if_neg (by omega), if_pos (by omega)]; done) | (rw [if_neg (by omega), if_neg (by omega)]; done), fun hth => ?_, (frSu Fr.rf rfl)⟩
        exact absurd ((show (su σ 0 0 2) 0 0 = 2 from (su_self _ _ _ _)).symm.trans hth) (by decide)
    · refine z_iconst C dX3_sentLine_22 ?_
      refine z_goto C dX3_sentLine_23 (tgt := 27) (by decide) ?_
      refine m_puts C hH hS 0 ⟨by decide, by decide⟩ q2185 rfl ⟨rfl, rfl⟩ dX3_sentLine_27 (fun H locs hH hS => ?_)
      refine z_aload_n C dX3_sentLine_30 hl 0 rfl ?_
      refine m_getsZ C hH 0 ⟨by decide, by decide⟩ 0 rfl q2185 rfl dX3_sentLine_31 ?_
      refine z_ifle C dX3_sentLine_34 (tgt := 39) (by decide) ⟨by omega, by omega⟩ (fun c_34_1 => ?_) (fun c_34_1 => ?_)
      · refine z_aload_n C dX3_sentLine_39 hl 0 rfl ?_
        refine m_Vv C hH hS (mm_sendsPage hOk (su σ 0 0 0) P (hP9) (hk9)) (cwV 0 C.1.2.2.2.2 (lw_V q2547 q2549 qs78 q133 q2550) rfl rfl rfl (by decide +kernel) ⟨Nat.le_of_ble_eq_true rfl, Nat.le_of_ble_eq_true rfl⟩) rfl hl rfl (Nat.le_of_ble_eq_true rfl) dX3_sentLine_40 ⟨Nat.le_refl _, Nat.le_refl _⟩ (fun s_40 H locs hp_40 hH hS => ?_)
        obtain ⟨ht40, hg40, hf40⟩ := hp_40
        refine z_iload_n C dX3_sentLine_43 hl 2 rfl ?_
        refine z_ifne C dX3_sentLine_44 (tgt := 56) (by decide) ⟨by omega, by omega⟩ (fun c_44 => ?_) (fun c_44 => ?_)
        · refine z_iload_n C dX3_sentLine_56 hl 2 rfl ?_
          refine z_iconst C dX3_sentLine_57 ?_
          refine z_icmpne C dX3_sentLine_58 (tgt := 70) (by decide) ⟨⟨by omega, by omega⟩, ⟨by omega, by omega⟩⟩ (fun c_58 => ?_) (fun c_58 => ?_)
          · refine z_iload_n C dX3_sentLine_70 hl 2 rfl ?_
            refine z_iconst C dX3_sentLine_71 ?_
            refine z_icmpne C dX3_sentLine_72 (tgt := 84) (by decide) ⟨⟨by omega, by omega⟩, ⟨by omega, by omega⟩⟩ (fun c_72 => ?_) (fun c_72 => ?_)
            · refine z_iload_n C dX3_sentLine_84 hl 2 rfl ?_
              refine z_iconst C dX3_sentLine_85 ?_
              refine z_icmpne C dX3_sentLine_86 (tgt := 97) (by decide) ⟨⟨by omega, by omega⟩, ⟨by omega, by omega⟩⟩ (fun c_86 => ?_) (fun c_86 => ?_)
              · refine z_aload_n C dX3_sentLine_97 hl 0 rfl ?_
                refine m_geta C hH 24 ⟨by decide, by decide⟩ q2209 rfl dX3_sentLine_98 ?_
                refine z_iload_n C dX3_sentLine_101 hl 1 rfl ?_
                refine m_ialdZ C hOk hH 24 ⟨by decide, by decide⟩ ln ((sdQ P).1 24 ln) (ht40.1 24 (by omega) (by omega) ln (by omega) (by omega)) (show 0 ≤ ln ∧ ln < (20 : Int) by omega) dX3_sentLine_102 ?_
                refine m_iret C hret hH hS dX3_sentLine_103 ?_
                refine ⟨by rw [show s_40 0 0 = 0 from (by rw [hf40.at 0 rfl]; exact su_self _ _ _ _)]; first | (rw [if_pos (by omega)]; done) | (rw [if_neg (by omega)]; done) | (rw [if_neg (by omega), if_pos (by omega)]; done) | (rw [if_neg (by omega), if_neg (by omega)]; done), fun hth => ?_, ((frSu Fr.rf rfl).th hf40 rfl)⟩
                unfold slZ; first | (rw [if_pos (by omega)]; done) | (rw [if_neg (by omega), if_pos (by omega)]; done) | (rw [if_neg (by omega), if_neg (by omega), if_pos (by omega)]; done) | (rw [if_neg (by omega), if_neg (by omega), if_neg (by omega), if_pos (by omega)]; done) | (rw [if_neg (by omega), if_neg (by omega), if_neg (by omega), if_neg (by omega)]; done)
              · refine z_aload_n C dX3_sentLine_89 hl 0 rfl ?_
                refine z_iload_n C dX3_sentLine_90 hl 1 rfl ?_
                refine m_ViF C hH hS (mm_wrongIn hOk s_40 ln P (((sdQ P).2.1 ln)) (by rw [hf40.at 1 rfl]; exact hP9) (hk9) (by omega) (fun j a b => hg40 ln j (by omega) (by omega) a b) ((sdR_I hk9 (by omega) (by omega) _).2.2.2.2.1 ln)) (cwV 1 C.1.2.2.2.2 (lw_V q2567 q2569 qs83 q133 q2570) rfl rfl rfl (by decide +kernel) ⟨Nat.le_of_ble_eq_true rfl, Nat.le_of_ble_eq_true rfl⟩) rfl hl rfl (Nat.le_of_ble_eq_true rfl) dX3_sentLine_91 ⟨Nat.le_refl _, Nat.le_refl _⟩ (fun H locs hH hS => ?_)
                refine z_goto C dX3_sentLine_94 (tgt := 103) (by decide) ?_
                refine m_iret C hret hH hS dX3_sentLine_103 ?_
                refine ⟨by rw [show s_40 0 0 = 0 from (by rw [hf40.at 0 rfl]; exact su_self _ _ _ _)]; first | (rw [if_pos (by omega)]; done) | (rw [if_neg (by omega)]; done) | (rw [if_neg (by omega), if_pos (by omega)]; done) | (rw [if_neg (by omega), if_neg (by omega)]; done), fun hth => ?_, ((frSu Fr.rf rfl).th hf40 rfl)⟩
                unfold slZ; first | (rw [if_pos (by omega)]; done) | (rw [if_neg (by omega), if_pos (by omega)]; done) | (rw [if_neg (by omega), if_neg (by omega), if_pos (by omega)]; done) | (rw [if_neg (by omega), if_neg (by omega), if_neg (by omega), if_pos (by omega)]; done) | (rw [if_neg (by omega), if_neg (by omega), if_neg (by omega), if_neg (by omega)]; done)
            · refine z_aload_n C dX3_sentLine_75 hl 0 rfl ?_
              refine m_geta C hH 23 ⟨by decide, by decide⟩ q2208 rfl dX3_sentLine_76 ?_
              refine z_iload_n C dX3_sentLine_79 hl 1 rfl ?_
              refine m_ialdZ C hOk hH 23 ⟨by decide, by decide⟩ ln ((sdQ P).1 23 ln) (ht40.1 23 (by omega) (by omega) ln (by omega) (by omega)) (show 0 ≤ ln ∧ ln < (20 : Int) by omega) dX3_sentLine_80 ?_
              refine z_goto C dX3_sentLine_81 (tgt := 103) (by decide) ?_
              refine m_iret C hret hH hS dX3_sentLine_103 ?_
              refine ⟨by rw [show s_40 0 0 = 0 from (by rw [hf40.at 0 rfl]; exact su_self _ _ _ _)]; first | (rw [if_pos (by omega)]; done) | (rw [if_neg (by omega)]; done) | (rw [if_neg (by omega), if_pos (by omega)]; done) | (rw [if_neg (by omega), if_neg (by omega)]; done), fun hth => ?_, ((frSu Fr.rf rfl).th hf40 rfl)⟩
              unfold slZ; first | (rw [if_pos (by omega)]; done) | (rw [if_neg (by omega), if_pos (by omega)]; done) | (rw [if_neg (by omega), if_neg (by omega), if_pos (by omega)]; done) | (rw [if_neg (by omega), if_neg (by omega), if_neg (by omega), if_pos (by omega)]; done) | (rw [if_neg (by omega), if_neg (by omega), if_neg (by omega), if_neg (by omega)]; done)
          · refine z_aload_n C dX3_sentLine_61 hl 0 rfl ?_
            refine m_geta C hH 22 ⟨by decide, by decide⟩ q2207 rfl dX3_sentLine_62 ?_
            refine z_iload_n C dX3_sentLine_65 hl 1 rfl ?_
            refine m_ialdZ C hOk hH 22 ⟨by decide, by decide⟩ ln ((sdQ P).1 22 ln) (ht40.1 22 (by omega) (by omega) ln (by omega) (by omega)) (show 0 ≤ ln ∧ ln < (20 : Int) by omega) dX3_sentLine_66 ?_
            refine z_goto C dX3_sentLine_67 (tgt := 103) (by decide) ?_
            refine m_iret C hret hH hS dX3_sentLine_103 ?_
            refine ⟨by rw [show s_40 0 0 = 0 from (by rw [hf40.at 0 rfl]; exact su_self _ _ _ _)]; first | (rw [if_pos (by omega)]; done) | (rw [if_neg (by omega)]; done) | (rw [if_neg (by omega), if_pos (by omega)]; done) | (rw [if_neg (by omega), if_neg (by omega)]; done), fun hth => ?_, ((frSu Fr.rf rfl).th hf40 rfl)⟩
            unfold slZ; first | (rw [if_pos (by omega)]; done) | (rw [if_neg (by omega), if_pos (by omega)]; done) | (rw [if_neg (by omega), if_neg (by omega), if_pos (by omega)]; done) | (rw [if_neg (by omega), if_neg (by omega), if_neg (by omega), if_pos (by omega)]; done) | (rw [if_neg (by omega), if_neg (by omega), if_neg (by omega), if_neg (by omega)]; done)
        · refine z_aload_n C dX3_sentLine_47 hl 0 rfl ?_
          refine m_geta C hH 21 ⟨by decide, by decide⟩ q2206 rfl dX3_sentLine_48 ?_
          refine z_iload_n C dX3_sentLine_51 hl 1 rfl ?_
          refine m_ialdZ C hOk hH 21 ⟨by decide, by decide⟩ ln ((sdQ P).1 21 ln) (ht40.1 21 (by omega) (by omega) ln (by omega) (by omega)) (show 0 ≤ ln ∧ ln < (20 : Int) by omega) dX3_sentLine_52 ?_
          refine z_goto C dX3_sentLine_53 (tgt := 103) (by decide) ?_
          refine m_iret C hret hH hS dX3_sentLine_103 ?_
          refine ⟨by rw [show s_40 0 0 = 0 from (by rw [hf40.at 0 rfl]; exact su_self _ _ _ _)]; first | (rw [if_pos (by omega)]; done) | (rw [if_neg (by omega)]; done) | (rw [if_neg (by omega), if_pos (by omega)]; done) | (rw [if_neg (by omega), if_neg (by omega)]; done), fun hth => ?_, ((frSu Fr.rf rfl).th hf40 rfl)⟩
          unfold slZ; first | (rw [if_pos (by omega)]; done) | (rw [if_neg (by omega), if_pos (by omega)]; done) | (rw [if_neg (by omega), if_neg (by omega), if_pos (by omega)]; done) | (rw [if_neg (by omega), if_neg (by omega), if_neg (by omega), if_pos (by omega)]; done) | (rw [if_neg (by omega), if_neg (by omega), if_neg (by omega), if_neg (by omega)]; done)
      · exact absurd c_34_1 (by decide)
  · refine z_iconst C dX3_sentLine_9 ?_
    refine z_goto C dX3_sentLine_10 (tgt := 27) (by decide) ?_
    refine m_puts C hH hS 0 ⟨by decide, by decide⟩ q2185 rfl ⟨rfl, rfl⟩ dX3_sentLine_27 (fun H locs hH hS => ?_)
    refine z_aload_n C dX3_sentLine_30 hl 0 rfl ?_
    refine m_getsZ C hH 0 ⟨by decide, by decide⟩ 1 rfl q2185 rfl dX3_sentLine_31 ?_
    refine z_ifle C dX3_sentLine_34 (tgt := 39) (by decide) ⟨by omega, by omega⟩ (fun c_34_2 => ?_) (fun c_34_2 => ?_)
    · exact absurd c_34_2 (by decide)
    · refine z_iconst C dX3_sentLine_37 ?_
      refine m_iret C hret hH hS dX3_sentLine_38 ?_
      refine ⟨by rw [show (su σ 0 0 1) 0 0 = 1 from (su_self _ _ _ _)]; first | (rw [if_pos (by omega)]; done) | (rw [if_neg (by omega)]; done) | (rw [if_neg (by omega), if_pos (by omega)]; done) | (rw [if_neg (by omega), if_neg (by omega)]; done), fun hth => ?_, (frSu Fr.rf rfl)⟩
      exact absurd ((show (su σ 0 0 1) 0 0 = 1 from (su_self _ _ _ _)).symm.trans hth) (by decide)
set_option maxHeartbeats 1000000 in
theorem mm_received {l : Launch} {D : va_G} {dA : Nat → ClassId} {A : Nat → Prop} {o : Nat} {ad : Nat → Nat} (hOk : mOk o ad) (σ : Sg) (ln : Int) (x : Int) (P : Pg) (hP : PgAt (σ 1) P) (hk : PgOk P) (hr : zR ln) (hr2 : zR x) : Met l yX3_received (ws_ yX3_received cX3_received 3 (some .int)) (rmL 10 0 0) (MP D dA A o ad [.ref o, .int (iI ln), .int (iI x)] σ) (MQi D dA A o ad (fun r σ' => σ' 0 0 = (if (0 ≤ ln ∧ ln ≤ pN P - 1) ∧ 0 ≤ x ∧ x ≤ pW P - 1 then 0 else 1) ∧ (σ' 0 0 = 0 → r = (sdQ P).2.1 ln x) ∧ Fr [0, 7, 8, 9, 10, 11, 12, 13, 14, 15, 16, 17, 18, 19, 20, 21, 22, 23, 24, 25, 26, 27, 28, 29, 30] σ σ')) 0 0 A := by
  refine z_ofW (by decide) rfl ?_
  intro pp ee s0 mm below meth cc0 ls C hret hname hl hH hS
  have hl : lv_has ls 3 [(0, .ref o), (1, .int (iI ln)), (2, .int (iI x))] := hl
  have hk9 := hk
  have hP9 := hP
  obtain ⟨k1, k2, k3, k4, k5, k6, k7, k8, k9, k10, k11⟩ := hk
  obtain ⟨p1, p2, p3, p4, p5⟩ := hP
  have pn0 : 0 ≤ pN P := by show (0 : Int) ≤ ((pB P).length : Int); omega
  have hr_1 := hr.1
  have hr_2 := hr.2
  have hr2_1 := hr2.1
  have hr2_2 := hr2.2
  refine z_aload_n C dX3_received_0 hl 0 rfl ?_
  refine z_aload_n C dX3_received_1 hl 0 rfl ?_
  refine z_iload_n C dX3_received_2 hl 1 rfl ?_
  refine z_iload_n C dX3_received_3 hl 2 rfl ?_
  refine m_ViF C hH hS (mm_isDot hOk σ ln x P (hP9) (hk9) (hr) (hr2)) (cwV 2 C.1.2.2.2.2 (lw_V q2409 q2411 qs62 q133 q2412) rfl rfl rfl (by decide +kernel) ⟨Nat.le_of_ble_eq_true rfl, Nat.le_of_ble_eq_true rfl⟩) rfl hl rfl (Nat.le_of_ble_eq_true rfl) dX3_received_4 ⟨Nat.le_refl _, Nat.le_refl _⟩ (fun H locs hH hS => ?_)
  refine z_topi (fun z_4 hz_4 => ?_)
  have q_4 := isDot_or ln x (pN P) (pW P)
  rw [← hz_4] at q_4
  refine z_ifeq C dX3_received_7 (tgt := 14) (by decide) ⟨by omega, by omega⟩ (fun c_7 => ?_) (fun c_7 => ?_)
  · refine z_iconst C dX3_received_14 ?_
    refine m_puts C hH hS 0 ⟨by decide, by decide⟩ q2185 rfl ⟨rfl, rfl⟩ dX3_received_15 (fun H locs hH hS => ?_)
    refine z_aload_n C dX3_received_18 hl 0 rfl ?_
    refine m_getsZ C hH 0 ⟨by decide, by decide⟩ 1 rfl q2185 rfl dX3_received_19 ?_
    refine z_ifle C dX3_received_22 (tgt := 27) (by decide) ⟨by omega, by omega⟩ (fun c_22 => ?_) (fun c_22 => ?_)
    · exact absurd c_22 (by decide)
    · refine z_iconst C dX3_received_25 ?_
      refine m_iret C hret hH hS dX3_received_26 ?_
      refine ⟨by rw [show (su σ 0 0 1) 0 0 = 1 from (su_self _ _ _ _)]; first | (rw [if_pos (by omega)]; done) | (rw [if_neg (by omega)]; done) | (rw [if_neg (by omega), if_pos (by omega)]; done) | (rw [if_neg (by omega), if_neg (by omega)]; done), fun hth => ?_, (frSu Fr.rf rfl)⟩
      exact absurd ((show (su σ 0 0 1) 0 0 = 1 from (su_self _ _ _ _)).symm.trans hth) (by decide)
  · refine z_iconst C dX3_received_10 ?_
    refine z_goto C dX3_received_11 (tgt := 15) (by decide) ?_
    refine m_puts C hH hS 0 ⟨by decide, by decide⟩ q2185 rfl ⟨rfl, rfl⟩ dX3_received_15 (fun H locs hH hS => ?_)
    refine z_aload_n C dX3_received_18 hl 0 rfl ?_
    refine m_getsZ C hH 0 ⟨by decide, by decide⟩ 0 rfl q2185 rfl dX3_received_19 ?_
    refine z_ifle C dX3_received_22 (tgt := 27) (by decide) ⟨by omega, by omega⟩ (fun c_22_1 => ?_) (fun c_22_1 => ?_)
    · refine z_aload_n C dX3_received_27 hl 0 rfl ?_
      refine m_Vv C hH hS (mm_sendsPage hOk (su σ 0 0 0) P (hP9) (hk9)) (cwV 0 C.1.2.2.2.2 (lw_V q2547 q2549 qs78 q133 q2550) rfl rfl rfl (by decide +kernel) ⟨Nat.le_of_ble_eq_true rfl, Nat.le_of_ble_eq_true rfl⟩) rfl hl rfl (Nat.le_of_ble_eq_true rfl) dX3_received_28 ⟨Nat.le_refl _, Nat.le_refl _⟩ (fun s_28 H locs hp_28 hH hS => ?_)
      obtain ⟨ht28, hg28, hf28⟩ := hp_28
      refine z_aload_n C dX3_received_31 hl 0 rfl ?_
      refine m_geta C hH 20 ⟨by decide, by decide⟩ q2205 rfl dX3_received_32 ?_
      refine z_bipush C dX3_received_35 (by decide +kernel) ?_
      refine z_iload_n C dX3_received_37 hl 1 rfl ?_
      refine z_imul C dX3_received_38 ?_
      refine z_iload_n C dX3_received_39 hl 2 rfl ?_
      refine z_iadd C dX3_received_40 ?_
      refine m_ialdZ C hOk hH 20 ⟨by decide, by decide⟩ ((40 * ln) + x) ((sdQ P).2.1 ln x) (hg28 ln x (by omega) (by omega) (by omega) (by omega)) (show 0 ≤ ((40 * ln) + x) ∧ ((40 * ln) + x) < (800 : Int) by omega) dX3_received_41 ?_
      refine m_iret C hret hH hS dX3_received_42 ?_
      refine ⟨by rw [show s_28 0 0 = 0 from (by rw [hf28.at 0 rfl]; exact su_self _ _ _ _)]; first | (rw [if_pos (by omega)]; done) | (rw [if_neg (by omega)]; done) | (rw [if_neg (by omega), if_pos (by omega)]; done) | (rw [if_neg (by omega), if_neg (by omega)]; done), fun hth => ?_, ((frSu Fr.rf rfl).th hf28 rfl)⟩
      rfl
    · exact absurd c_22_1 (by decide)
set_option maxHeartbeats 1000000 in
theorem mm_sendsHarmed {l : Launch} {D : va_G} {dA : Nat → ClassId} {A : Nat → Prop} {o : Nat} {ad : Nat → Nat} (hOk : mOk o ad) (σ : Sg) (x : Int) (P : Pg) (hP : PgAt (σ 1) P) (hk : PgOk P) (hx : 0 ≤ x ∧ x < pN P) : Met l yX3_sendsHarmed (ws_ yX3_sendsHarmed cX3_sendsHarmed 3 none) (rmL 9 0 0) (MP D dA A o ad [.ref o, .int (iI x)] σ) (MQv D dA A o ad (fun σ' => TauAt σ' (sdH P x).1 ∧ GtAt (pW P) σ' (sdH P x).2.1 (pN P) ∧ Fr [7, 8, 9, 10, 11, 12, 13, 14, 15, 16, 17, 18, 19, 20, 21, 22, 23, 24, 25, 26, 27, 28, 29, 30] σ σ')) 0 0 A := by
  refine z_ofW (by decide) rfl ?_
  intro pp ee s0 mm below meth cc0 ls C hret hname hl hH hS
  have hl : lv_has ls 3 [(0, .ref o), (1, .int (iI x))] := hl
  have hk9 := hk
  have hP9 := hP
  obtain ⟨k1, k2, k3, k4, k5, k6, k7, k8, k9, k10, k11⟩ := hk
  obtain ⟨p1, p2, p3, p4, p5⟩ := hP
  have pn0 : 0 ≤ pN P := by show (0 : Int) ≤ ((pB P).length : Int); omega
  refine z_iconst C dX3_sendsHarmed_0 ?_
  refine z_istore_n C [(2, .int (iI 0)), (0, .ref o), (1, .int (iI x))] dX3_sendsHarmed_1 hl (by decide) rfl (fun ls hl => ?_)
  have J_2 : ∀ (fu : Nat) (k : Int) (s1 : Sg), (20 - k).toNat < fu → (0 ≤ k ∧ k ≤ 20) → (s1 = sa σ 25 (wr (fun j => if j = x then 1 else 0) (σ 25) 0 k)) → ∀ (H : Heap) (locs : List Loc) (ls : Array Slot), MH D dA A o ad s1 H → va_S A s0.heap H locs → lv_has ls 3 [(2, .int (iI k)), (0, .ref o), (1, .int (iI x))] → W pp l ee (rmL 9 0 0) s0 mm ([.ref o, .int (iI x)] : List Value).toArray below meth cc0 H locs 0 0 (MQ below (MQv D dA A o ad (fun σ' => TauAt σ' (sdH P x).1 ∧ GtAt (pW P) σ' (sdH P x).2.1 (pN P) ∧ Fr [7, 8, 9, 10, 11, 12, 13, 14, 15, 16, 17, 18, 19, 20, 21, 22, 23, 24, 25, 26, 27, 28, 29, 30] σ σ')) ([.ref o, .int (iI x)] : List Value).toArray s0 0 0 A) (F0 mm 2 ls []) := by
    intro fu
    induction fu with
    | zero => intro k s1 hn; exact absurd hn (Nat.not_lt_zero _)
    | succ fu ih_2 =>
      intro k s1 hn hk0 hs H locs ls hH hS hl
      refine z_iload_n C dX3_sendsHarmed_2 hl 0 rfl ?_
      refine z_bipush C dX3_sendsHarmed_3 (by decide +kernel) ?_
      refine z_icmpge C dX3_sendsHarmed_5 (tgt := 30) (by decide) ⟨⟨by omega, by omega⟩, ⟨by omega, by omega⟩⟩ (fun c_5 => ?_) (fun c_5 => ?_)
      · refine z_aload_n C dX3_sendsHarmed_30 hl 1 rfl ?_
        refine m_geta C hH 1 ⟨by decide, by decide⟩ q2186 rfl dX3_sendsHarmed_31 ?_
        refine z_iconst C dX3_sendsHarmed_34 ?_
        refine m_ialdZ C hOk hH 1 ⟨by decide, by decide⟩ 5 (pS P 3) (by rw [hs]; exact p3 3 (by omega) (by omega)) (show 0 ≤ 5 ∧ 5 < (828 : Int) by omega) dX3_sendsHarmed_35 ?_
        refine z_istore_n C [(2, .int (iI (pS P 3))), (0, .ref o), (1, .int (iI x))] dX3_sendsHarmed_36 hl (by decide) rfl (fun ls hl => ?_)
        refine z_aload_n C dX3_sendsHarmed_37 hl 1 rfl ?_
        refine m_geta C hH 1 ⟨by decide, by decide⟩ q2186 rfl dX3_sendsHarmed_38 ?_
        refine z_iconst C dX3_sendsHarmed_41 ?_
        refine z_iconst C dX3_sendsHarmed_42 ?_
        refine m_iast C hOk hH hS 1 ⟨by decide, by decide⟩ (show 0 ≤ 5 ∧ 5 < (828 : Int) by omega) dX3_sendsHarmed_43 (fun H locs hH hS => ?_)
        refine z_aload_n C dX3_sendsHarmed_44 hl 1 rfl ?_
        refine m_Vv C hH hS (mm_sendsAll hOk (su s1 1 5 0) ((eSet P 3 0)) ((fun i => if i = x then 1 else 0)) (by show PgAt (uZ (s1 1) (2 + 3) 0) _; rw [hs]; exact hP9.set1 ⟨by decide, by decide⟩) (hk9.set ⟨by decide, by decide⟩ ⟨by decide, by decide⟩) (fun i a b => by show s1 25 i = _; rw [hs, sa_k, wr_in _ _ a (by omega)]) (fun i _ _ => by split <;> omega)) (cwV 0 C.1.2.2.2.2 (lw_V q2555 q2557 qs80 q133 q2558) rfl rfl rfl (by decide +kernel) ⟨Nat.le_of_ble_eq_true rfl, Nat.le_of_ble_eq_true rfl⟩) rfl hl rfl (Nat.le_of_ble_eq_true rfl) dX3_sendsHarmed_45 ⟨Nat.le_refl _, Nat.le_refl _⟩ (fun s_45 H locs hp_45 hH hS => ?_)
        obtain ⟨ht45, hg45, hf45⟩ := hp_45
        have hQ : sdR (eSet P 3 0) (pS (eSet P 3 0) 0) (pS (eSet P 3 0) 3) (fun i => if i = x then 1 else 0) = sdH P x := sdR_set (Or.inr rfl)
        rw [hQ] at ht45 hg45
        refine z_aload_n C dX3_sendsHarmed_48 hl 1 rfl ?_
        refine m_geta C hH 1 ⟨by decide, by decide⟩ q2186 rfl dX3_sendsHarmed_49 ?_
        refine z_iconst C dX3_sendsHarmed_52 ?_
        refine z_iload_n C dX3_sendsHarmed_53 hl 0 rfl ?_
        refine m_iast C hOk hH hS 1 ⟨by decide, by decide⟩ (show 0 ≤ 5 ∧ 5 < (828 : Int) by omega) dX3_sendsHarmed_54 (fun H locs hH hS => ?_)
        refine m_vret C hret hH hS dX3_sendsHarmed_55 ?_
        refine ⟨ht45.fr (fun k a b => su_ne _ _ _ (by omega)), hg45.fr rfl (Int.le_refl _), frBack (s := σ) (v := 0) ((frSu (by rw [hs]; exact frSa Fr.rf rfl) rfl).th hf45 rfl) ?_ ?_⟩
        · rw [hf45.at 1 rfl, su_k, hs]; rfl
        · exact (p3 3 (by omega) (by omega)).symm
      · refine z_aload_n C dX3_sendsHarmed_8 hl 1 rfl ?_
        refine m_geta C hH 25 ⟨by decide, by decide⟩ q2210 rfl dX3_sendsHarmed_9 ?_
        refine z_iload_n C dX3_sendsHarmed_12 hl 0 rfl ?_
        refine z_iload_n C dX3_sendsHarmed_13 hl 0 rfl ?_
        refine z_iload_n C dX3_sendsHarmed_14 hl 2 rfl ?_
        refine z_icmpne C dX3_sendsHarmed_15 (tgt := 22) (by decide) ⟨⟨by omega, by omega⟩, ⟨by omega, by omega⟩⟩ (fun c_15 => ?_) (fun c_15 => ?_)
        · refine z_iconst C dX3_sendsHarmed_22 ?_
          refine m_iast C hOk hH hS 25 ⟨by decide, by decide⟩ (show 0 ≤ k ∧ k < (20 : Int) by omega) dX3_sendsHarmed_23 (fun H locs hH hS => ?_)
          refine z_iinc C [(2, .int (iI (k + 1))), (0, .ref o), (1, .int (iI x))] dX3_sendsHarmed_24 hl 0 rfl (by decide) rfl (fun ls hl => ?_)
          refine z_goto C dX3_sendsHarmed_27 (tgt := 2) (by decide) ?_
          exact ih_2 ((k + 1)) ((su s1 25 k 0)) (by omega) (by omega) (by rw [hs, ← su_wr _ _ _ _ (show (0 : Int) ≤ k by omega), if_neg (fun h => c_15 h)]) _ _ _ hH hS (lv_sub hl [0, 1, 2] rfl)
        · refine z_iconst C dX3_sendsHarmed_18 ?_
          refine z_goto C dX3_sendsHarmed_19 (tgt := 23) (by decide) ?_
          refine m_iast C hOk hH hS 25 ⟨by decide, by decide⟩ (show 0 ≤ k ∧ k < (20 : Int) by omega) dX3_sendsHarmed_23 (fun H locs hH hS => ?_)
          refine z_iinc C [(2, .int (iI (k + 1))), (0, .ref o), (1, .int (iI x))] dX3_sendsHarmed_24 hl 0 rfl (by decide) rfl (fun ls hl => ?_)
          refine z_goto C dX3_sendsHarmed_27 (tgt := 2) (by decide) ?_
          exact ih_2 ((k + 1)) ((su s1 25 k 1)) (by omega) (by omega) (by rw [hs, ← su_wr _ _ _ _ (show (0 : Int) ≤ k by omega), if_pos c_15]) _ _ _ hH hS (lv_sub hl [0, 1, 2] rfl)
  exact J_2 _ 0 σ (Nat.lt_succ_self _) (by omega) (by rw [wr_0, sa_id]) _ _ _ hH hS (lv_sub hl [0, 1, 2] rfl)
set_option maxHeartbeats 1000000 in
theorem mm_harmOf {l : Launch} {D : va_G} {dA : Nat → ClassId} {A : Nat → Prop} {o : Nat} {ad : Nat → Nat} (hOk : mOk o ad) (σ : Sg) (y : Int) (P : Pg) (g : Gt) (hP : PgAt (σ 1) P) (hk : PgOk P) (hg : GtAt (pW P) σ g (pN P)) (hb : ∀ l k, g l k = 0 ∨ g l k = 1) (hy : 0 ≤ y ∧ y ≤ 2) : Met l yX3_harmOf (ws_ yX3_harmOf cX3_harmOf 6 (some .int)) (rmL 4 0 0) (MP D dA A o ad [.ref o, .int (iI y)] σ) (MQi D dA A o ad (fun r σ' => σ' = σ ∧ r = hoZ P g y)) 0 0 A := by
  refine z_ofW (by decide) rfl ?_
  intro pp ee s0 mm below meth cc0 ls C hret hname hl hH hS
  have hl : lv_has ls 6 [(0, .ref o), (1, .int (iI y))] := hl
  have hk9 := hk
  have hP9 := hP
  obtain ⟨k1, k2, k3, k4, k5, k6, k7, k8, k9, k10, k11⟩ := hk
  obtain ⟨p1, p2, p3, p4, p5⟩ := hP
  have pn0 : 0 ≤ pN P := by show (0 : Int) ≤ ((pB P).length : Int); omega
  refine z_iconst C dX3_harmOf_0 ?_
  refine z_istore_n C [(2, .int (iI 0)), (0, .ref o), (1, .int (iI y))] dX3_harmOf_1 hl (by decide) rfl (fun ls hl => ?_)
  refine z_iconst C dX3_harmOf_2 ?_
  refine z_istore_n C [(3, .int (iI ((-1)))), (2, .int (iI 0)), (0, .ref o), (1, .int (iI y))] dX3_harmOf_3 hl (by decide) rfl (fun ls hl => ?_)
  refine z_iconst C dX3_harmOf_4 ?_
  refine z_istore C [(4, .int (iI 0)), (3, .int (iI ((-1)))), (2, .int (iI 0)), (0, .ref o), (1, .int (iI y))] dX3_harmOf_5 hl (by decide) rfl (fun ls hl => ?_)
  have J_7 : ∀ (fu : Nat) (q : Int) (w : Int) (k : Int), (pN P - k).toNat < fu → (0 ≤ k ∧ k ≤ pN P) → (q = cnt (fun l => if 0 < wrZ P (g l) l then 1 else 0) k) → (w = lastW (fun l => wrZ P (g l) l) k.toNat) → ∀ (H : Heap) (locs : List Loc) (ls : Array Slot), MH D dA A o ad σ H → va_S A s0.heap H locs → lv_has ls 6 [(4, .int (iI k)), (3, .int (iI w)), (2, .int (iI q)), (0, .ref o), (1, .int (iI y))] → W pp l ee (rmL 4 0 0) s0 mm ([.ref o, .int (iI y)] : List Value).toArray below meth cc0 H locs 0 0 (MQ below (MQi D dA A o ad (fun r σ' => σ' = σ ∧ r = hoZ P g y)) ([.ref o, .int (iI y)] : List Value).toArray s0 0 0 A) (F0 mm 7 ls []) := by
    intro fu
    induction fu with
    | zero => intro q w k hn; exact absurd hn (Nat.not_lt_zero _)
    | succ fu ih_7 =>
      intro q w k hn hk0 hq hw H locs ls hH hS hl
      refine z_iload C dX3_harmOf_7 hl 0 rfl ?_
      refine z_aload_n C dX3_harmOf_9 hl 3 rfl ?_
      refine m_geta C hH 1 ⟨by decide, by decide⟩ q2186 rfl dX3_harmOf_10 ?_
      refine z_iconst C dX3_harmOf_13 ?_
      refine m_ialdZ C hOk hH 1 ⟨by decide, by decide⟩ 1 (pN P) (p2) (show 0 ≤ 1 ∧ 1 < (828 : Int) by omega) dX3_harmOf_14 ?_
      refine z_icmpge C dX3_harmOf_15 (tgt := 65) (by decide) ⟨⟨by omega, by omega⟩, ⟨by omega, by omega⟩⟩ (fun c_15 => ?_) (fun c_15 => ?_)
      · refine z_iload_n C dX3_harmOf_65 hl 4 rfl ?_
        refine z_ifne C dX3_harmOf_66 (tgt := 73) (by decide) ⟨by omega, by omega⟩ (fun c_66 => ?_) (fun c_66 => ?_)
        · refine z_iload_n C dX3_harmOf_73 hl 4 rfl ?_
          refine z_iconst C dX3_harmOf_74 ?_
          refine z_icmpne C dX3_harmOf_75 (tgt := 85) (by decide) ⟨⟨by omega, by omega⟩, ⟨by omega, by omega⟩⟩ (fun c_75 => ?_) (fun c_75 => ?_)
          · refine z_iload_n C dX3_harmOf_85 hl 1 rfl ?_
            refine m_iret C hret hH hS dX3_harmOf_86 ?_
            refine ⟨rfl, ?_⟩
            have hkN : k = pN P := by omega
            unfold hoZ; first | (rw [if_pos (by omega), hq, hkN]; done) | (rw [if_neg (by omega), if_pos (by omega)]; done) | (rw [if_neg (by omega), if_neg (by omega), hw, hkN]; done)
          · refine z_aload_n C dX3_harmOf_78 hl 3 rfl ?_
            refine m_ViF C hH hS (mm_wrongDots hOk σ P g (hP9) (hk9) (hg) (hb)) (cwV 0 C.1.2.2.2.2 (lw_V q2575 q2577 qs85 q133 q2578) rfl rfl rfl (by decide +kernel) ⟨Nat.le_of_ble_eq_true rfl, Nat.le_of_ble_eq_true rfl⟩) rfl hl rfl (Nat.le_of_ble_eq_true rfl) dX3_harmOf_79 ⟨Nat.le_refl _, Nat.le_refl _⟩ (fun H locs hH hS => ?_)
            refine z_goto C dX3_harmOf_82 (tgt := 86) (by decide) ?_
            refine m_iret C hret hH hS dX3_harmOf_86 ?_
            refine ⟨rfl, ?_⟩
            have hkN : k = pN P := by omega
            unfold hoZ; first | (rw [if_pos (by omega), hq, hkN]; done) | (rw [if_neg (by omega), if_pos (by omega)]; done) | (rw [if_neg (by omega), if_neg (by omega), hw, hkN]; done)
        · refine z_iload_n C dX3_harmOf_69 hl 2 rfl ?_
          refine z_goto C dX3_harmOf_70 (tgt := 86) (by decide) ?_
          refine m_iret C hret hH hS dX3_harmOf_86 ?_
          refine ⟨rfl, ?_⟩
          have hkN : k = pN P := by omega
          unfold hoZ; first | (rw [if_pos (by omega), hq, hkN]; done) | (rw [if_neg (by omega), if_pos (by omega)]; done) | (rw [if_neg (by omega), if_neg (by omega), hw, hkN]; done)
      · have v1 := wrZ_in hk9 (g k) k
        refine z_aload_n C dX3_harmOf_18 hl 3 rfl ?_
        refine z_iload C dX3_harmOf_19 hl 0 rfl ?_
        refine m_ViF C hH hS (mm_wrongIn hOk σ k P ((g k)) (hP9) (hk9) (by omega) (fun j a b => hg k j hk0.1 (by omega) a b) (hb k)) (cwV 1 C.1.2.2.2.2 (lw_V q2567 q2569 qs83 q133 q2570) rfl rfl rfl (by decide +kernel) ⟨Nat.le_of_ble_eq_true rfl, Nat.le_of_ble_eq_true rfl⟩) rfl hl rfl (Nat.le_of_ble_eq_true rfl) dX3_harmOf_21 ⟨Nat.le_refl _, Nat.le_refl _⟩ (fun H locs hH hS => ?_)
        refine z_ifle C dX3_harmOf_24 (tgt := 31) (by decide) ⟨by omega, by omega⟩ (fun c_24 => ?_) (fun c_24 => ?_)
        · refine z_iconst C dX3_harmOf_31 ?_
          refine z_istore C [(5, .int (iI 0)), (4, .int (iI k)), (3, .int (iI w)), (2, .int (iI q)), (0, .ref o), (1, .int (iI y))] dX3_harmOf_32 hl (by decide) rfl (fun ls hl => ?_)
          refine z_iload_n C dX3_harmOf_34 hl 3 rfl ?_
          refine z_iload C dX3_harmOf_35 hl 0 rfl ?_
          refine z_ifeq C dX3_harmOf_37 (tgt := 44) (by decide) ⟨by omega, by omega⟩ (fun c_37 => ?_) (fun c_37 => ?_)
          · refine z_iconst C dX3_harmOf_44 ?_
            refine z_iadd C dX3_harmOf_45 ?_
            refine z_istore_n C [(2, .int (iI (q + 0))), (5, .int (iI 0)), (4, .int (iI k)), (3, .int (iI w)), (0, .ref o), (1, .int (iI y))] dX3_harmOf_46 hl (by decide) rfl (fun ls hl => ?_)
            refine z_iload C dX3_harmOf_47 hl 1 rfl ?_
            refine z_ifeq C dX3_harmOf_49 (tgt := 57) (by decide) ⟨by omega, by omega⟩ (fun c_49 => ?_) (fun c_49 => ?_)
            · refine z_iload_n C dX3_harmOf_57 hl 3 rfl ?_
              refine z_istore_n C [(3, .int (iI w)), (2, .int (iI (q + 0))), (5, .int (iI 0)), (4, .int (iI k)), (0, .ref o), (1, .int (iI y))] dX3_harmOf_58 hl (by decide) rfl (fun ls hl => ?_)
              refine z_iinc C [(4, .int (iI (k + 1))), (3, .int (iI w)), (2, .int (iI (q + 0))), (5, .int (iI 0)), (0, .ref o), (1, .int (iI y))] dX3_harmOf_59 hl 3 rfl (by decide) rfl (fun ls hl => ?_)
              refine z_goto C dX3_harmOf_62 (tgt := 7) (by decide) ?_
              exact ih_7 ((q + 0)) w ((k + 1)) (by omega) (by omega) (by rw [cnt_go _ hk0.1, ← hq, if_neg (show ¬ 0 < wrZ P (g k) k by omega)]) (by rw [lastW_go _ hk0.1, ← hw, if_neg (show ¬ 0 < wrZ P (g k) k by omega)]) _ _ _ hH hS (lv_sub hl [0, 1, 2, 4, 5] rfl)
            · exact absurd c_49 (by decide)
          · exact absurd c_37 (by decide)
        · refine z_iconst C dX3_harmOf_27 ?_
          refine z_goto C dX3_harmOf_28 (tgt := 32) (by decide) ?_
          refine z_istore C [(5, .int (iI 1)), (4, .int (iI k)), (3, .int (iI w)), (2, .int (iI q)), (0, .ref o), (1, .int (iI y))] dX3_harmOf_32 hl (by decide) rfl (fun ls hl => ?_)
          refine z_iload_n C dX3_harmOf_34 hl 3 rfl ?_
          refine z_iload C dX3_harmOf_35 hl 0 rfl ?_
          refine z_ifeq C dX3_harmOf_37 (tgt := 44) (by decide) ⟨by omega, by omega⟩ (fun c_37_1 => ?_) (fun c_37_1 => ?_)
          · exact absurd c_37_1 (by decide)
          · refine z_iconst C dX3_harmOf_40 ?_
            refine z_goto C dX3_harmOf_41 (tgt := 45) (by decide) ?_
            refine z_iadd C dX3_harmOf_45 ?_
            refine z_istore_n C [(2, .int (iI (q + 1))), (5, .int (iI 1)), (4, .int (iI k)), (3, .int (iI w)), (0, .ref o), (1, .int (iI y))] dX3_harmOf_46 hl (by decide) rfl (fun ls hl => ?_)
            refine z_iload C dX3_harmOf_47 hl 1 rfl ?_
            refine z_ifeq C dX3_harmOf_49 (tgt := 57) (by decide) ⟨by omega, by omega⟩ (fun c_49_1 => ?_) (fun c_49_1 => ?_)
            · exact absurd c_49_1 (by decide)
            · refine z_iload C dX3_harmOf_52 hl 2 rfl ?_
              refine z_goto C dX3_harmOf_54 (tgt := 58) (by decide) ?_
              refine z_istore_n C [(3, .int (iI k)), (2, .int (iI (q + 1))), (5, .int (iI 1)), (4, .int (iI k)), (0, .ref o), (1, .int (iI y))] dX3_harmOf_58 hl (by decide) rfl (fun ls hl => ?_)
              refine z_iinc C [(4, .int (iI (k + 1))), (3, .int (iI k)), (2, .int (iI (q + 1))), (5, .int (iI 1)), (0, .ref o), (1, .int (iI y))] dX3_harmOf_59 hl 3 rfl (by decide) rfl (fun ls hl => ?_)
              refine z_goto C dX3_harmOf_62 (tgt := 7) (by decide) ?_
              exact ih_7 ((q + 1)) k ((k + 1)) (by omega) (by omega) (by rw [cnt_go _ hk0.1, ← hq, if_pos (show 0 < wrZ P (g k) k by omega)]) (by rw [lastW_go _ hk0.1, ← hw, if_pos (show 0 < wrZ P (g k) k by omega)]) _ _ _ hH hS (lv_sub hl [0, 1, 2, 4, 5] rfl)
  exact J_7 _ 0 (((-1))) 0 (Nat.lt_succ_self _) (by omega) (rfl) (rfl) _ _ _ hH hS (lv_sub hl [0, 1, 2, 3, 4] rfl)
set_option maxHeartbeats 1000000 in
theorem mm_harm {l : Launch} {D : va_G} {dA : Nat → ClassId} {A : Nat → Prop} {o : Nat} {ad : Nat → Nat} (hOk : mOk o ad) (σ : Sg) (ln : Int) (x : Int) (P : Pg) (hP : PgAt (σ 1) P) (hk : PgOk P) (hr : zR ln) (hr2 : zR x) : Met l yX3_harm (ws_ yX3_harm cX3_harm 3 (some .int)) (rmL 10 0 0) (MP D dA A o ad [.ref o, .int (iI ln), .int (iI x)] σ) (MQi D dA A o ad (fun r σ' => σ' 0 0 = (if ¬ (0 ≤ ln ∧ ln ≤ pN P - 1) then 1 else if 0 ≤ x ∧ x ≤ 2 then 0 else 2) ∧ (σ' 0 0 = 0 → r = hmZ P ln x) ∧ Fr [0, 7, 8, 9, 10, 11, 12, 13, 14, 15, 16, 17, 18, 19, 20, 21, 22, 23, 24, 25, 26, 27, 28, 29, 30] σ σ')) 0 0 A := by
  refine z_ofW (by decide) rfl ?_
  intro pp ee s0 mm below meth cc0 ls C hret hname hl hH hS
  have hl : lv_has ls 3 [(0, .ref o), (1, .int (iI ln)), (2, .int (iI x))] := hl
  have hk9 := hk
  have hP9 := hP
  obtain ⟨k1, k2, k3, k4, k5, k6, k7, k8, k9, k10, k11⟩ := hk
  obtain ⟨p1, p2, p3, p4, p5⟩ := hP
  have pn0 : 0 ≤ pN P := by show (0 : Int) ≤ ((pB P).length : Int); omega
  have hr_1 := hr.1
  have hr_2 := hr.2
  have hr2_1 := hr2.1
  have hr2_2 := hr2.2
  refine z_aload_n C dX3_harm_0 hl 0 rfl ?_
  refine z_aload_n C dX3_harm_1 hl 0 rfl ?_
  refine z_iload_n C dX3_harm_2 hl 1 rfl ?_
  refine m_ViF C hH hS (mm_isLine hOk σ ln P (hP9) (hk9) (⟨by omega, by omega⟩)) (cwV 1 C.1.2.2.2.2 (lw_V q2413 q2415 qs63 q133 q2416) rfl rfl rfl (by decide +kernel) ⟨Nat.le_of_ble_eq_true rfl, Nat.le_of_ble_eq_true rfl⟩) rfl hl rfl (Nat.le_of_ble_eq_true rfl) dX3_harm_3 ⟨Nat.le_refl _, Nat.le_refl _⟩ (fun H locs hH hS => ?_)
  refine z_topi (fun z_3 hz_3 => ?_)
  have q_3 := inZ_or ln 0 (pN P - 1)
  rw [← hz_3] at q_3
  refine z_ifne C dX3_harm_6 (tgt := 13) (by decide) ⟨by omega, by omega⟩ (fun c_6 => ?_) (fun c_6 => ?_)
  · refine z_iload_n C dX3_harm_13 hl 2 rfl ?_
    refine z_iconst C dX3_harm_14 ?_
    refine z_iconst C dX3_harm_15 ?_
    refine m_SiF C hH hS (mm_in hOk σ x 0 2 (⟨by omega, by omega⟩) (⟨by omega, by omega⟩) (⟨by omega, by omega⟩)) (va_cwS 3 C.1.2.2.2.2 (lw_S q2321 q2322 q133 q2323) rfl rfl rfl (by decide +kernel) ⟨Nat.le_of_ble_eq_true rfl, Nat.le_of_ble_eq_true rfl⟩) rfl hl rfl (Nat.le_of_ble_eq_true rfl) dX3_harm_16 ⟨Nat.le_refl _, Nat.le_refl _⟩ (fun H locs hH hS => ?_)
    refine z_topi (fun z_16 hz_16 => ?_)
    have q_16 := inZ_or x 0 2
    rw [← hz_16] at q_16
    refine z_ifeq C dX3_harm_19 (tgt := 26) (by decide) ⟨by omega, by omega⟩ (fun c_19 => ?_) (fun c_19 => ?_)
    · refine z_iconst C dX3_harm_26 ?_
      refine m_puts C hH hS 0 ⟨by decide, by decide⟩ q2185 rfl ⟨rfl, rfl⟩ dX3_harm_27 (fun H locs hH hS => ?_)
      refine z_aload_n C dX3_harm_30 hl 0 rfl ?_
      refine m_getsZ C hH 0 ⟨by decide, by decide⟩ 2 rfl q2185 rfl dX3_harm_31 ?_
      refine z_ifle C dX3_harm_34 (tgt := 39) (by decide) ⟨by omega, by omega⟩ (fun c_34 => ?_) (fun c_34 => ?_)
      · exact absurd c_34 (by decide)
      · refine z_iconst C dX3_harm_37 ?_
        refine m_iret C hret hH hS dX3_harm_38 ?_
        refine ⟨by rw [show (su σ 0 0 2) 0 0 = 2 from (su_self _ _ _ _)]; first | (rw [if_pos (by omega)]; done) | (rw [if_neg (by omega)]; done) | (rw [if_neg (by omega), if_pos (by omega)]; done) | (rw [if_neg (by omega), if_neg (by omega)]; done), fun hth => ?_, (frSu Fr.rf rfl)⟩
        exact absurd ((show (su σ 0 0 2) 0 0 = 2 from (su_self _ _ _ _)).symm.trans hth) (by decide)
    · refine z_iconst C dX3_harm_22 ?_
      refine z_goto C dX3_harm_23 (tgt := 27) (by decide) ?_
      refine m_puts C hH hS 0 ⟨by decide, by decide⟩ q2185 rfl ⟨rfl, rfl⟩ dX3_harm_27 (fun H locs hH hS => ?_)
      refine z_aload_n C dX3_harm_30 hl 0 rfl ?_
      refine m_getsZ C hH 0 ⟨by decide, by decide⟩ 0 rfl q2185 rfl dX3_harm_31 ?_
      refine z_ifle C dX3_harm_34 (tgt := 39) (by decide) ⟨by omega, by omega⟩ (fun c_34_1 => ?_) (fun c_34_1 => ?_)
      · refine z_aload_n C dX3_harm_39 hl 0 rfl ?_
        refine z_iload_n C dX3_harm_40 hl 1 rfl ?_
        refine m_Vv C hH hS (mm_sendsHarmed hOk (su σ 0 0 0) ln P (hP9) (hk9) (by omega)) (cwV 1 C.1.2.2.2.2 (lw_V q2595 q2597 qs87 q133 q2598) rfl rfl rfl (by decide +kernel) ⟨Nat.le_of_ble_eq_true rfl, Nat.le_of_ble_eq_true rfl⟩) rfl hl rfl (Nat.le_of_ble_eq_true rfl) dX3_harm_41 ⟨Nat.le_refl _, Nat.le_refl _⟩ (fun s_41 H locs hp_41 hH hS => ?_)
        obtain ⟨ht41, hg41, hf41⟩ := hp_41
        refine z_aload_n C dX3_harm_44 hl 0 rfl ?_
        refine z_iload_n C dX3_harm_45 hl 2 rfl ?_
        refine m_ViF C hH hS (mm_harmOf hOk s_41 x P ((sdH P ln).2.1) (by rw [hf41.at 1 rfl]; exact hP9) (hk9) (hg41) ((sdR_I hk9 (by omega) (by omega) _).2.2.2.2.1) (by omega)) (cwV 1 C.1.2.2.2.2 (lw_V q2599 q2601 qs88 q133 q2602) rfl rfl rfl (by decide +kernel) ⟨Nat.le_of_ble_eq_true rfl, Nat.le_of_ble_eq_true rfl⟩) rfl hl rfl (Nat.le_of_ble_eq_true rfl) dX3_harm_46 ⟨Nat.le_refl _, Nat.le_refl _⟩ (fun H locs hH hS => ?_)
        refine m_iret C hret hH hS dX3_harm_49 ?_
        refine ⟨by rw [show s_41 0 0 = 0 from (by rw [hf41.at 0 rfl]; exact su_self _ _ _ _)]; first | (rw [if_pos (by omega)]; done) | (rw [if_neg (by omega)]; done) | (rw [if_neg (by omega), if_pos (by omega)]; done) | (rw [if_neg (by omega), if_neg (by omega)]; done), fun hth => ?_, ((frSu Fr.rf rfl).th hf41 rfl)⟩
        rfl
      · exact absurd c_34_1 (by decide)
  · refine z_iconst C dX3_harm_9 ?_
    refine z_goto C dX3_harm_10 (tgt := 27) (by decide) ?_
    refine m_puts C hH hS 0 ⟨by decide, by decide⟩ q2185 rfl ⟨rfl, rfl⟩ dX3_harm_27 (fun H locs hH hS => ?_)
    refine z_aload_n C dX3_harm_30 hl 0 rfl ?_
    refine m_getsZ C hH 0 ⟨by decide, by decide⟩ 1 rfl q2185 rfl dX3_harm_31 ?_
    refine z_ifle C dX3_harm_34 (tgt := 39) (by decide) ⟨by omega, by omega⟩ (fun c_34_2 => ?_) (fun c_34_2 => ?_)
    · exact absurd c_34_2 (by decide)
    · refine z_iconst C dX3_harm_37 ?_
      refine m_iret C hret hH hS dX3_harm_38 ?_
      refine ⟨by rw [show (su σ 0 0 1) 0 0 = 1 from (su_self _ _ _ _)]; first | (rw [if_pos (by omega)]; done) | (rw [if_neg (by omega)]; done) | (rw [if_neg (by omega), if_pos (by omega)]; done) | (rw [if_neg (by omega), if_neg (by omega)]; done), fun hth => ?_, (frSu Fr.rf rfl)⟩
      exact absurd ((show (su σ 0 0 1) 0 0 = 1 from (su_self _ _ _ _)).symm.trans hth) (by decide)
set_option maxHeartbeats 1000000 in
theorem mm_worst {l : Launch} {D : va_G} {dA : Nat → ClassId} {A : Nat → Prop} {o : Nat} {ad : Nat → Nat} (hOk : mOk o ad) (σ : Sg) (P : Pg) (hP : PgAt (σ 1) P) (hk : PgOk P) : Met l yX3_worst (ws_ yX3_worst cX3_worst 5 (some .int)) (rmL 10 0 0) (MP D dA A o ad [.ref o] σ) (MQi D dA A o ad (fun r σ' => σ' 0 0 = 0 ∧ r = wsZ P ∧ Fr [0, 7, 8, 9, 10, 11, 12, 13, 14, 15, 16, 17, 18, 19, 20, 21, 22, 23, 24, 25, 26, 27, 28, 29, 30] σ σ')) 0 0 A := by
  refine z_ofW (by decide) rfl ?_
  intro pp ee s0 mm below meth cc0 ls C hret hname hl hH hS
  have hl : lv_has ls 5 [(0, .ref o)] := hl
  have hk9 := hk
  have hP9 := hP
  obtain ⟨k1, k2, k3, k4, k5, k6, k7, k8, k9, k10, k11⟩ := hk
  obtain ⟨p1, p2, p3, p4, p5⟩ := hP
  have pn0 : 0 ≤ pN P := by show (0 : Int) ≤ ((pB P).length : Int); omega
  refine z_aload_n C dX3_worst_0 hl 0 rfl ?_
  refine z_iconst C dX3_worst_1 ?_
  refine m_puts C hH hS 0 ⟨by decide, by decide⟩ q2185 rfl ⟨rfl, rfl⟩ dX3_worst_2 (fun H locs hH hS => ?_)
  refine z_iconst C dX3_worst_5 ?_
  refine z_istore_n C [(1, .int (iI ((-1)))), (0, .ref o)] dX3_worst_6 hl (by decide) rfl (fun ls hl => ?_)
  refine z_iconst C dX3_worst_7 ?_
  refine z_istore_n C [(2, .int (iI 0)), (1, .int (iI ((-1)))), (0, .ref o)] dX3_worst_8 hl (by decide) rfl (fun ls hl => ?_)
  refine z_iconst C dX3_worst_9 ?_
  refine z_istore_n C [(3, .int (iI 0)), (2, .int (iI 0)), (1, .int (iI ((-1)))), (0, .ref o)] dX3_worst_10 hl (by decide) rfl (fun ls hl => ?_)
  have J_11 : ∀ (fu : Nat) (b : Int) (m9 : Int) (k : Int) (s1 : Sg), (pN P - k).toNat < fu → (0 ≤ k ∧ k ≤ pN P) → (wsK (fun l => wdZ P (sdH P l).2.1) k.toNat = (b, m9)) → (-1 ≤ b ∧ b ≤ k ∧ 0 ≤ m9 ∧ m9 ≤ 800) → (Fr [7, 8, 9, 10, 11, 12, 13, 14, 15, 16, 17, 18, 19, 20, 21, 22, 23, 24, 25, 26, 27, 28, 29, 30] (su σ 0 0 0) s1) → ∀ (H : Heap) (locs : List Loc) (ls : Array Slot), MH D dA A o ad s1 H → va_S A s0.heap H locs → lv_has ls 5 [(3, .int (iI k)), (2, .int (iI m9)), (1, .int (iI b)), (0, .ref o)] → W pp l ee (rmL 10 0 0) s0 mm ([.ref o] : List Value).toArray below meth cc0 H locs 0 0 (MQ below (MQi D dA A o ad (fun r σ' => σ' 0 0 = 0 ∧ r = wsZ P ∧ Fr [0, 7, 8, 9, 10, 11, 12, 13, 14, 15, 16, 17, 18, 19, 20, 21, 22, 23, 24, 25, 26, 27, 28, 29, 30] σ σ')) ([.ref o] : List Value).toArray s0 0 0 A) (F0 mm 11 ls []) := by
    intro fu
    induction fu with
    | zero => intro b m9 k s1 hn; exact absurd hn (Nat.not_lt_zero _)
    | succ fu ih_11 =>
      intro b m9 k s1 hn hk0 hw hbr hf H locs ls hH hS hl
      refine z_iload_n C dX3_worst_11 hl 0 rfl ?_
      refine z_aload_n C dX3_worst_12 hl 3 rfl ?_
      refine m_geta C hH 1 ⟨by decide, by decide⟩ q2186 rfl dX3_worst_13 ?_
      refine z_iconst C dX3_worst_16 ?_
      refine m_ialdZ C hOk hH 1 ⟨by decide, by decide⟩ 1 (pN P) (by rw [hf.at 1 rfl]; exact p2) (show 0 ≤ 1 ∧ 1 < (828 : Int) by omega) dX3_worst_17 ?_
      refine z_icmpge C dX3_worst_18 (tgt := 54) (by decide) ⟨⟨by omega, by omega⟩, ⟨by omega, by omega⟩⟩ (fun c_18 => ?_) (fun c_18 => ?_)
      · refine z_iload_n C dX3_worst_54 hl 2 rfl ?_
        refine m_iret C hret hH hS dX3_worst_55 ?_
        refine ⟨by rw [hf.at 0 rfl]; exact su_self _ _ _ _, ?_, (frSu Fr.rf rfl).th hf rfl⟩
        unfold wsZ; rw [show (pN P).toNat = k.toNat by rw [show k = pN P by omega], hw]
      · refine z_aload_n C dX3_worst_21 hl 3 rfl ?_
        refine z_iload_n C dX3_worst_22 hl 0 rfl ?_
        refine m_Vv C hH hS (mm_sendsHarmed hOk s1 k P (by rw [hf.at 1 rfl]; exact hP9) (hk9) (by omega)) (cwV 1 C.1.2.2.2.2 (lw_V q2595 q2597 qs87 q133 q2598) rfl rfl rfl (by decide +kernel) ⟨Nat.le_of_ble_eq_true rfl, Nat.le_of_ble_eq_true rfl⟩) rfl hl rfl (Nat.le_of_ble_eq_true rfl) dX3_worst_23 ⟨Nat.le_refl _, Nat.le_refl _⟩ (fun s_23 H locs hp_23 hH hS => ?_)
        obtain ⟨ht23, hg23, hf23⟩ := hp_23
        refine z_aload_n C dX3_worst_26 hl 3 rfl ?_
        refine m_ViF C hH hS (mm_wrongDots hOk s_23 P ((sdH P k).2.1) (by rw [hf23.at 1 rfl, hf.at 1 rfl]; exact hP9) (hk9) (hg23) ((sdR_I hk9 (by omega) (by omega) _).2.2.2.2.1)) (cwV 0 C.1.2.2.2.2 (lw_V q2575 q2577 qs85 q133 q2578) rfl rfl rfl (by decide +kernel) ⟨Nat.le_of_ble_eq_true rfl, Nat.le_of_ble_eq_true rfl⟩) rfl hl rfl (Nat.le_of_ble_eq_true rfl) dX3_worst_27 ⟨Nat.le_refl _, Nat.le_refl _⟩ (fun H locs hH hS => ?_)
        refine z_topi (fun wd hwd => ?_)
        have v1 := wdZ_in hk9 (sdH P k).2.1
        rw [← hwd] at v1
        refine z_istore C [(4, .int (iI wd)), (3, .int (iI k)), (2, .int (iI m9)), (1, .int (iI b)), (0, .ref o)] dX3_worst_30 hl (by decide) rfl (fun ls hl => ?_)
        refine z_iload_n C dX3_worst_32 hl 3 rfl ?_
        refine z_iconst C dX3_worst_33 ?_
        refine z_icmpeq C dX3_worst_34 (tgt := 43) (by decide) ⟨⟨by omega, by omega⟩, ⟨by omega, by omega⟩⟩ (fun c_34 => ?_) (fun c_34 => ?_)
        · refine z_iload_n C dX3_worst_43 hl 1 rfl ?_
          refine z_istore_n C [(1, .int (iI k)), (4, .int (iI wd)), (3, .int (iI k)), (2, .int (iI m9)), (0, .ref o)] dX3_worst_44 hl (by decide) rfl (fun ls hl => ?_)
          refine z_iload C dX3_worst_45 hl 1 rfl ?_
          refine z_istore_n C [(2, .int (iI wd)), (1, .int (iI k)), (4, .int (iI wd)), (3, .int (iI k)), (0, .ref o)] dX3_worst_47 hl (by decide) rfl (fun ls hl => ?_)
          refine z_iinc C [(3, .int (iI (k + 1))), (2, .int (iI wd)), (1, .int (iI k)), (4, .int (iI wd)), (0, .ref o)] dX3_worst_48 hl 3 rfl (by decide) rfl (fun ls hl => ?_)
          refine z_goto C dX3_worst_51 (tgt := 11) (by decide) ?_
          exact ih_11 k wd ((k + 1)) s_23 (by omega) (by omega) (by rw [wsK_go hk0.1 hw]; first | (rw [if_pos (by omega), ← hwd]; done) | (rw [if_neg (by omega)]; done)) (by omega) (hf.th hf23 rfl) _ _ _ hH hS (lv_sub hl [0, 1, 2, 4] rfl)
        · refine z_iload C dX3_worst_37 hl 0 rfl ?_
          refine z_iload_n C dX3_worst_39 hl 2 rfl ?_
          refine z_icmple C dX3_worst_40 (tgt := 48) (by decide) ⟨⟨by omega, by omega⟩, ⟨by omega, by omega⟩⟩ (fun c_40 => ?_) (fun c_40 => ?_)
          · refine z_iinc C [(3, .int (iI (k + 1))), (4, .int (iI wd)), (2, .int (iI m9)), (1, .int (iI b)), (0, .ref o)] dX3_worst_48 hl 1 rfl (by decide) rfl (fun ls hl => ?_)
            refine z_goto C dX3_worst_51 (tgt := 11) (by decide) ?_
            exact ih_11 b m9 ((k + 1)) s_23 (by omega) (by omega) (by rw [wsK_go hk0.1 hw]; first | (rw [if_pos (by omega), ← hwd]; done) | (rw [if_neg (by omega)]; done)) (by omega) (hf.th hf23 rfl) _ _ _ hH hS (lv_sub hl [0, 2, 3, 4] rfl)
          · refine z_iload_n C dX3_worst_43 hl 1 rfl ?_
            refine z_istore_n C [(1, .int (iI k)), (4, .int (iI wd)), (3, .int (iI k)), (2, .int (iI m9)), (0, .ref o)] dX3_worst_44 hl (by decide) rfl (fun ls hl => ?_)
            refine z_iload C dX3_worst_45 hl 1 rfl ?_
            refine z_istore_n C [(2, .int (iI wd)), (1, .int (iI k)), (4, .int (iI wd)), (3, .int (iI k)), (0, .ref o)] dX3_worst_47 hl (by decide) rfl (fun ls hl => ?_)
            refine z_iinc C [(3, .int (iI (k + 1))), (2, .int (iI wd)), (1, .int (iI k)), (4, .int (iI wd)), (0, .ref o)] dX3_worst_48 hl 3 rfl (by decide) rfl (fun ls hl => ?_)
            refine z_goto C dX3_worst_51 (tgt := 11) (by decide) ?_
            exact ih_11 k wd ((k + 1)) s_23 (by omega) (by omega) (by rw [wsK_go hk0.1 hw]; first | (rw [if_pos (by omega), ← hwd]; done) | (rw [if_neg (by omega)]; done)) (by omega) (hf.th hf23 rfl) _ _ _ hH hS (lv_sub hl [0, 1, 2, 4] rfl)
  exact J_11 _ (((-1))) 0 0 ((su σ 0 0 0)) (Nat.lt_succ_self _) (by omega) (rfl) (by omega) (Fr.rf) _ _ _ hH hS (lv_sub hl [0, 1, 2, 3] rfl)
set_option maxHeartbeats 1000000 in
theorem mm_bestEvery {l : Launch} {D : va_G} {dA : Nat → ClassId} {A : Nat → Prop} {o : Nat} {ad : Nat → Nat} (hOk : mOk o ad) (σ : Sg) (P : Pg) (hP : PgAt (σ 1) P) (hk : PgOk P) : Met l yX3_bestEvery (ws_ yX3_bestEvery cX3_bestEvery 7 (some .int)) (rmL 10 0 0) (MP D dA A o ad [.ref o] σ) (MQi D dA A o ad (fun r σ' => σ' 0 0 = 0 ∧ r = bvZ P ∧ Fr [0, 7, 8, 9, 10, 11, 12, 13, 14, 15, 16, 17, 18, 19, 20, 21, 22, 23, 24, 25, 26, 27, 28, 29, 30] σ σ')) 0 0 A := by
  refine z_ofW (by decide) rfl ?_
  intro pp ee s0 mm below meth cc0 ls C hret hname hl hH hS
  have hl : lv_has ls 7 [(0, .ref o)] := hl
  have hk9 := hk
  have hP9 := hP
  obtain ⟨k1, k2, k3, k4, k5, k6, k7, k8, k9, k10, k11⟩ := hk
  obtain ⟨p1, p2, p3, p4, p5⟩ := hP
  have pn0 : 0 ≤ pN P := by show (0 : Int) ≤ ((pB P).length : Int); omega
  refine z_aload_n C dX3_bestEvery_0 hl 0 rfl ?_
  refine z_iconst C dX3_bestEvery_1 ?_
  refine m_puts C hH hS 0 ⟨by decide, by decide⟩ q2185 rfl ⟨rfl, rfl⟩ dX3_bestEvery_2 (fun H locs hH hS => ?_)
  refine z_aload_n C dX3_bestEvery_5 hl 0 rfl ?_
  refine m_geta C hH 1 ⟨by decide, by decide⟩ q2186 rfl dX3_bestEvery_6 ?_
  refine z_iconst C dX3_bestEvery_9 ?_
  refine m_ialdZ C hOk hH 1 ⟨by decide, by decide⟩ 2 (pS P 0) (p3 0 (by omega) (by omega)) (show 0 ≤ 2 ∧ 2 < (828 : Int) by omega) dX3_bestEvery_10 ?_
  refine z_istore_n C [(1, .int (iI (pS P 0))), (0, .ref o)] dX3_bestEvery_11 hl (by decide) rfl (fun ls hl => ?_)
  refine z_iconst C dX3_bestEvery_12 ?_
  refine z_istore_n C [(2, .int (iI ((-1)))), (1, .int (iI (pS P 0))), (0, .ref o)] dX3_bestEvery_13 hl (by decide) rfl (fun ls hl => ?_)
  refine z_iconst C dX3_bestEvery_14 ?_
  refine z_istore_n C [(3, .int (iI 0)), (2, .int (iI ((-1)))), (1, .int (iI (pS P 0))), (0, .ref o)] dX3_bestEvery_15 hl (by decide) rfl (fun ls hl => ?_)
  refine z_iconst C dX3_bestEvery_16 ?_
  refine z_istore C [(4, .int (iI 0)), (3, .int (iI 0)), (2, .int (iI ((-1)))), (1, .int (iI (pS P 0))), (0, .ref o)] dX3_bestEvery_17 hl (by decide) rfl (fun ls hl => ?_)
  refine z_iconst C dX3_bestEvery_19 ?_
  refine z_istore C [(5, .int (iI 1)), (4, .int (iI 0)), (3, .int (iI 0)), (2, .int (iI ((-1)))), (1, .int (iI (pS P 0))), (0, .ref o)] dX3_bestEvery_20 hl (by decide) rfl (fun ls hl => ?_)
  have J_22 : ∀ (fu : Nat) (b : Int) (fw : Int) (bi : Int) (k : Int) (s1 : Sg) (v : Int), (9 - k).toNat < fu → (1 ≤ k ∧ k ≤ 9) → (bvK (fun e => wdZ P (sdE P e).2.1) (fun e => (sdE P e).1 26 0) (k - 1).toNat = (b, fw, bi)) → (-1 ≤ b ∧ b ≤ 8 ∧ 0 ≤ fw ∧ fw ≤ 800 ∧ 0 ≤ bi ∧ bi ≤ 1000000) → (Fr [1, 7, 8, 9, 10, 11, 12, 13, 14, 15, 16, 17, 18, 19, 20, 21, 22, 23, 24, 25, 26, 27, 28, 29, 30] (su σ 0 0 0) s1) → (s1 1 = uZ (σ 1) 2 v) → ∀ (H : Heap) (locs : List Loc) (ls : Array Slot), MH D dA A o ad s1 H → va_S A s0.heap H locs → lv_has ls 7 [(5, .int (iI k)), (4, .int (iI bi)), (3, .int (iI fw)), (2, .int (iI b)), (1, .int (iI (pS P 0))), (0, .ref o)] → W pp l ee (rmL 10 0 0) s0 mm ([.ref o] : List Value).toArray below meth cc0 H locs 0 0 (MQ below (MQi D dA A o ad (fun r σ' => σ' 0 0 = 0 ∧ r = bvZ P ∧ Fr [0, 7, 8, 9, 10, 11, 12, 13, 14, 15, 16, 17, 18, 19, 20, 21, 22, 23, 24, 25, 26, 27, 28, 29, 30] σ σ')) ([.ref o] : List Value).toArray s0 0 0 A) (F0 mm 22 ls []) := by
    intro fu
    induction fu with
    | zero => intro b fw bi k s1 v hn; exact absurd hn (Nat.not_lt_zero _)
    | succ fu ih_22 =>
      intro b fw bi k s1 v hn hk0 hw hbr hf hv H locs ls hH hS hl
      refine z_iload C dX3_bestEvery_22 hl 0 rfl ?_
      refine z_bipush C dX3_bestEvery_24 (by decide +kernel) ?_
      refine z_icmpgt C dX3_bestEvery_26 (tgt := 91) (by decide) ⟨⟨by omega, by omega⟩, ⟨by omega, by omega⟩⟩ (fun c_26 => ?_) (fun c_26 => ?_)
      · refine z_aload_n C dX3_bestEvery_91 hl 5 rfl ?_
        refine m_geta C hH 1 ⟨by decide, by decide⟩ q2186 rfl dX3_bestEvery_92 ?_
        refine z_iconst C dX3_bestEvery_95 ?_
        refine z_iload_n C dX3_bestEvery_96 hl 4 rfl ?_
        refine m_iast C hOk hH hS 1 ⟨by decide, by decide⟩ (show 0 ≤ 2 ∧ 2 < (828 : Int) by omega) dX3_bestEvery_97 (fun H locs hH hS => ?_)
        refine z_iload_n C dX3_bestEvery_98 hl 3 rfl ?_
        refine m_iret C hret hH hS dX3_bestEvery_99 ?_
        refine ⟨by rw [su_ne _ _ _ (by decide), hf.at 0 rfl]; exact su_self _ _ _ _, ?_, (frSu Fr.rf rfl).th (frBack (s := su σ 0 0 0) hf (show s1 1 = uZ (su σ 0 0 0 1) 2 v from hv) (p3 0 (by omega) (by omega)).symm) rfl⟩
        unfold bvZ; rw [show 8 = (k - 1).toNat by omega, hw]
      · have hE := sdR_I hk9 (ev := k) (mst := pS P 3) (by omega) (by omega) (pL P)
        have hE1 := hE.2.2.1
        have hE2 := hE.2.2.2.1
        have hE3 := hE.2.2.2.2.2.1
        have hE4 := hE.2.2.2.2.2.2.1
        have hE5 := hE.2.2.2.2.2.2.2.2.1
        have hE6 := hE.2.2.2.2.2.2.2.2.2.1
        refine z_aload_n C dX3_bestEvery_29 hl 5 rfl ?_
        refine m_geta C hH 1 ⟨by decide, by decide⟩ q2186 rfl dX3_bestEvery_30 ?_
        refine z_iconst C dX3_bestEvery_33 ?_
        refine z_iload C dX3_bestEvery_34 hl 0 rfl ?_
        refine m_iast C hOk hH hS 1 ⟨by decide, by decide⟩ (show 0 ≤ 2 ∧ 2 < (828 : Int) by omega) dX3_bestEvery_36 (fun H locs hH hS => ?_)
        refine z_aload_n C dX3_bestEvery_37 hl 5 rfl ?_
        refine m_Vv C hH hS (mm_sendsPage hOk (su s1 1 2 k) ((eSet P 0 k)) (by show PgAt (uZ (s1 1) (2 + 0) k) _; rw [hv, show (2 : Int) + 0 = 2 from rfl, uZ_uZ]; exact hP9.set1 (k := 0) ⟨by decide, by decide⟩) (hk9.set ⟨by decide, by decide⟩ ⟨by show 1 ≤ k; omega, by show k ≤ 8; omega⟩)) (cwV 0 C.1.2.2.2.2 (lw_V q2547 q2549 qs78 q133 q2550) rfl rfl rfl (by decide +kernel) ⟨Nat.le_of_ble_eq_true rfl, Nat.le_of_ble_eq_true rfl⟩) rfl hl rfl (Nat.le_of_ble_eq_true rfl) dX3_bestEvery_38 ⟨Nat.le_refl _, Nat.le_refl _⟩ (fun s_38 H locs hp_38 hH hS => ?_)
        obtain ⟨ht38, hg38, hf38⟩ := hp_38
        have hQ : sdQ (eSet P 0 k) = sdE P k := sdR_set (Or.inl rfl)
        rw [hQ] at ht38 hg38
        obtain ⟨bt, hbt⟩ : ∃ y, y = (sdE P k).1 26 0 := ⟨_, rfl⟩
        have v2 : 0 ≤ bt ∧ bt ≤ 1000000 := by rw [hbt]; unfold sdE; omega
        refine z_aload_n C dX3_bestEvery_41 hl 5 rfl ?_
        refine m_ViF C hH hS (mm_wrongDots hOk s_38 ((eSet P 0 k)) ((sdE P k).2.1) (by rw [hf38.at 1 rfl]; show PgAt (uZ (s1 1) (2 + 0) k) _; rw [hv, show (2 : Int) + 0 = 2 from rfl, uZ_uZ]; exact hP9.set1 (k := 0) ⟨by decide, by decide⟩) (hk9.set ⟨by decide, by decide⟩ ⟨by show 1 ≤ k; omega, by show k ≤ 8; omega⟩) (hg38) ((sdR_I hk9 (by omega) (by omega) _).2.2.2.2.1)) (cwV 0 C.1.2.2.2.2 (lw_V q2575 q2577 qs85 q133 q2578) rfl rfl rfl (by decide +kernel) ⟨Nat.le_of_ble_eq_true rfl, Nat.le_of_ble_eq_true rfl⟩) rfl hl rfl (Nat.le_of_ble_eq_true rfl) dX3_bestEvery_42 ⟨Nat.le_refl _, Nat.le_refl _⟩ (fun H locs hH hS => ?_)
        refine z_topi (fun wd hwd => ?_)
        have hwd : wd = wdZ P (sdE P k).2.1 := hwd
        have v1 := wdZ_in hk9 (sdE P k).2.1
        rw [← hwd] at v1
        refine z_istore C [(6, .int (iI wd)), (5, .int (iI k)), (4, .int (iI bi)), (3, .int (iI fw)), (2, .int (iI b)), (1, .int (iI (pS P 0))), (0, .ref o)] dX3_bestEvery_45 hl (by decide) rfl (fun ls hl => ?_)
        refine z_iload_n C dX3_bestEvery_47 hl 4 rfl ?_
        refine z_iconst C dX3_bestEvery_48 ?_
        refine z_icmpeq C dX3_bestEvery_49 (tgt := 73) (by decide) ⟨⟨by omega, by omega⟩, ⟨by omega, by omega⟩⟩ (fun c_49 => ?_) (fun c_49 => ?_)
        · refine z_iload C dX3_bestEvery_73 hl 1 rfl ?_
          refine z_istore_n C [(2, .int (iI k)), (6, .int (iI wd)), (5, .int (iI k)), (4, .int (iI bi)), (3, .int (iI fw)), (1, .int (iI (pS P 0))), (0, .ref o)] dX3_bestEvery_75 hl (by decide) rfl (fun ls hl => ?_)
          refine z_iload C dX3_bestEvery_76 hl 1 rfl ?_
          refine z_istore_n C [(3, .int (iI wd)), (2, .int (iI k)), (6, .int (iI wd)), (5, .int (iI k)), (4, .int (iI bi)), (1, .int (iI (pS P 0))), (0, .ref o)] dX3_bestEvery_78 hl (by decide) rfl (fun ls hl => ?_)
          refine z_aload_n C dX3_bestEvery_79 hl 6 rfl ?_
          refine m_getsZ C hH 26 ⟨by decide, by decide⟩ bt (by rw [hbt]; exact ht38.2 26 (by omega) (by omega)) q2211 rfl dX3_bestEvery_80 ?_
          refine z_istore C [(4, .int (iI bt)), (3, .int (iI wd)), (2, .int (iI k)), (6, .int (iI wd)), (5, .int (iI k)), (1, .int (iI (pS P 0))), (0, .ref o)] dX3_bestEvery_83 hl (by decide) rfl (fun ls hl => ?_)
          refine z_iinc C [(5, .int (iI (k + 1))), (4, .int (iI bt)), (3, .int (iI wd)), (2, .int (iI k)), (6, .int (iI wd)), (1, .int (iI (pS P 0))), (0, .ref o)] dX3_bestEvery_85 hl 4 rfl (by decide) rfl (fun ls hl => ?_)
          refine z_goto C dX3_bestEvery_88 (tgt := 22) (by decide) ?_
          exact ih_22 k wd bt ((k + 1)) s_38 k (by omega) (by omega) (by rw [bvK_go hk0.1 hw]; rw [← hwd, ← hbt]; first | (rw [if_pos (by omega)]; done) | (rw [if_neg (by omega)]; done)) (by omega) ((frSu hf rfl).th hf38 rfl) (by rw [hf38.at 1 rfl, su_k, hv, uZ_uZ]) _ _ _ hH hS (lv_sub hl [0, 1, 2, 3, 5, 6] rfl)
        · refine z_iload C dX3_bestEvery_52 hl 0 rfl ?_
          refine z_iload_n C dX3_bestEvery_54 hl 3 rfl ?_
          refine z_icmplt C dX3_bestEvery_55 (tgt := 73) (by decide) ⟨⟨by omega, by omega⟩, ⟨by omega, by omega⟩⟩ (fun c_55 => ?_) (fun c_55 => ?_)
          · refine z_iload C dX3_bestEvery_73 hl 1 rfl ?_
            refine z_istore_n C [(2, .int (iI k)), (6, .int (iI wd)), (5, .int (iI k)), (4, .int (iI bi)), (3, .int (iI fw)), (1, .int (iI (pS P 0))), (0, .ref o)] dX3_bestEvery_75 hl (by decide) rfl (fun ls hl => ?_)
            refine z_iload C dX3_bestEvery_76 hl 1 rfl ?_
            refine z_istore_n C [(3, .int (iI wd)), (2, .int (iI k)), (6, .int (iI wd)), (5, .int (iI k)), (4, .int (iI bi)), (1, .int (iI (pS P 0))), (0, .ref o)] dX3_bestEvery_78 hl (by decide) rfl (fun ls hl => ?_)
            refine z_aload_n C dX3_bestEvery_79 hl 6 rfl ?_
            refine m_getsZ C hH 26 ⟨by decide, by decide⟩ bt (by rw [hbt]; exact ht38.2 26 (by omega) (by omega)) q2211 rfl dX3_bestEvery_80 ?_
            refine z_istore C [(4, .int (iI bt)), (3, .int (iI wd)), (2, .int (iI k)), (6, .int (iI wd)), (5, .int (iI k)), (1, .int (iI (pS P 0))), (0, .ref o)] dX3_bestEvery_83 hl (by decide) rfl (fun ls hl => ?_)
            refine z_iinc C [(5, .int (iI (k + 1))), (4, .int (iI bt)), (3, .int (iI wd)), (2, .int (iI k)), (6, .int (iI wd)), (1, .int (iI (pS P 0))), (0, .ref o)] dX3_bestEvery_85 hl 4 rfl (by decide) rfl (fun ls hl => ?_)
            refine z_goto C dX3_bestEvery_88 (tgt := 22) (by decide) ?_
            exact ih_22 k wd bt ((k + 1)) s_38 k (by omega) (by omega) (by rw [bvK_go hk0.1 hw]; rw [← hwd, ← hbt]; first | (rw [if_pos (by omega)]; done) | (rw [if_neg (by omega)]; done)) (by omega) ((frSu hf rfl).th hf38 rfl) (by rw [hf38.at 1 rfl, su_k, hv, uZ_uZ]) _ _ _ hH hS (lv_sub hl [0, 1, 2, 3, 5, 6] rfl)
          · refine z_iload C dX3_bestEvery_58 hl 0 rfl ?_
            refine z_iload_n C dX3_bestEvery_60 hl 3 rfl ?_
            refine z_icmpne C dX3_bestEvery_61 (tgt := 85) (by decide) ⟨⟨by omega, by omega⟩, ⟨by omega, by omega⟩⟩ (fun c_61 => ?_) (fun c_61 => ?_)
            · refine z_iinc C [(5, .int (iI (k + 1))), (6, .int (iI wd)), (4, .int (iI bi)), (3, .int (iI fw)), (2, .int (iI b)), (1, .int (iI (pS P 0))), (0, .ref o)] dX3_bestEvery_85 hl 1 rfl (by decide) rfl (fun ls hl => ?_)
              refine z_goto C dX3_bestEvery_88 (tgt := 22) (by decide) ?_
              exact ih_22 b fw bi ((k + 1)) s_38 k (by omega) (by omega) (by rw [bvK_go hk0.1 hw]; rw [← hwd, ← hbt]; first | (rw [if_pos (by omega)]; done) | (rw [if_neg (by omega)]; done)) (by omega) ((frSu hf rfl).th hf38 rfl) (by rw [hf38.at 1 rfl, su_k, hv, uZ_uZ]) _ _ _ hH hS (lv_sub hl [0, 2, 3, 4, 5, 6] rfl)
            · refine z_aload_n C dX3_bestEvery_64 hl 6 rfl ?_
              refine m_getsZ C hH 26 ⟨by decide, by decide⟩ bt (by rw [hbt]; exact ht38.2 26 (by omega) (by omega)) q2211 rfl dX3_bestEvery_65 ?_
              refine z_iload C dX3_bestEvery_68 hl 2 rfl ?_
              refine z_icmpge C dX3_bestEvery_70 (tgt := 85) (by decide) ⟨⟨by omega, by omega⟩, ⟨by omega, by omega⟩⟩ (fun c_70 => ?_) (fun c_70 => ?_)
              · refine z_iinc C [(5, .int (iI (k + 1))), (6, .int (iI wd)), (4, .int (iI bi)), (3, .int (iI fw)), (2, .int (iI b)), (1, .int (iI (pS P 0))), (0, .ref o)] dX3_bestEvery_85 hl 1 rfl (by decide) rfl (fun ls hl => ?_)
                refine z_goto C dX3_bestEvery_88 (tgt := 22) (by decide) ?_
                exact ih_22 b fw bi ((k + 1)) s_38 k (by omega) (by omega) (by rw [bvK_go hk0.1 hw]; rw [← hwd, ← hbt]; first | (rw [if_pos (by omega)]; done) | (rw [if_neg (by omega)]; done)) (by omega) ((frSu hf rfl).th hf38 rfl) (by rw [hf38.at 1 rfl, su_k, hv, uZ_uZ]) _ _ _ hH hS (lv_sub hl [0, 2, 3, 4, 5, 6] rfl)
              · refine z_iload C dX3_bestEvery_73 hl 1 rfl ?_
                refine z_istore_n C [(2, .int (iI k)), (6, .int (iI wd)), (5, .int (iI k)), (4, .int (iI bi)), (3, .int (iI fw)), (1, .int (iI (pS P 0))), (0, .ref o)] dX3_bestEvery_75 hl (by decide) rfl (fun ls hl => ?_)
                refine z_iload C dX3_bestEvery_76 hl 1 rfl ?_
                refine z_istore_n C [(3, .int (iI wd)), (2, .int (iI k)), (6, .int (iI wd)), (5, .int (iI k)), (4, .int (iI bi)), (1, .int (iI (pS P 0))), (0, .ref o)] dX3_bestEvery_78 hl (by decide) rfl (fun ls hl => ?_)
                refine z_aload_n C dX3_bestEvery_79 hl 6 rfl ?_
                refine m_getsZ C hH 26 ⟨by decide, by decide⟩ bt (by rw [hbt]; exact ht38.2 26 (by omega) (by omega)) q2211 rfl dX3_bestEvery_80 ?_
                refine z_istore C [(4, .int (iI bt)), (3, .int (iI wd)), (2, .int (iI k)), (6, .int (iI wd)), (5, .int (iI k)), (1, .int (iI (pS P 0))), (0, .ref o)] dX3_bestEvery_83 hl (by decide) rfl (fun ls hl => ?_)
                refine z_iinc C [(5, .int (iI (k + 1))), (4, .int (iI bt)), (3, .int (iI wd)), (2, .int (iI k)), (6, .int (iI wd)), (1, .int (iI (pS P 0))), (0, .ref o)] dX3_bestEvery_85 hl 4 rfl (by decide) rfl (fun ls hl => ?_)
                refine z_goto C dX3_bestEvery_88 (tgt := 22) (by decide) ?_
                exact ih_22 k wd bt ((k + 1)) s_38 k (by omega) (by omega) (by rw [bvK_go hk0.1 hw]; rw [← hwd, ← hbt]; first | (rw [if_pos (by omega)]; done) | (rw [if_neg (by omega)]; done)) (by omega) ((frSu hf rfl).th hf38 rfl) (by rw [hf38.at 1 rfl, su_k, hv, uZ_uZ]) _ _ _ hH hS (lv_sub hl [0, 1, 2, 3, 5, 6] rfl)
  exact J_22 _ (((-1))) 0 0 1 ((su σ 0 0 0)) ((σ 1 2)) (Nat.lt_succ_self _) (by omega) (rfl) (by omega) (Fr.rf) (uZ_same _ _) _ _ _ hH hS (lv_sub hl [0, 1, 2, 3, 4, 5] rfl)
set_option maxHeartbeats 1000000 in
theorem mm_needsSteps {l : Launch} {D : va_G} {dA : Nat → ClassId} {A : Nat → Prop} {o : Nat} {ad : Nat → Nat} (hOk : mOk o ad) (σ : Sg) (P : Pg) (hP : PgAt (σ 1) P) (hk : PgOk P) : Met l yX3_needsSteps (ws_ yX3_needsSteps cX3_needsSteps 4 (some .int)) (rmL 10 0 0) (MP D dA A o ad [.ref o] σ) (MQi D dA A o ad (fun r σ' => σ' 0 0 = 0 ∧ r = nsZ P ∧ Fr [0, 7, 8, 9, 10, 11, 12, 13, 14, 15, 16, 17, 18, 19, 20, 21, 22, 23, 24, 25, 26, 27, 28, 29, 30] σ σ')) 0 0 A := by
  refine z_ofW (by decide) rfl ?_
  intro pp ee s0 mm below meth cc0 ls C hret hname hl hH hS
  have hl : lv_has ls 4 [(0, .ref o)] := hl
  have hk9 := hk
  have hP9 := hP
  obtain ⟨k1, k2, k3, k4, k5, k6, k7, k8, k9, k10, k11⟩ := hk
  obtain ⟨p1, p2, p3, p4, p5⟩ := hP
  have pn0 : 0 ≤ pN P := by show (0 : Int) ≤ ((pB P).length : Int); omega
  refine z_aload_n C dX3_needsSteps_0 hl 0 rfl ?_
  refine z_iconst C dX3_needsSteps_1 ?_
  refine m_puts C hH hS 0 ⟨by decide, by decide⟩ q2185 rfl ⟨rfl, rfl⟩ dX3_needsSteps_2 (fun H locs hH hS => ?_)
  refine z_aload_n C dX3_needsSteps_5 hl 0 rfl ?_
  refine m_geta C hH 1 ⟨by decide, by decide⟩ q2186 rfl dX3_needsSteps_6 ?_
  refine z_iconst C dX3_needsSteps_9 ?_
  refine m_ialdZ C hOk hH 1 ⟨by decide, by decide⟩ 5 (pS P 3) (p3 3 (by omega) (by omega)) (show 0 ≤ 5 ∧ 5 < (828 : Int) by omega) dX3_needsSteps_10 ?_
  refine z_istore_n C [(1, .int (iI (pS P 3))), (0, .ref o)] dX3_needsSteps_11 hl (by decide) rfl (fun ls hl => ?_)
  refine z_iconst C dX3_needsSteps_12 ?_
  refine z_istore_n C [(2, .int (iI ((-1)))), (1, .int (iI (pS P 3))), (0, .ref o)] dX3_needsSteps_13 hl (by decide) rfl (fun ls hl => ?_)
  refine z_iconst C dX3_needsSteps_14 ?_
  refine z_istore_n C [(3, .int (iI 0)), (2, .int (iI ((-1)))), (1, .int (iI (pS P 3))), (0, .ref o)] dX3_needsSteps_15 hl (by decide) rfl (fun ls hl => ?_)
  have J_16 : ∀ (fu : Nat) (nd : Int) (k : Int) (s1 : Sg) (v : Int), (10 - k).toNat < fu → (0 ≤ k ∧ k ≤ 10) → (nsK (fun m => wdZ P (sdT P m).2.1) k.toNat = nd) → (-1 ≤ nd ∧ nd ≤ 9) → (Fr [1, 7, 8, 9, 10, 11, 12, 13, 14, 15, 16, 17, 18, 19, 20, 21, 22, 23, 24, 25, 26, 27, 28, 29, 30] (su σ 0 0 0) s1) → (s1 1 = uZ (σ 1) 5 v) → ∀ (H : Heap) (locs : List Loc) (ls : Array Slot), MH D dA A o ad s1 H → va_S A s0.heap H locs → lv_has ls 4 [(3, .int (iI k)), (2, .int (iI nd)), (1, .int (iI (pS P 3))), (0, .ref o)] → W pp l ee (rmL 10 0 0) s0 mm ([.ref o] : List Value).toArray below meth cc0 H locs 0 0 (MQ below (MQi D dA A o ad (fun r σ' => σ' 0 0 = 0 ∧ r = nsZ P ∧ Fr [0, 7, 8, 9, 10, 11, 12, 13, 14, 15, 16, 17, 18, 19, 20, 21, 22, 23, 24, 25, 26, 27, 28, 29, 30] σ σ')) ([.ref o] : List Value).toArray s0 0 0 A) (F0 mm 16 ls []) := by
    intro fu
    induction fu with
    | zero => intro nd k s1 v hn; exact absurd hn (Nat.not_lt_zero _)
    | succ fu ih_16 =>
      intro nd k s1 v hn hk0 hw hbr hf hv H locs ls hH hS hl
      refine z_iload_n C dX3_needsSteps_16 hl 0 rfl ?_
      refine z_bipush C dX3_needsSteps_17 (by decide +kernel) ?_
      refine z_icmpgt C dX3_needsSteps_19 (tgt := 57) (by decide) ⟨⟨by omega, by omega⟩, ⟨by omega, by omega⟩⟩ (fun c_19 => ?_) (fun c_19 => ?_)
      · refine z_aload_n C dX3_needsSteps_57 hl 3 rfl ?_
        refine m_geta C hH 1 ⟨by decide, by decide⟩ q2186 rfl dX3_needsSteps_58 ?_
        refine z_iconst C dX3_needsSteps_61 ?_
        refine z_iload_n C dX3_needsSteps_62 hl 2 rfl ?_
        refine m_iast C hOk hH hS 1 ⟨by decide, by decide⟩ (show 0 ≤ 5 ∧ 5 < (828 : Int) by omega) dX3_needsSteps_63 (fun H locs hH hS => ?_)
        refine z_iload_n C dX3_needsSteps_64 hl 1 rfl ?_
        refine m_iret C hret hH hS dX3_needsSteps_65 ?_
        refine ⟨by rw [su_ne _ _ _ (by decide), hf.at 0 rfl]; exact su_self _ _ _ _, ?_, (frSu Fr.rf rfl).th (frBack (s := su σ 0 0 0) hf (show s1 1 = uZ (su σ 0 0 0 1) 5 v from hv) (p3 3 (by omega) (by omega)).symm) rfl⟩
        unfold nsZ; rw [nsK_end _ (n := k.toNat) (by omega) (by rw [hw]; omega), hw]
      · refine z_iload_n C dX3_needsSteps_22 hl 1 rfl ?_
        refine z_iconst C dX3_needsSteps_23 ?_
        refine z_icmpne C dX3_needsSteps_24 (tgt := 57) (by decide) ⟨⟨by omega, by omega⟩, ⟨by omega, by omega⟩⟩ (fun c_24 => ?_) (fun c_24 => ?_)
        · refine z_aload_n C dX3_needsSteps_57 hl 3 rfl ?_
          refine m_geta C hH 1 ⟨by decide, by decide⟩ q2186 rfl dX3_needsSteps_58 ?_
          refine z_iconst C dX3_needsSteps_61 ?_
          refine z_iload_n C dX3_needsSteps_62 hl 2 rfl ?_
          refine m_iast C hOk hH hS 1 ⟨by decide, by decide⟩ (show 0 ≤ 5 ∧ 5 < (828 : Int) by omega) dX3_needsSteps_63 (fun H locs hH hS => ?_)
          refine z_iload_n C dX3_needsSteps_64 hl 1 rfl ?_
          refine m_iret C hret hH hS dX3_needsSteps_65 ?_
          refine ⟨by rw [su_ne _ _ _ (by decide), hf.at 0 rfl]; exact su_self _ _ _ _, ?_, (frSu Fr.rf rfl).th (frBack (s := su σ 0 0 0) hf (show s1 1 = uZ (su σ 0 0 0 1) 5 v from hv) (p3 3 (by omega) (by omega)).symm) rfl⟩
          unfold nsZ; rw [nsK_end _ (n := k.toNat) (by omega) (by rw [hw]; omega), hw]
        · refine z_aload_n C dX3_needsSteps_27 hl 3 rfl ?_
          refine m_geta C hH 1 ⟨by decide, by decide⟩ q2186 rfl dX3_needsSteps_28 ?_
          refine z_iconst C dX3_needsSteps_31 ?_
          refine z_iload_n C dX3_needsSteps_32 hl 0 rfl ?_
          refine m_iast C hOk hH hS 1 ⟨by decide, by decide⟩ (show 0 ≤ 5 ∧ 5 < (828 : Int) by omega) dX3_needsSteps_33 (fun H locs hH hS => ?_)
          refine z_aload_n C dX3_needsSteps_34 hl 3 rfl ?_
          refine m_Vv C hH hS (mm_sendsPage hOk (su s1 1 5 k) ((eSet P 3 k)) (by show PgAt (uZ (s1 1) (2 + 3) k) _; rw [hv, show (2 : Int) + 3 = 5 from rfl, uZ_uZ]; exact hP9.set1 (k := 3) ⟨by decide, by decide⟩) (hk9.set ⟨by decide, by decide⟩ ⟨by show 0 ≤ k; omega, by show k ≤ 9; omega⟩)) (cwV 0 C.1.2.2.2.2 (lw_V q2547 q2549 qs78 q133 q2550) rfl rfl rfl (by decide +kernel) ⟨Nat.le_of_ble_eq_true rfl, Nat.le_of_ble_eq_true rfl⟩) rfl hl rfl (Nat.le_of_ble_eq_true rfl) dX3_needsSteps_35 ⟨Nat.le_refl _, Nat.le_refl _⟩ (fun s_35 H locs hp_35 hH hS => ?_)
          obtain ⟨ht35, hg35, hf35⟩ := hp_35
          have hQ : sdQ (eSet P 3 k) = sdT P k := sdR_set (Or.inr rfl)
          rw [hQ] at ht35 hg35
          refine z_aload_n C dX3_needsSteps_38 hl 3 rfl ?_
          refine m_ViF C hH hS (mm_wrongDots hOk s_35 ((eSet P 3 k)) ((sdT P k).2.1) (by rw [hf35.at 1 rfl]; show PgAt (uZ (s1 1) (2 + 3) k) _; rw [hv, show (2 : Int) + 3 = 5 from rfl, uZ_uZ]; exact hP9.set1 (k := 3) ⟨by decide, by decide⟩) (hk9.set ⟨by decide, by decide⟩ ⟨by show 0 ≤ k; omega, by show k ≤ 9; omega⟩) (hg35) ((sdR_I hk9 (by omega) (by omega) _).2.2.2.2.1)) (cwV 0 C.1.2.2.2.2 (lw_V q2575 q2577 qs85 q133 q2578) rfl rfl rfl (by decide +kernel) ⟨Nat.le_of_ble_eq_true rfl, Nat.le_of_ble_eq_true rfl⟩) rfl hl rfl (Nat.le_of_ble_eq_true rfl) dX3_needsSteps_39 ⟨Nat.le_refl _, Nat.le_refl _⟩ (fun H locs hH hS => ?_)
          refine z_topi (fun wd hwd => ?_)
          have hwd : wd = wdZ P (sdT P k).2.1 := hwd
          have v1 := wdZ_in hk9 (sdT P k).2.1
          rw [← hwd] at v1
          refine z_ifne C dX3_needsSteps_42 (tgt := 49) (by decide) ⟨by omega, by omega⟩ (fun c_42 => ?_) (fun c_42 => ?_)
          · refine z_iconst C dX3_needsSteps_49 ?_
            refine z_istore_n C [(2, .int (iI ((-1)))), (3, .int (iI k)), (1, .int (iI (pS P 3))), (0, .ref o)] dX3_needsSteps_50 hl (by decide) rfl (fun ls hl => ?_)
            refine z_iinc C [(3, .int (iI (k + 1))), (2, .int (iI ((-1)))), (1, .int (iI (pS P 3))), (0, .ref o)] dX3_needsSteps_51 hl 1 rfl (by decide) rfl (fun ls hl => ?_)
            refine z_goto C dX3_needsSteps_54 (tgt := 16) (by decide) ?_
            exact ih_16 (((-1))) ((k + 1)) s_35 k (by omega) (by omega) (by rw [nsK_go _ hk0.1 (by omega)]; rw [← hwd]; first | (rw [if_pos (by omega)]; done) | (rw [if_neg (by omega)]; done)) (by omega) ((frSu hf rfl).th hf35 rfl) (by rw [hf35.at 1 rfl, su_k, hv, uZ_uZ]) _ _ _ hH hS (lv_sub hl [0, 1, 2, 3] rfl)
          · refine z_iload_n C dX3_needsSteps_45 hl 0 rfl ?_
            refine z_goto C dX3_needsSteps_46 (tgt := 50) (by decide) ?_
            refine z_istore_n C [(2, .int (iI k)), (3, .int (iI k)), (1, .int (iI (pS P 3))), (0, .ref o)] dX3_needsSteps_50 hl (by decide) rfl (fun ls hl => ?_)
            refine z_iinc C [(3, .int (iI (k + 1))), (2, .int (iI k)), (1, .int (iI (pS P 3))), (0, .ref o)] dX3_needsSteps_51 hl 1 rfl (by decide) rfl (fun ls hl => ?_)
            refine z_goto C dX3_needsSteps_54 (tgt := 16) (by decide) ?_
            exact ih_16 k ((k + 1)) s_35 k (by omega) (by omega) (by rw [nsK_go _ hk0.1 (by omega)]; rw [← hwd]; first | (rw [if_pos (by omega)]; done) | (rw [if_neg (by omega)]; done)) (by omega) ((frSu hf rfl).th hf35 rfl) (by rw [hf35.at 1 rfl, su_k, hv, uZ_uZ]) _ _ _ hH hS (lv_sub hl [0, 1, 2, 3] rfl)
  exact J_16 _ (((-1))) 0 ((su σ 0 0 0)) ((σ 1 5)) (Nat.lt_succ_self _) (by omega) (rfl) (by omega) (Fr.rf) (uZ_same _ _) _ _ _ hH hS (lv_sub hl [0, 1, 2, 3] rfl)
