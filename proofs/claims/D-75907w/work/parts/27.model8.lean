/-! the reference's methods, 8 (written by gen/model8.py) -/
set_option maxRecDepth 100000
set_option maxHeartbeats 1000000 in
theorem mm_keeps {l : Launch} {D : va_G} {dA : Nat → ClassId} {A : Nat → Prop} {o : Nat} {ad : Nat → Nat} (hOk : mOk o ad) (σ : Sg) (P : Pg) (L : List Pg) (hI : MIv σ P L) : Met l yX3_keeps (ws_ yX3_keeps cX3_keeps 2 none) (rmL 2 0 0) (MP D dA A o ad [.ref o] σ) (MQv D dA A o ad (fun σ' => Fr [3, 4] σ σ' ∧ UAt (σ' 3) (pkL L P) ∧ σ' 4 0 = ((pkL L P).length : Int))) 0 0 A := by
  refine z_ofW (by decide) rfl ?_
  intro pp ee s0 mm below meth cc0 ls C hret hname hl hH hS
  have hl : lv_has ls 2 [(0, .ref o)] := hl
  obtain ⟨hP, hk, hU, h4, hL, hLk⟩ := hI
  have hk9 := hk
  have hP9 := hP
  obtain ⟨k1, k2, k3, k4, k5, k6, k7, k8, k9, k10, k11⟩ := hk
  obtain ⟨p1, p2, p3, p4, p5⟩ := hP
  have pn0 : 0 ≤ pN P := by show (0 : Int) ≤ ((pB P).length : Int); omega
  have hI : MIv σ P L := ⟨hP9, hk9, hU, h4, hL, hLk⟩
  have J_50 : ∀ (s2 : Sg) (L2 : List Pg), (Fr [3, 4] σ s2) → (UAt (s2 3) L2) → (s2 4 0 = (L2.length : Int)) → (L2 ++ [P] = pkL L P) → (L2.length < 10) → (∀ Q ∈ L2, PgOk Q) → ∀ (H : Heap) (locs : List Loc) (ls : Array Slot), MH D dA A o ad s2 H → va_S A s0.heap H locs → lv_has ls 2 [(0, .ref o)] → W pp l ee (rmL 2 0 0) s0 mm ([.ref o] : List Value).toArray below meth cc0 H locs 0 0 (MQ below (MQv D dA A o ad (fun σ' => Fr [3, 4] σ σ' ∧ UAt (σ' 3) (pkL L P) ∧ σ' 4 0 = ((pkL L P).length : Int))) ([.ref o] : List Value).toArray s0 0 0 A) (F0 mm 50 ls []) := by
    intro s2 L2 hs2 hu2 h42 hp2 hl2 hk2 H locs ls hH hS hl
    refine z_aload_n C dX3_keeps_50 hl 0 rfl ?_
    refine m_geta C hH 1 ⟨by decide, by decide⟩ q2186 rfl dX3_keeps_51 ?_
    refine z_iconst C dX3_keeps_54 ?_
    refine z_aload_n C dX3_keeps_55 hl 0 rfl ?_
    refine m_geta C hH 3 ⟨by decide, by decide⟩ q2188 rfl dX3_keeps_56 ?_
    refine z_sipush C dX3_keeps_59 (by decide +kernel) ?_
    refine z_aload_n C dX3_keeps_62 hl 0 rfl ?_
    refine m_getsZ C hH 4 ⟨by decide, by decide⟩ ((L2.length : Int)) (h42) q2189 rfl dX3_keeps_63 ?_
    refine z_imul C dX3_keeps_66 ?_
    refine m_SvF C hH hS (mm_copies hOk s2 1 0 3 (828 * ((L2.length : Int))) (⟨by decide, by decide⟩) (⟨by decide, by decide⟩) (by decide) (show 0 ≤ (0 : Int) ∧ (0 : Int) + 828 ≤ (828 : Int) by omega) (show 0 ≤ 828 * (L2.length : Int) ∧ 828 * (L2.length : Int) + 828 ≤ (8280 : Int) by omega)) (va_cwS 4 C.1.2.2.2.2 (lw_S q2182 q2183 q133 q2184) rfl rfl rfl (by decide +kernel) ⟨Nat.le_of_ble_eq_true rfl, Nat.le_of_ble_eq_true rfl⟩) rfl hl rfl (Nat.le_of_ble_eq_true rfl) dX3_keeps_67 ⟨Nat.le_refl _, Nat.le_refl _⟩ (fun H locs hH hS => ?_)
    refine z_aload_n C dX3_keeps_70 hl 0 rfl ?_
    refine z_dup C dX3_keeps_71 rfl ?_
    refine m_getsZ C hH 4 ⟨by decide, by decide⟩ ((L2.length : Int)) (h42) q2189 rfl dX3_keeps_72 ?_
    refine z_iconst C dX3_keeps_75 ?_
    refine z_iadd C dX3_keeps_76 ?_
    refine m_puts C hH hS 4 ⟨by decide, by decide⟩ q2189 rfl ⟨rfl, rfl⟩ dX3_keeps_77 (fun H locs hH hS => ?_)
    refine m_vret C hret hH hS dX3_keeps_80 ?_
    refine ⟨frSu (frSa hs2 rfl) rfl, ?_, ?_⟩
    · rw [← hp2]
      have := hu2.push hk2 (show PgAt (s2 1) P by rw [hs2.at 1 rfl]; exact hP9) hk9
      exact this
    · rw [← hp2, List.length_append]; rw [su_self]; simp
  refine z_aload_n C dX3_keeps_0 hl 0 rfl ?_
  refine m_getsZ C hH 4 ⟨by decide, by decide⟩ ((L.length : Int)) (h4) q2189 rfl dX3_keeps_1 ?_
  refine z_bipush C dX3_keeps_4 (by decide +kernel) ?_
  refine z_icmpne C dX3_keeps_6 (tgt := 50) (by decide) ⟨⟨by omega, by omega⟩, ⟨by omega, by omega⟩⟩ (fun c_6 => ?_) (fun c_6 => ?_)
  · exact J_50 σ L (Fr.rf) (hU) (h4) (by unfold pkL; rw [if_neg (by omega)]) (by omega) (hLk) _ _ _ hH hS (lv_sub hl [0] rfl)
  · refine z_iconst C dX3_keeps_9 ?_
    refine z_istore_n C [(1, .int (iI 0)), (0, .ref o)] dX3_keeps_10 hl (by decide) rfl (fun ls hl => ?_)
    have J_11 : ∀ (fu : Nat) (k : Int) (s1 : Sg), (7452 - k).toNat < fu → (0 ≤ k ∧ k ≤ 7452) → (s1 = sa σ 3 (wr (fun j => σ 3 (j + 828)) (σ 3) 0 k)) → ∀ (H : Heap) (locs : List Loc) (ls : Array Slot), MH D dA A o ad s1 H → va_S A s0.heap H locs → lv_has ls 2 [(1, .int (iI k)), (0, .ref o)] → W pp l ee (rmL 2 0 0) s0 mm ([.ref o] : List Value).toArray below meth cc0 H locs 0 0 (MQ below (MQv D dA A o ad (fun σ' => Fr [3, 4] σ σ' ∧ UAt (σ' 3) (pkL L P) ∧ σ' 4 0 = ((pkL L P).length : Int))) ([.ref o] : List Value).toArray s0 0 0 A) (F0 mm 11 ls []) := by
      intro fu
      induction fu with
      | zero => intro k s1 hn; exact absurd hn (Nat.not_lt_zero _)
      | succ fu ih_11 =>
        intro k s1 hn hk0 hs H locs ls hH hS hl
        refine z_iload_n C dX3_keeps_11 hl 0 rfl ?_
        refine z_sipush C dX3_keeps_12 (by decide +kernel) ?_
        refine z_icmpge C dX3_keeps_15 (tgt := 40) (by decide) ⟨⟨by omega, by omega⟩, ⟨by omega, by omega⟩⟩ (fun c_15 => ?_) (fun c_15 => ?_)
        · have hdl : (L.drop 1).length = L.length - 1 := List.length_drop
          refine z_aload_n C dX3_keeps_40 hl 1 rfl ?_
          refine z_dup C dX3_keeps_41 rfl ?_
          refine m_getsZ C hH 4 ⟨by decide, by decide⟩ ((L.length : Int)) (by rw [hs]; exact h4) q2189 rfl dX3_keeps_42 ?_
          refine z_iconst C dX3_keeps_45 ?_
          refine z_isub C dX3_keeps_46 ?_
          refine m_puts C hH hS 4 ⟨by decide, by decide⟩ q2189 rfl ⟨rfl, rfl⟩ dX3_keeps_47 (fun H locs hH hS => ?_)
          exact J_50 ((su s1 4 0 (((L.length : Int)) - 1))) ((L.drop 1)) (frSu (by rw [hs]; exact frSa Fr.rf rfl) rfl) ((by show UAt (s1 3) _; rw [hs, sa_k, show k = 7452 by omega]; exact hU.shift hLk (by omega))) (by rw [su_self, List.length_drop]; omega) (by unfold pkL; rw [if_pos (by omega)]) (by omega) (fun Q hQ => hLk Q (List.mem_of_mem_drop hQ)) _ _ _ hH hS (lv_sub hl [1] rfl)
        · refine z_aload_n C dX3_keeps_18 hl 1 rfl ?_
          refine m_geta C hH 3 ⟨by decide, by decide⟩ q2188 rfl dX3_keeps_19 ?_
          refine z_iload_n C dX3_keeps_22 hl 0 rfl ?_
          refine z_aload_n C dX3_keeps_23 hl 1 rfl ?_
          refine m_geta C hH 3 ⟨by decide, by decide⟩ q2188 rfl dX3_keeps_24 ?_
          refine z_iload_n C dX3_keeps_27 hl 0 rfl ?_
          refine z_sipush C dX3_keeps_28 (by decide +kernel) ?_
          refine z_iadd C dX3_keeps_31 ?_
          refine m_ialdZ C hOk hH 3 ⟨by decide, by decide⟩ (k + 828) (s1 3 (k + 828)) rfl (show 0 ≤ k + 828 ∧ k + 828 < (8280 : Int) by omega) dX3_keeps_32 ?_
          refine m_iast C hOk hH hS 3 ⟨by decide, by decide⟩ (show 0 ≤ k ∧ k < (8280 : Int) by omega) dX3_keeps_33 (fun H locs hH hS => ?_)
          refine z_iinc C [(1, .int (iI (k + 1))), (0, .ref o)] dX3_keeps_34 hl 0 rfl (by decide) rfl (fun ls hl => ?_)
          refine z_goto C dX3_keeps_37 (tgt := 11) (by decide) ?_
          exact ih_11 ((k + 1)) ((su s1 3 k (s1 3 (k + 828)))) (by omega) (by omega) (by rw [hs, ← su_wr _ _ _ _ (show (0 : Int) ≤ k by omega)]; congr 1; rw [sa_k, wr_out _ _ (by omega)]) _ _ _ hH hS (lv_sub hl [0, 1] rfl)
    exact J_11 _ 0 σ (Nat.lt_succ_self _) (by omega) (by rw [wr_0, sa_id]) _ _ _ hH hS (lv_sub hl [0, 1] rfl)
set_option maxHeartbeats 1000000 in
theorem mm_highOf {l : Launch} {D : va_G} {dA : Nat → ClassId} {A : Nat → Prop} {o : Nat} {ad : Nat → Nat} (hOk : mOk o ad) (σ : Sg) (k : Int) (hr : 0 ≤ k ∧ k ≤ 5) : Met l yX3_highOf (ws_ yX3_highOf cX3_highOf 1 (some .int)) (rmL 1 0 0) (MP D dA A o ad [.int (iI k)] σ) (MQi D dA A o ad (fun r σ' => σ' = σ ∧ r = hiZ k)) 0 0 A := by
  refine z_ofW (by decide) rfl ?_
  intro pp ee s0 mm below meth cc0 ls C hret hname hl hH hS
  have hl : lv_has ls 1 [(0, .int (iI k))] := hl
  refine z_iload_n C dX3_highOf_0 hl 0 rfl ?_
  refine z_ifne C dX3_highOf_1 (tgt := 9) (by decide) ⟨by omega, by omega⟩ (fun c_1 => ?_) (fun c_1 => ?_)
  · refine z_iload_n C dX3_highOf_9 hl 0 rfl ?_
    refine z_iconst C dX3_highOf_10 ?_
    refine z_icmpeq C dX3_highOf_11 (tgt := 19) (by decide) ⟨⟨by omega, by omega⟩, ⟨by omega, by omega⟩⟩ (fun c_11 => ?_) (fun c_11 => ?_)
    · refine z_iconst C dX3_highOf_19 ?_
      refine z_goto C dX3_highOf_20 (tgt := 35) (by decide) ?_
      refine m_iret C hret hH hS dX3_highOf_35 ?_
      refine ⟨rfl, ?_⟩
      unfold hiZ; first | (rw [if_pos (by omega)]; done) | (rw [if_neg (by omega), if_pos (by omega)]; done) | (rw [if_neg (by omega), if_neg (by omega), if_pos (by omega)]; done) | (rw [if_neg (by omega), if_neg (by omega), if_neg (by omega)]; done)
    · refine z_iload_n C dX3_highOf_14 hl 0 rfl ?_
      refine z_iconst C dX3_highOf_15 ?_
      refine z_icmpne C dX3_highOf_16 (tgt := 23) (by decide) ⟨⟨by omega, by omega⟩, ⟨by omega, by omega⟩⟩ (fun c_16 => ?_) (fun c_16 => ?_)
      · refine z_iload_n C dX3_highOf_23 hl 0 rfl ?_
        refine z_iconst C dX3_highOf_24 ?_
        refine z_icmpne C dX3_highOf_25 (tgt := 33) (by decide) ⟨⟨by omega, by omega⟩, ⟨by omega, by omega⟩⟩ (fun c_25 => ?_) (fun c_25 => ?_)
        · refine z_bipush C dX3_highOf_33 (by decide +kernel) ?_
          refine m_iret C hret hH hS dX3_highOf_35 ?_
          refine ⟨rfl, ?_⟩
          unfold hiZ; first | (rw [if_pos (by omega)]; done) | (rw [if_neg (by omega), if_pos (by omega)]; done) | (rw [if_neg (by omega), if_neg (by omega), if_pos (by omega)]; done) | (rw [if_neg (by omega), if_neg (by omega), if_neg (by omega)]; done)
        · refine z_bipush C dX3_highOf_28 (by decide +kernel) ?_
          refine z_goto C dX3_highOf_30 (tgt := 35) (by decide) ?_
          refine m_iret C hret hH hS dX3_highOf_35 ?_
          refine ⟨rfl, ?_⟩
          unfold hiZ; first | (rw [if_pos (by omega)]; done) | (rw [if_neg (by omega), if_pos (by omega)]; done) | (rw [if_neg (by omega), if_neg (by omega), if_pos (by omega)]; done) | (rw [if_neg (by omega), if_neg (by omega), if_neg (by omega)]; done)
      · refine z_iconst C dX3_highOf_19 ?_
        refine z_goto C dX3_highOf_20 (tgt := 35) (by decide) ?_
        refine m_iret C hret hH hS dX3_highOf_35 ?_
        refine ⟨rfl, ?_⟩
        unfold hiZ; first | (rw [if_pos (by omega)]; done) | (rw [if_neg (by omega), if_pos (by omega)]; done) | (rw [if_neg (by omega), if_neg (by omega), if_pos (by omega)]; done) | (rw [if_neg (by omega), if_neg (by omega), if_neg (by omega)]; done)
  · refine z_bipush C dX3_highOf_4 (by decide +kernel) ?_
    refine z_goto C dX3_highOf_6 (tgt := 35) (by decide) ?_
    refine m_iret C hret hH hS dX3_highOf_35 ?_
    refine ⟨rfl, ?_⟩
    unfold hiZ; first | (rw [if_pos (by omega)]; done) | (rw [if_neg (by omega), if_pos (by omega)]; done) | (rw [if_neg (by omega), if_neg (by omega), if_pos (by omega)]; done) | (rw [if_neg (by omega), if_neg (by omega), if_neg (by omega)]; done)
set_option maxHeartbeats 1000000 in
theorem mm_isSetting {l : Launch} {D : va_G} {dA : Nat → ClassId} {A : Nat → Prop} {o : Nat} {ad : Nat → Nat} (hOk : mOk o ad) (σ : Sg) (x : Int) (v : Int) (hr : zR x) (hr2 : zR v) : Met l yX3_isSetting (ws_ yX3_isSetting cX3_isSetting 2 (some .boolean)) (rmL 2 0 0) (MP D dA A o ad [.int (iI x), .int (iI v)] σ) (MQi D dA A o ad (fun r σ' => σ' = σ ∧ r = if (0 ≤ x ∧ x ≤ 5) ∧ loK x ≤ v ∧ v ≤ hiZ x then 1 else 0)) 0 0 A := by
  refine z_ofW (by decide) rfl ?_
  intro pp ee s0 mm below meth cc0 ls C hret hname hl hH hS
  have hl : lv_has ls 2 [(0, .int (iI x)), (1, .int (iI v))] := hl
  have hr_1 := hr.1
  have hr_2 := hr.2
  have hr2_1 := hr2.1
  have hr2_2 := hr2.2
  have lk : loK x = if x = 0 then 1 else 0 := rfl
  refine z_iload_n C dX3_isSetting_0 hl 0 rfl ?_
  refine z_iconst C dX3_isSetting_1 ?_
  refine z_iconst C dX3_isSetting_2 ?_
  refine m_SiF C hH hS (mm_in hOk σ x 0 5 (⟨by omega, by omega⟩) (⟨by omega, by omega⟩) (⟨by omega, by omega⟩)) (va_cwS 3 C.1.2.2.2.2 (lw_S q2321 q2322 q133 q2323) rfl rfl rfl (by decide +kernel) ⟨Nat.le_of_ble_eq_true rfl, Nat.le_of_ble_eq_true rfl⟩) rfl hl rfl (Nat.le_of_ble_eq_true rfl) dX3_isSetting_3 ⟨Nat.le_refl _, Nat.le_refl _⟩ (fun H locs hH hS => ?_)
  refine z_topi (fun z_3 hz_3 => ?_)
  have q_3 := inZ_or x 0 5
  rw [← hz_3] at q_3
  refine z_ifeq C dX3_isSetting_6 (tgt := 33) (by decide) ⟨by omega, by omega⟩ (fun c_6 => ?_) (fun c_6 => ?_)
  · refine z_iconst C dX3_isSetting_33 ?_
    refine m_zret C hret hH hS (by omega) dX3_isSetting_34 ?_
    refine ⟨rfl, ?_⟩
    first | (rw [if_pos (by omega)]; done) | (rw [if_neg (by omega)]; done)
  · refine z_iload_n C dX3_isSetting_9 hl 1 rfl ?_
    refine z_iload_n C dX3_isSetting_10 hl 0 rfl ?_
    refine z_ifne C dX3_isSetting_11 (tgt := 18) (by decide) ⟨by omega, by omega⟩ (fun c_11 => ?_) (fun c_11 => ?_)
    · rw [if_neg (by omega)] at lk
      refine z_iconst C dX3_isSetting_18 ?_
      refine z_iload_n C dX3_isSetting_19 hl 0 rfl ?_
      refine m_SiF C hH hS (mm_highOf hOk σ x (by omega)) (va_cwS 1 C.1.2.2.2.2 (lw_S q2488 q2489 q133 q2490) rfl rfl rfl (by decide +kernel) ⟨Nat.le_of_ble_eq_true rfl, Nat.le_of_ble_eq_true rfl⟩) rfl hl rfl (Nat.le_of_ble_eq_true rfl) dX3_isSetting_20 ⟨Nat.le_refl _, Nat.le_refl _⟩ (fun H locs hH hS => ?_)
      refine z_topi (fun hh hhh => ?_)
      have hh2 : 1 ≤ hh ∧ hh ≤ 99 := by rw [hhh]; exact hiZ_in x
      refine m_SiF C hH hS (mm_in hOk σ v 0 hh (⟨by omega, by omega⟩) (⟨by omega, by omega⟩) (⟨by omega, by omega⟩)) (va_cwS 3 C.1.2.2.2.2 (lw_S q2321 q2322 q133 q2323) rfl rfl rfl (by decide +kernel) ⟨Nat.le_of_ble_eq_true rfl, Nat.le_of_ble_eq_true rfl⟩) rfl hl rfl (Nat.le_of_ble_eq_true rfl) dX3_isSetting_23 ⟨Nat.le_refl _, Nat.le_refl _⟩ (fun H locs hH hS => ?_)
      refine z_topi (fun z_23 hz_23 => ?_)
      have q_23 := inZ_or v 0 hh
      rw [← hz_23] at q_23
      refine z_ifeq C dX3_isSetting_26 (tgt := 33) (by decide) ⟨by omega, by omega⟩ (fun c_26 => ?_) (fun c_26 => ?_)
      · refine z_iconst C dX3_isSetting_33 ?_
        refine m_zret C hret hH hS (by omega) dX3_isSetting_34 ?_
        refine ⟨rfl, ?_⟩
        first | (rw [if_pos (by omega)]; done) | (rw [if_neg (by omega)]; done)
      · refine z_iconst C dX3_isSetting_29 ?_
        refine z_goto C dX3_isSetting_30 (tgt := 34) (by decide) ?_
        refine m_zret C hret hH hS (by omega) dX3_isSetting_34 ?_
        refine ⟨rfl, ?_⟩
        first | (rw [if_pos (by omega)]; done) | (rw [if_neg (by omega)]; done)
    · rw [if_pos (by omega)] at lk
      refine z_iconst C dX3_isSetting_14 ?_
      refine z_goto C dX3_isSetting_15 (tgt := 19) (by decide) ?_
      refine z_iload_n C dX3_isSetting_19 hl 0 rfl ?_
      refine m_SiF C hH hS (mm_highOf hOk σ x (by omega)) (va_cwS 1 C.1.2.2.2.2 (lw_S q2488 q2489 q133 q2490) rfl rfl rfl (by decide +kernel) ⟨Nat.le_of_ble_eq_true rfl, Nat.le_of_ble_eq_true rfl⟩) rfl hl rfl (Nat.le_of_ble_eq_true rfl) dX3_isSetting_20 ⟨Nat.le_refl _, Nat.le_refl _⟩ (fun H locs hH hS => ?_)
      refine z_topi (fun hh hhh => ?_)
      have hh2 : 1 ≤ hh ∧ hh ≤ 99 := by rw [hhh]; exact hiZ_in x
      refine m_SiF C hH hS (mm_in hOk σ v 1 hh (⟨by omega, by omega⟩) (⟨by omega, by omega⟩) (⟨by omega, by omega⟩)) (va_cwS 3 C.1.2.2.2.2 (lw_S q2321 q2322 q133 q2323) rfl rfl rfl (by decide +kernel) ⟨Nat.le_of_ble_eq_true rfl, Nat.le_of_ble_eq_true rfl⟩) rfl hl rfl (Nat.le_of_ble_eq_true rfl) dX3_isSetting_23 ⟨Nat.le_refl _, Nat.le_refl _⟩ (fun H locs hH hS => ?_)
      refine z_topi (fun z_23_1 hz_23_1 => ?_)
      have q_23_1 := inZ_or v 1 hh
      rw [← hz_23_1] at q_23_1
      refine z_ifeq C dX3_isSetting_26 (tgt := 33) (by decide) ⟨by omega, by omega⟩ (fun c_26_1 => ?_) (fun c_26_1 => ?_)
      · refine z_iconst C dX3_isSetting_33 ?_
        refine m_zret C hret hH hS (by omega) dX3_isSetting_34 ?_
        refine ⟨rfl, ?_⟩
        first | (rw [if_pos (by omega)]; done) | (rw [if_neg (by omega)]; done)
      · refine z_iconst C dX3_isSetting_29 ?_
        refine z_goto C dX3_isSetting_30 (tgt := 34) (by decide) ?_
        refine m_zret C hret hH hS (by omega) dX3_isSetting_34 ?_
        refine ⟨rfl, ?_⟩
        first | (rw [if_pos (by omega)]; done) | (rw [if_neg (by omega)]; done)
set_option maxHeartbeats 1000000 in
theorem mm_set {l : Launch} {D : va_G} {dA : Nat → ClassId} {A : Nat → Prop} {o : Nat} {ad : Nat → Nat} (hOk : mOk o ad) (σ : Sg) (x : Int) (v : Int) (P : Pg) (L : List Pg) (hI : MIv σ P L) (hr : zR x) (hr2 : zR v) : Met l yX3_set (ws_ yX3_set cX3_set 4 (some .int)) (rmL 3 0 0) (MP D dA A o ad [.ref o, .int (iI x), .int (iI v)] σ) (MQi D dA A o ad (fun r σ' => σ' 0 0 = (if (0 ≤ x ∧ x ≤ 5) ∧ loK x ≤ v ∧ v ≤ hiZ x then 0 else 1) ∧ (σ' 0 0 = 0 → r = pS P x ∧ MIv σ' (eSet P x v) (pkL L P)) ∧ (σ' 0 0 ≠ 0 → MIv σ' P L) ∧ Fr [0, 1, 3, 4, 7, 8, 9, 10, 11, 12, 13, 14, 15, 16, 17, 18, 19] σ σ')) 0 0 A := by
  refine z_ofW (by decide) rfl ?_
  intro pp ee s0 mm below meth cc0 ls C hret hname hl hH hS
  have hl : lv_has ls 4 [(0, .ref o), (1, .int (iI x)), (2, .int (iI v))] := hl
  obtain ⟨hP, hk, hU, h4, hL, hLk⟩ := hI
  have hk9 := hk
  have hP9 := hP
  obtain ⟨k1, k2, k3, k4, k5, k6, k7, k8, k9, k10, k11⟩ := hk
  obtain ⟨p1, p2, p3, p4, p5⟩ := hP
  have pn0 : 0 ≤ pN P := by show (0 : Int) ≤ ((pB P).length : Int); omega
  have hI : MIv σ P L := ⟨hP9, hk9, hU, h4, hL, hLk⟩
  have hr_1 := hr.1
  have hr_2 := hr.2
  have hr2_1 := hr2.1
  have hr2_2 := hr2.2
  refine z_aload_n C dX3_set_0 hl 0 rfl ?_
  refine z_iload_n C dX3_set_1 hl 1 rfl ?_
  refine z_iload_n C dX3_set_2 hl 2 rfl ?_
  refine m_SiF C hH hS (mm_isSetting hOk σ x v (hr) (hr2)) (va_cwS 2 C.1.2.2.2.2 (lw_S q2485 q2486 q133 q2487) rfl rfl rfl (by decide +kernel) ⟨Nat.le_of_ble_eq_true rfl, Nat.le_of_ble_eq_true rfl⟩) rfl hl rfl (Nat.le_of_ble_eq_true rfl) dX3_set_3 ⟨Nat.le_refl _, Nat.le_refl _⟩ (fun H locs hH hS => ?_)
  refine z_topi (fun z_3 hz_3 => ?_)
  have q_3 := isSet_or x v
  rw [← hz_3] at q_3
  refine z_ifeq C dX3_set_6 (tgt := 13) (by decide) ⟨by omega, by omega⟩ (fun c_6 => ?_) (fun c_6 => ?_)
  · refine z_iconst C dX3_set_13 ?_
    refine m_puts C hH hS 0 ⟨by decide, by decide⟩ q2185 rfl ⟨rfl, rfl⟩ dX3_set_14 (fun H locs hH hS => ?_)
    refine z_aload_n C dX3_set_17 hl 0 rfl ?_
    refine m_getsZ C hH 0 ⟨by decide, by decide⟩ 1 rfl q2185 rfl dX3_set_18 ?_
    refine z_ifle C dX3_set_21 (tgt := 26) (by decide) ⟨by omega, by omega⟩ (fun c_21 => ?_) (fun c_21 => ?_)
    · exact absurd c_21 (by decide)
    · refine z_iconst C dX3_set_24 ?_
      refine m_iret C hret hH hS dX3_set_25 ?_
      refine ⟨by rw [show (su σ 0 0 1) 0 0 = 1 from (su_self _ _ _ _)]; first | (rw [if_pos (by omega)]; done) | (rw [if_neg (by omega)]; done) | (rw [if_neg (by omega), if_pos (by omega)]; done) | (rw [if_neg (by omega), if_neg (by omega)]; done), fun hth => absurd ((show (su σ 0 0 1) 0 0 = 1 from (su_self _ _ _ _)).symm.trans hth) (by decide), fun _ => hI.keep rfl rfl rfl, frSu Fr.rf rfl⟩
  · refine z_iconst C dX3_set_9 ?_
    refine z_goto C dX3_set_10 (tgt := 14) (by decide) ?_
    refine m_puts C hH hS 0 ⟨by decide, by decide⟩ q2185 rfl ⟨rfl, rfl⟩ dX3_set_14 (fun H locs hH hS => ?_)
    refine z_aload_n C dX3_set_17 hl 0 rfl ?_
    refine m_getsZ C hH 0 ⟨by decide, by decide⟩ 0 rfl q2185 rfl dX3_set_18 ?_
    refine z_ifle C dX3_set_21 (tgt := 26) (by decide) ⟨by omega, by omega⟩ (fun c_21_1 => ?_) (fun c_21_1 => ?_)
    · refine z_aload_n C dX3_set_26 hl 0 rfl ?_
      refine m_Vv C hH hS (mm_keeps hOk (su σ 0 0 0) P L (hI.keep rfl rfl rfl)) (cwV 0 C.1.2.2.2.2 (lw_V q2491 q2493 qs73 q133 q2494) rfl rfl rfl (by decide +kernel) ⟨Nat.le_of_ble_eq_true rfl, Nat.le_of_ble_eq_true rfl⟩) rfl hl rfl (Nat.le_of_ble_eq_true rfl) dX3_set_27 ⟨Nat.le_refl _, Nat.le_refl _⟩ (fun s_27 H locs hp_27 hH hS => ?_)
      obtain ⟨hf27, hu27, h427⟩ := hp_27
      have e1 : s_27 1 = σ 1 := by rw [hf27.at 1 rfl]; rfl
      refine z_aload_n C dX3_set_30 hl 0 rfl ?_
      refine m_geta C hH 1 ⟨by decide, by decide⟩ q2186 rfl dX3_set_31 ?_
      refine z_iconst C dX3_set_34 ?_
      refine z_iload_n C dX3_set_35 hl 1 rfl ?_
      refine z_iadd C dX3_set_36 ?_
      refine m_ialdZ C hOk hH 1 ⟨by decide, by decide⟩ (2 + x) (pS P x) (by rw [e1]; exact p3 x (by omega) (by omega)) (show 0 ≤ (2 + x) ∧ (2 + x) < (828 : Int) by omega) dX3_set_37 ?_
      refine z_istore_n C [(3, .int (iI (pS P x))), (0, .ref o), (1, .int (iI x)), (2, .int (iI v))] dX3_set_38 hl (by decide) rfl (fun ls hl => ?_)
      refine z_aload_n C dX3_set_39 hl 1 rfl ?_
      refine m_geta C hH 1 ⟨by decide, by decide⟩ q2186 rfl dX3_set_40 ?_
      refine z_iconst C dX3_set_43 ?_
      refine z_iload_n C dX3_set_44 hl 2 rfl ?_
      refine z_iadd C dX3_set_45 ?_
      refine z_iload_n C dX3_set_46 hl 3 rfl ?_
      refine m_iast C hOk hH hS 1 ⟨by decide, by decide⟩ (show 0 ≤ (2 + x) ∧ (2 + x) < (828 : Int) by omega) dX3_set_47 (fun H locs hH hS => ?_)
      refine z_iload_n C dX3_set_48 hl 0 rfl ?_
      refine m_iret C hret hH hS dX3_set_49 ?_
      refine ⟨by rw [show (su s_27 1 (2 + x) v) 0 0 = 0 from (by show s_27 0 0 = 0; rw [hf27.at 0 rfl]; exact su_self _ _ _ _)]; first | (rw [if_pos (by omega)]; done) | (rw [if_neg (by omega)]; done) | (rw [if_neg (by omega), if_pos (by omega)]; done) | (rw [if_neg (by omega), if_neg (by omega)]; done), fun _ => ⟨?_, ?_⟩, fun hth => absurd (show (su s_27 1 (2 + x) v) 0 0 = 0 from (by show s_27 0 0 = 0; rw [hf27.at 0 rfl]; exact su_self _ _ _ _)) hth, frSu (((frSu Fr.rf rfl)).th hf27 rfl) rfl⟩
      · rfl
      · exact ⟨⟨by show uZ (s_27 1) (2 + x) v 0 = _; rw [uZ_ne _ _ (by omega), e1]; exact p1, by show uZ (s_27 1) (2 + x) v 1 = _; rw [uZ_ne _ _ (by omega), e1]; exact p2, fun i a b => by
          show uZ (s_27 1) (2 + x) v (2 + i) = uZ (pS P) x v i
          unfold uZ
          by_cases e : i = x
          · rw [if_pos (by omega), if_pos e]
          · rw [if_neg (by omega), if_neg e, e1]; exact p3 i a b, fun i a b => by show uZ (s_27 1) (2 + x) v (8 + i) = _; rw [uZ_ne _ _ (by omega), e1]; exact p4 i a b, fun l k a b c d => by show uZ (s_27 1) (2 + x) v (28 + 40 * l + k) = _; rw [uZ_ne _ _ (by omega), e1]; exact p5 l k a b c d⟩, hk9.set (by omega) (by omega), hu27, h427, pkL_len L P hL, pkL_ok hLk hk9⟩
    · exact absurd c_21_1 (by decide)
set_option maxHeartbeats 1000000 in
theorem mm_lose {l : Launch} {D : va_G} {dA : Nat → ClassId} {A : Nat → Prop} {o : Nat} {ad : Nat → Nat} (hOk : mOk o ad) (σ : Sg) (ln : Int) (x : Int) (P : Pg) (L : List Pg) (hI : MIv σ P L) (hr : zR ln) (hr2 : zR x) : Met l yX3_lose (ws_ yX3_lose cX3_lose 4 (some .int)) (rmL 3 0 0) (MP D dA A o ad [.ref o, .int (iI ln), .int (iI x)] σ) (MQi D dA A o ad (fun r σ' => σ' 0 0 = (if ¬ (0 ≤ ln ∧ ln ≤ 19) then 1 else if 0 ≤ x ∧ x ≤ 5 then 0 else 2) ∧ (σ' 0 0 = 0 → r = pL P ln ∧ MIv σ' (eLose P ln x) (pkL L P)) ∧ (σ' 0 0 ≠ 0 → MIv σ' P L) ∧ Fr [0, 1, 3, 4, 7, 8, 9, 10, 11, 12, 13, 14, 15, 16, 17, 18, 19] σ σ')) 0 0 A := by
  refine z_ofW (by decide) rfl ?_
  intro pp ee s0 mm below meth cc0 ls C hret hname hl hH hS
  have hl : lv_has ls 4 [(0, .ref o), (1, .int (iI ln)), (2, .int (iI x))] := hl
  obtain ⟨hP, hk, hU, h4, hL, hLk⟩ := hI
  have hk9 := hk
  have hP9 := hP
  obtain ⟨k1, k2, k3, k4, k5, k6, k7, k8, k9, k10, k11⟩ := hk
  obtain ⟨p1, p2, p3, p4, p5⟩ := hP
  have pn0 : 0 ≤ pN P := by show (0 : Int) ≤ ((pB P).length : Int); omega
  have hI : MIv σ P L := ⟨hP9, hk9, hU, h4, hL, hLk⟩
  have hr_1 := hr.1
  have hr_2 := hr.2
  have hr2_1 := hr2.1
  have hr2_2 := hr2.2
  refine z_aload_n C dX3_lose_0 hl 0 rfl ?_
  refine z_iload_n C dX3_lose_1 hl 1 rfl ?_
  refine z_iconst C dX3_lose_2 ?_
  refine z_bipush C dX3_lose_3 (by decide +kernel) ?_
  refine m_SiF C hH hS (mm_in hOk σ ln 0 19 (⟨by omega, by omega⟩) (⟨by omega, by omega⟩) (⟨by omega, by omega⟩)) (va_cwS 3 C.1.2.2.2.2 (lw_S q2321 q2322 q133 q2323) rfl rfl rfl (by decide +kernel) ⟨Nat.le_of_ble_eq_true rfl, Nat.le_of_ble_eq_true rfl⟩) rfl hl rfl (Nat.le_of_ble_eq_true rfl) dX3_lose_5 ⟨Nat.le_refl _, Nat.le_refl _⟩ (fun H locs hH hS => ?_)
  refine z_topi (fun z_5 hz_5 => ?_)
  have q_5 := inZ_or ln 0 19
  rw [← hz_5] at q_5
  refine z_ifne C dX3_lose_8 (tgt := 15) (by decide) ⟨by omega, by omega⟩ (fun c_8 => ?_) (fun c_8 => ?_)
  · refine z_iload_n C dX3_lose_15 hl 2 rfl ?_
    refine z_iconst C dX3_lose_16 ?_
    refine z_iconst C dX3_lose_17 ?_
    refine m_SiF C hH hS (mm_in hOk σ x 0 5 (⟨by omega, by omega⟩) (⟨by omega, by omega⟩) (⟨by omega, by omega⟩)) (va_cwS 3 C.1.2.2.2.2 (lw_S q2321 q2322 q133 q2323) rfl rfl rfl (by decide +kernel) ⟨Nat.le_of_ble_eq_true rfl, Nat.le_of_ble_eq_true rfl⟩) rfl hl rfl (Nat.le_of_ble_eq_true rfl) dX3_lose_18 ⟨Nat.le_refl _, Nat.le_refl _⟩ (fun H locs hH hS => ?_)
    refine z_topi (fun z_18 hz_18 => ?_)
    have q_18 := inZ_or x 0 5
    rw [← hz_18] at q_18
    refine z_ifeq C dX3_lose_21 (tgt := 28) (by decide) ⟨by omega, by omega⟩ (fun c_21 => ?_) (fun c_21 => ?_)
    · refine z_iconst C dX3_lose_28 ?_
      refine m_puts C hH hS 0 ⟨by decide, by decide⟩ q2185 rfl ⟨rfl, rfl⟩ dX3_lose_29 (fun H locs hH hS => ?_)
      refine z_aload_n C dX3_lose_32 hl 0 rfl ?_
      refine m_getsZ C hH 0 ⟨by decide, by decide⟩ 2 rfl q2185 rfl dX3_lose_33 ?_
      refine z_ifle C dX3_lose_36 (tgt := 41) (by decide) ⟨by omega, by omega⟩ (fun c_36 => ?_) (fun c_36 => ?_)
      · exact absurd c_36 (by decide)
      · refine z_iconst C dX3_lose_39 ?_
        refine m_iret C hret hH hS dX3_lose_40 ?_
        refine ⟨by rw [show (su σ 0 0 2) 0 0 = 2 from (su_self _ _ _ _)]; first | (rw [if_pos (by omega)]; done) | (rw [if_neg (by omega)]; done) | (rw [if_neg (by omega), if_pos (by omega)]; done) | (rw [if_neg (by omega), if_neg (by omega)]; done), fun hth => absurd ((show (su σ 0 0 2) 0 0 = 2 from (su_self _ _ _ _)).symm.trans hth) (by decide), fun _ => hI.keep rfl rfl rfl, frSu Fr.rf rfl⟩
    · refine z_iconst C dX3_lose_24 ?_
      refine z_goto C dX3_lose_25 (tgt := 29) (by decide) ?_
      refine m_puts C hH hS 0 ⟨by decide, by decide⟩ q2185 rfl ⟨rfl, rfl⟩ dX3_lose_29 (fun H locs hH hS => ?_)
      refine z_aload_n C dX3_lose_32 hl 0 rfl ?_
      refine m_getsZ C hH 0 ⟨by decide, by decide⟩ 0 rfl q2185 rfl dX3_lose_33 ?_
      refine z_ifle C dX3_lose_36 (tgt := 41) (by decide) ⟨by omega, by omega⟩ (fun c_36_1 => ?_) (fun c_36_1 => ?_)
      · refine z_aload_n C dX3_lose_41 hl 0 rfl ?_
        refine m_Vv C hH hS (mm_keeps hOk (su σ 0 0 0) P L (hI.keep rfl rfl rfl)) (cwV 0 C.1.2.2.2.2 (lw_V q2491 q2493 qs73 q133 q2494) rfl rfl rfl (by decide +kernel) ⟨Nat.le_of_ble_eq_true rfl, Nat.le_of_ble_eq_true rfl⟩) rfl hl rfl (Nat.le_of_ble_eq_true rfl) dX3_lose_42 ⟨Nat.le_refl _, Nat.le_refl _⟩ (fun s_42 H locs hp_42 hH hS => ?_)
        obtain ⟨hf42, hu42, h442⟩ := hp_42
        have e1 : s_42 1 = σ 1 := by rw [hf42.at 1 rfl]; rfl
        refine z_aload_n C dX3_lose_45 hl 0 rfl ?_
        refine m_geta C hH 1 ⟨by decide, by decide⟩ q2186 rfl dX3_lose_46 ?_
        refine z_bipush C dX3_lose_49 (by decide +kernel) ?_
        refine z_iload_n C dX3_lose_51 hl 1 rfl ?_
        refine z_iadd C dX3_lose_52 ?_
        refine m_ialdZ C hOk hH 1 ⟨by decide, by decide⟩ (8 + ln) (pL P ln) (by rw [e1]; exact p4 ln (by omega) (by omega)) (show 0 ≤ (8 + ln) ∧ (8 + ln) < (828 : Int) by omega) dX3_lose_53 ?_
        refine z_istore_n C [(3, .int (iI (pL P ln))), (0, .ref o), (1, .int (iI ln)), (2, .int (iI x))] dX3_lose_54 hl (by decide) rfl (fun ls hl => ?_)
        refine z_aload_n C dX3_lose_55 hl 1 rfl ?_
        refine m_geta C hH 1 ⟨by decide, by decide⟩ q2186 rfl dX3_lose_56 ?_
        refine z_bipush C dX3_lose_59 (by decide +kernel) ?_
        refine z_iload_n C dX3_lose_61 hl 2 rfl ?_
        refine z_iadd C dX3_lose_62 ?_
        refine z_iload_n C dX3_lose_63 hl 3 rfl ?_
        refine m_iast C hOk hH hS 1 ⟨by decide, by decide⟩ (show 0 ≤ (8 + ln) ∧ (8 + ln) < (828 : Int) by omega) dX3_lose_64 (fun H locs hH hS => ?_)
        refine z_iload_n C dX3_lose_65 hl 0 rfl ?_
        refine m_iret C hret hH hS dX3_lose_66 ?_
        refine ⟨by rw [show (su s_42 1 (8 + ln) x) 0 0 = 0 from (by show s_42 0 0 = 0; rw [hf42.at 0 rfl]; exact su_self _ _ _ _)]; first | (rw [if_pos (by omega)]; done) | (rw [if_neg (by omega)]; done) | (rw [if_neg (by omega), if_pos (by omega)]; done) | (rw [if_neg (by omega), if_neg (by omega)]; done), fun _ => ⟨?_, ?_⟩, fun hth => absurd (show (su s_42 1 (8 + ln) x) 0 0 = 0 from (by show s_42 0 0 = 0; rw [hf42.at 0 rfl]; exact su_self _ _ _ _)) hth, frSu (((frSu Fr.rf rfl)).th hf42 rfl) rfl⟩
        · rfl
        · exact ⟨⟨by show uZ (s_42 1) (8 + ln) x 0 = _; rw [uZ_ne _ _ (by omega), e1]; exact p1, by show uZ (s_42 1) (8 + ln) x 1 = _; rw [uZ_ne _ _ (by omega), e1]; exact p2, fun i a b => by show uZ (s_42 1) (8 + ln) x (2 + i) = _; rw [uZ_ne _ _ (by omega), e1]; exact p3 i a b, fun i a b => by
            show uZ (s_42 1) (8 + ln) x (8 + i) = uZ (pL P) ln x i
            unfold uZ
            by_cases e : i = ln
            · rw [if_pos (by omega), if_pos e]
            · rw [if_neg (by omega), if_neg e, e1]; exact p4 i a b, fun l k a b c d => by show uZ (s_42 1) (8 + ln) x (28 + 40 * l + k) = _; rw [uZ_ne _ _ (by omega), e1]; exact p5 l k a b c d⟩, hk9.lose (by omega), hu42, h442, pkL_len L P hL, pkL_ok hLk hk9⟩
      · exact absurd c_36_1 (by decide)
  · refine z_iconst C dX3_lose_11 ?_
    refine z_goto C dX3_lose_12 (tgt := 29) (by decide) ?_
    refine m_puts C hH hS 0 ⟨by decide, by decide⟩ q2185 rfl ⟨rfl, rfl⟩ dX3_lose_29 (fun H locs hH hS => ?_)
    refine z_aload_n C dX3_lose_32 hl 0 rfl ?_
    refine m_getsZ C hH 0 ⟨by decide, by decide⟩ 1 rfl q2185 rfl dX3_lose_33 ?_
    refine z_ifle C dX3_lose_36 (tgt := 41) (by decide) ⟨by omega, by omega⟩ (fun c_36_2 => ?_) (fun c_36_2 => ?_)
    · exact absurd c_36_2 (by decide)
    · refine z_iconst C dX3_lose_39 ?_
      refine m_iret C hret hH hS dX3_lose_40 ?_
      refine ⟨by rw [show (su σ 0 0 1) 0 0 = 1 from (su_self _ _ _ _)]; first | (rw [if_pos (by omega)]; done) | (rw [if_neg (by omega)]; done) | (rw [if_neg (by omega), if_pos (by omega)]; done) | (rw [if_neg (by omega), if_neg (by omega)]; done), fun hth => absurd ((show (su σ 0 0 1) 0 0 = 1 from (su_self _ _ _ _)).symm.trans hth) (by decide), fun _ => hI.keep rfl rfl rfl, frSu Fr.rf rfl⟩
set_option maxHeartbeats 1000000 in
theorem mm_isPart {l : Launch} {D : va_G} {dA : Nat → ClassId} {A : Nat → Prop} {o : Nat} {ad : Nat → Nat} (hOk : mOk o ad) (σ : Sg) (f : Int) (t : Int) (P : Pg) (hP : PgAt (σ 1) P) (hk : PgOk P) (hr : zR f) (hr2 : zR t) : Met l yX3_isPart (ws_ yX3_isPart cX3_isPart 3 (some .boolean)) (rmL 2 0 0) (MP D dA A o ad [.ref o, .int (iI f), .int (iI t)] σ) (MQi D dA A o ad (fun r σ' => σ' = σ ∧ r = if (0 ≤ f ∧ f ≤ pW P) ∧ f ≤ t ∧ t ≤ pW P then 1 else 0)) 0 0 A := by
  refine z_ofW (by decide) rfl ?_
  intro pp ee s0 mm below meth cc0 ls C hret hname hl hH hS
  have hl : lv_has ls 3 [(0, .ref o), (1, .int (iI f)), (2, .int (iI t))] := hl
  have hk9 := hk
  have hP9 := hP
  obtain ⟨k1, k2, k3, k4, k5, k6, k7, k8, k9, k10, k11⟩ := hk
  obtain ⟨p1, p2, p3, p4, p5⟩ := hP
  have pn0 : 0 ≤ pN P := by show (0 : Int) ≤ ((pB P).length : Int); omega
  have hr_1 := hr.1
  have hr_2 := hr.2
  have hr2_1 := hr2.1
  have hr2_2 := hr2.2
  refine z_iload_n C dX3_isPart_0 hl 1 rfl ?_
  refine z_iconst C dX3_isPart_1 ?_
  refine z_aload_n C dX3_isPart_2 hl 0 rfl ?_
  refine m_geta C hH 1 ⟨by decide, by decide⟩ q2186 rfl dX3_isPart_3 ?_
  refine z_iconst C dX3_isPart_6 ?_
  refine m_ialdZ C hOk hH 1 ⟨by decide, by decide⟩ 0 (pW P) (p1) (show 0 ≤ 0 ∧ 0 < (828 : Int) by omega) dX3_isPart_7 ?_
  refine m_SiF C hH hS (mm_in hOk σ f 0 (pW P) (⟨by omega, by omega⟩) (⟨by omega, by omega⟩) (⟨by omega, by omega⟩)) (va_cwS 3 C.1.2.2.2.2 (lw_S q2321 q2322 q133 q2323) rfl rfl rfl (by decide +kernel) ⟨Nat.le_of_ble_eq_true rfl, Nat.le_of_ble_eq_true rfl⟩) rfl hl rfl (Nat.le_of_ble_eq_true rfl) dX3_isPart_8 ⟨Nat.le_refl _, Nat.le_refl _⟩ (fun H locs hH hS => ?_)
  refine z_topi (fun z_8 hz_8 => ?_)
  have q_8 := inZ_or f 0 (pW P)
  rw [← hz_8] at q_8
  refine z_ifeq C dX3_isPart_11 (tgt := 32) (by decide) ⟨by omega, by omega⟩ (fun c_11 => ?_) (fun c_11 => ?_)
  · refine z_iconst C dX3_isPart_32 ?_
    refine m_zret C hret hH hS (by omega) dX3_isPart_33 ?_
    refine ⟨rfl, ?_⟩
    first | (rw [if_pos (by omega)]; done) | (rw [if_neg (by omega)]; done)
  · refine z_iload_n C dX3_isPart_14 hl 2 rfl ?_
    refine z_iload_n C dX3_isPart_15 hl 1 rfl ?_
    refine z_aload_n C dX3_isPart_16 hl 0 rfl ?_
    refine m_geta C hH 1 ⟨by decide, by decide⟩ q2186 rfl dX3_isPart_17 ?_
    refine z_iconst C dX3_isPart_20 ?_
    refine m_ialdZ C hOk hH 1 ⟨by decide, by decide⟩ 0 (pW P) (p1) (show 0 ≤ 0 ∧ 0 < (828 : Int) by omega) dX3_isPart_21 ?_
    refine m_SiF C hH hS (mm_in hOk σ t f (pW P) (⟨by omega, by omega⟩) (⟨by omega, by omega⟩) (⟨by omega, by omega⟩)) (va_cwS 3 C.1.2.2.2.2 (lw_S q2321 q2322 q133 q2323) rfl rfl rfl (by decide +kernel) ⟨Nat.le_of_ble_eq_true rfl, Nat.le_of_ble_eq_true rfl⟩) rfl hl rfl (Nat.le_of_ble_eq_true rfl) dX3_isPart_22 ⟨Nat.le_refl _, Nat.le_refl _⟩ (fun H locs hH hS => ?_)
    refine z_topi (fun z_22 hz_22 => ?_)
    have q_22 := inZ_or t f (pW P)
    rw [← hz_22] at q_22
    refine z_ifeq C dX3_isPart_25 (tgt := 32) (by decide) ⟨by omega, by omega⟩ (fun c_25 => ?_) (fun c_25 => ?_)
    · refine z_iconst C dX3_isPart_32 ?_
      refine m_zret C hret hH hS (by omega) dX3_isPart_33 ?_
      refine ⟨rfl, ?_⟩
      first | (rw [if_pos (by omega)]; done) | (rw [if_neg (by omega)]; done)
    · refine z_iconst C dX3_isPart_28 ?_
      refine z_goto C dX3_isPart_29 (tgt := 33) (by decide) ?_
      refine m_zret C hret hH hS (by omega) dX3_isPart_33 ?_
      refine ⟨rfl, ?_⟩
      first | (rw [if_pos (by omega)]; done) | (rw [if_neg (by omega)]; done)
set_option maxHeartbeats 1000000 in
theorem mm_clearsLine {l : Launch} {D : va_G} {dA : Nat → ClassId} {A : Nat → Prop} {o : Nat} {ad : Nat → Nat} (hOk : mOk o ad) (σ : Sg) (ln : Int) (hl0 : 0 ≤ ln ∧ ln < 20) : Met l yX3_clearsLine (ws_ yX3_clearsLine cX3_clearsLine 3 none) (rmL 2 0 0) (MP D dA A o ad [.ref o, .int (iI ln)] σ) (MQv D dA A o ad (fun σ' => σ' = (sa σ 1 (wr (fun _ => 0) (σ 1) (28 + 40 * ln) (28 + 40 * ln + 40))))) 0 0 A := by
  refine z_ofW (by decide) rfl ?_
  intro pp ee s0 mm below meth cc0 ls C hret hname hl hH hS
  have hl : lv_has ls 3 [(0, .ref o), (1, .int (iI ln))] := hl
  refine z_iconst C dX3_clearsLine_0 ?_
  refine z_istore_n C [(2, .int (iI 0)), (0, .ref o), (1, .int (iI ln))] dX3_clearsLine_1 hl (by decide) rfl (fun ls hl => ?_)
  have J_2 : ∀ (fu : Nat) (k : Int) (s1 : Sg), (40 - k).toNat < fu → (0 ≤ k ∧ k ≤ 40) → (s1 = sa σ 1 (wr (fun _ => 0) (σ 1) (28 + 40 * ln) (28 + 40 * ln + k))) → ∀ (H : Heap) (locs : List Loc) (ls : Array Slot), MH D dA A o ad s1 H → va_S A s0.heap H locs → lv_has ls 3 [(2, .int (iI k)), (0, .ref o), (1, .int (iI ln))] → W pp l ee (rmL 2 0 0) s0 mm ([.ref o, .int (iI ln)] : List Value).toArray below meth cc0 H locs 0 0 (MQ below (MQv D dA A o ad (fun σ' => σ' = (sa σ 1 (wr (fun _ => 0) (σ 1) (28 + 40 * ln) (28 + 40 * ln + 40))))) ([.ref o, .int (iI ln)] : List Value).toArray s0 0 0 A) (F0 mm 2 ls []) := by
    intro fu
    induction fu with
    | zero => intro k s1 hn; exact absurd hn (Nat.not_lt_zero _)
    | succ fu ih_2 =>
      intro k s1 hn hk0 hs H locs ls hH hS hl
      refine z_iload_n C dX3_clearsLine_2 hl 0 rfl ?_
      refine z_bipush C dX3_clearsLine_3 (by decide +kernel) ?_
      refine z_icmpge C dX3_clearsLine_5 (tgt := 25) (by decide) ⟨⟨by omega, by omega⟩, ⟨by omega, by omega⟩⟩ (fun c_5 => ?_) (fun c_5 => ?_)
      · refine m_vret C hret hH hS dX3_clearsLine_25 ?_
        rw [hs, show k = 40 by omega]
      · refine z_aload_n C dX3_clearsLine_8 hl 1 rfl ?_
        refine m_geta C hH 1 ⟨by decide, by decide⟩ q2186 rfl dX3_clearsLine_9 ?_
        refine z_iload_n C dX3_clearsLine_12 hl 2 rfl ?_
        refine z_iload_n C dX3_clearsLine_13 hl 0 rfl ?_
        refine m_SiF C hH hS (mm_dotAt hOk s1 ln k) (va_cwS 2 C.1.2.2.2.2 (lw_S q2332 q2333 q133 q2334) rfl rfl rfl (by decide +kernel) ⟨Nat.le_of_ble_eq_true rfl, Nat.le_of_ble_eq_true rfl⟩) rfl hl rfl (Nat.le_of_ble_eq_true rfl) dX3_clearsLine_14 ⟨Nat.le_refl _, Nat.le_refl _⟩ (fun H locs hH hS => ?_)
        refine z_iconst C dX3_clearsLine_17 ?_
        refine m_iast C hOk hH hS 1 ⟨by decide, by decide⟩ (show 0 ≤ (28 + 40 * ln + k) ∧ (28 + 40 * ln + k) < (828 : Int) by omega) dX3_clearsLine_18 (fun H locs hH hS => ?_)
        refine z_iinc C [(2, .int (iI (k + 1))), (0, .ref o), (1, .int (iI ln))] dX3_clearsLine_19 hl 0 rfl (by decide) rfl (fun ls hl => ?_)
        refine z_goto C dX3_clearsLine_22 (tgt := 2) (by decide) ?_
        exact ih_2 ((k + 1)) ((su s1 1 (28 + 40 * ln + k) 0)) (by omega) (by omega) (by rw [hs, ← Int.add_assoc]; exact su_wr σ 1 (fun _ => 0) _ (by omega)) _ _ _ hH hS (lv_sub hl [0, 1, 2] rfl)
  exact J_2 _ 0 σ (Nat.lt_succ_self _) (by omega) (by rw [Int.add_zero, wr_0, sa_id]) _ _ _ hH hS (lv_sub hl [0, 1, 2] rfl)
set_option maxHeartbeats 1000000 in
theorem mm_paintsLine {l : Launch} {D : va_G} {dA : Nat → ClassId} {A : Nat → Prop} {o : Nat} {ad : Nat → Nat} (hOk : mOk o ad) (σ : Sg) (ln : Int) (f : Int) (t : Int) (cc : Int) (hl0 : 0 ≤ ln ∧ ln < 20) (hft : 0 ≤ f ∧ f ≤ t ∧ t ≤ 40) (hc : 0 ≤ cc ∧ cc ≤ 1) (hz : ∀ k, f ≤ k → k < t → σ 1 (28 + 40 * ln + k) = 0 ∨ σ 1 (28 + 40 * ln + k) = 1) : Met l yX3_paintsLine (ws_ yX3_paintsLine cX3_paintsLine 7 (some .int)) (rmL 2 0 0) (MP D dA A o ad [.ref o, .int (iI ln), .int (iI f), .int (iI t), .int (iI cc)] σ) (MQi D dA A o ad (fun r σ' => r = cnt (fun k => if f ≤ k ∧ k < t ∧ σ 1 (28 + 40 * ln + k) ≠ cc then 1 else 0) t ∧ σ' = sa σ 1 (wr (fun _ => cc) (σ 1) (28 + 40 * ln + f) (28 + 40 * ln + t)))) 0 0 A := by
  refine z_ofW (by decide) rfl ?_
  intro pp ee s0 mm below meth cc0 ls C hret hname hl hH hS
  have hl : lv_has ls 7 [(0, .ref o), (1, .int (iI ln)), (2, .int (iI f)), (3, .int (iI t)), (4, .int (iI cc))] := hl
  refine z_iconst C dX3_paintsLine_0 ?_
  refine z_istore C [(5, .int (iI 0)), (0, .ref o), (1, .int (iI ln)), (2, .int (iI f)), (3, .int (iI t)), (4, .int (iI cc))] dX3_paintsLine_1 hl (by decide) rfl (fun ls hl => ?_)
  refine z_iload_n C dX3_paintsLine_3 hl 3 rfl ?_
  refine z_istore C [(6, .int (iI f)), (5, .int (iI 0)), (0, .ref o), (1, .int (iI ln)), (2, .int (iI f)), (3, .int (iI t)), (4, .int (iI cc))] dX3_paintsLine_4 hl (by decide) rfl (fun ls hl => ?_)
  have J_6 : ∀ (fu : Nat) (n : Int) (k : Int) (s1 : Sg), (t - k).toNat < fu → (f ≤ k ∧ k ≤ t) → (s1 = sa σ 1 (wr (fun _ => cc) (σ 1) (28 + 40 * ln + f) (28 + 40 * ln + k))) → (n = cnt (fun k => if f ≤ k ∧ k < t ∧ σ 1 (28 + 40 * ln + k) ≠ cc then 1 else 0) k) → ∀ (H : Heap) (locs : List Loc) (ls : Array Slot), MH D dA A o ad s1 H → va_S A s0.heap H locs → lv_has ls 7 [(6, .int (iI k)), (5, .int (iI n)), (0, .ref o), (1, .int (iI ln)), (2, .int (iI f)), (3, .int (iI t)), (4, .int (iI cc))] → W pp l ee (rmL 2 0 0) s0 mm ([.ref o, .int (iI ln), .int (iI f), .int (iI t), .int (iI cc)] : List Value).toArray below meth cc0 H locs 0 0 (MQ below (MQi D dA A o ad (fun r σ' => r = cnt (fun k => if f ≤ k ∧ k < t ∧ σ 1 (28 + 40 * ln + k) ≠ cc then 1 else 0) t ∧ σ' = sa σ 1 (wr (fun _ => cc) (σ 1) (28 + 40 * ln + f) (28 + 40 * ln + t)))) ([.ref o, .int (iI ln), .int (iI f), .int (iI t), .int (iI cc)] : List Value).toArray s0 0 0 A) (F0 mm 6 ls []) := by
    intro fu
    induction fu with
    | zero => intro n k s1 hn; exact absurd hn (Nat.not_lt_zero _)
    | succ fu ih_6 =>
      intro n k s1 hn hk0 hs hn H locs ls hH hS hl
      refine z_iload C dX3_paintsLine_6 hl 0 rfl ?_
      refine z_iload_n C dX3_paintsLine_8 hl 5 rfl ?_
      refine z_icmpge C dX3_paintsLine_9 (tgt := 57) (by decide) ⟨⟨by omega, by omega⟩, ⟨by omega, by omega⟩⟩ (fun c_9 => ?_) (fun c_9 => ?_)
      · refine z_iload C dX3_paintsLine_57 hl 1 rfl ?_
        refine m_iret C hret hH hS dX3_paintsLine_59 ?_
        exact ⟨by rw [hn, show k = t by omega], by rw [hs, show k = t by omega]⟩
      · have v1 := hz k (by omega) (by omega)
        refine z_iload C dX3_paintsLine_12 hl 1 rfl ?_
        refine z_aload_n C dX3_paintsLine_14 hl 2 rfl ?_
        refine m_geta C hH 1 ⟨by decide, by decide⟩ q2186 rfl dX3_paintsLine_15 ?_
        refine z_iload_n C dX3_paintsLine_18 hl 3 rfl ?_
        refine z_iload C dX3_paintsLine_19 hl 0 rfl ?_
        refine m_SiF C hH hS (mm_dotAt hOk s1 ln k) (va_cwS 2 C.1.2.2.2.2 (lw_S q2332 q2333 q133 q2334) rfl rfl rfl (by decide +kernel) ⟨Nat.le_of_ble_eq_true rfl, Nat.le_of_ble_eq_true rfl⟩) rfl hl rfl (Nat.le_of_ble_eq_true rfl) dX3_paintsLine_21 ⟨Nat.le_refl _, Nat.le_refl _⟩ (fun H locs hH hS => ?_)
        refine m_ialdZ C hOk hH 1 ⟨by decide, by decide⟩ (28 + 40 * ln + k) (σ 1 (28 + 40 * ln + k)) (by rw [hs, sa_k, wr_out _ _ (by omega)]) (show 0 ≤ (28 + 40 * ln + k) ∧ (28 + 40 * ln + k) < (828 : Int) by omega) dX3_paintsLine_24 ?_
        refine z_iload C dX3_paintsLine_25 hl 6 rfl ?_
        refine z_icmpne C dX3_paintsLine_27 (tgt := 34) (by decide) ⟨⟨by omega, by omega⟩, ⟨by omega, by omega⟩⟩ (fun c_27 => ?_) (fun c_27 => ?_)
        · refine z_iconst C dX3_paintsLine_34 ?_
          refine z_iadd C dX3_paintsLine_35 ?_
          refine z_istore C [(5, .int (iI (n + 1))), (6, .int (iI k)), (0, .ref o), (1, .int (iI ln)), (2, .int (iI f)), (3, .int (iI t)), (4, .int (iI cc))] dX3_paintsLine_36 hl (by decide) rfl (fun ls hl => ?_)
          refine z_aload_n C dX3_paintsLine_38 hl 2 rfl ?_
          refine m_geta C hH 1 ⟨by decide, by decide⟩ q2186 rfl dX3_paintsLine_39 ?_
          refine z_iload_n C dX3_paintsLine_42 hl 3 rfl ?_
          refine z_iload C dX3_paintsLine_43 hl 1 rfl ?_
          refine m_SiF C hH hS (mm_dotAt hOk s1 ln k) (va_cwS 2 C.1.2.2.2.2 (lw_S q2332 q2333 q133 q2334) rfl rfl rfl (by decide +kernel) ⟨Nat.le_of_ble_eq_true rfl, Nat.le_of_ble_eq_true rfl⟩) rfl hl rfl (Nat.le_of_ble_eq_true rfl) dX3_paintsLine_45 ⟨Nat.le_refl _, Nat.le_refl _⟩ (fun H locs hH hS => ?_)
          refine z_iload C dX3_paintsLine_48 hl 6 rfl ?_
          refine m_iast C hOk hH hS 1 ⟨by decide, by decide⟩ (show 0 ≤ (28 + 40 * ln + k) ∧ (28 + 40 * ln + k) < (828 : Int) by omega) dX3_paintsLine_50 (fun H locs hH hS => ?_)
          refine z_iinc C [(6, .int (iI (k + 1))), (5, .int (iI (n + 1))), (0, .ref o), (1, .int (iI ln)), (2, .int (iI f)), (3, .int (iI t)), (4, .int (iI cc))] dX3_paintsLine_51 hl 1 rfl (by decide) rfl (fun ls hl => ?_)
          refine z_goto C dX3_paintsLine_54 (tgt := 6) (by decide) ?_
          exact ih_6 ((n + 1)) ((k + 1)) ((su s1 1 (28 + 40 * ln + k) cc)) (by omega) (by omega) (by rw [hs, ← Int.add_assoc]; exact su_wr σ 1 (fun _ => cc) _ (by omega)) (by rw [cnt_go _ (by omega), ← hn, if_pos ⟨by omega, by omega, by omega⟩]) _ _ _ hH hS (lv_sub hl [0, 1, 2, 3, 4, 5, 6] rfl)
        · refine z_iconst C dX3_paintsLine_30 ?_
          refine z_goto C dX3_paintsLine_31 (tgt := 35) (by decide) ?_
          refine z_iadd C dX3_paintsLine_35 ?_
          refine z_istore C [(5, .int (iI (n + 0))), (6, .int (iI k)), (0, .ref o), (1, .int (iI ln)), (2, .int (iI f)), (3, .int (iI t)), (4, .int (iI cc))] dX3_paintsLine_36 hl (by decide) rfl (fun ls hl => ?_)
          refine z_aload_n C dX3_paintsLine_38 hl 2 rfl ?_
          refine m_geta C hH 1 ⟨by decide, by decide⟩ q2186 rfl dX3_paintsLine_39 ?_
          refine z_iload_n C dX3_paintsLine_42 hl 3 rfl ?_
          refine z_iload C dX3_paintsLine_43 hl 1 rfl ?_
          refine m_SiF C hH hS (mm_dotAt hOk s1 ln k) (va_cwS 2 C.1.2.2.2.2 (lw_S q2332 q2333 q133 q2334) rfl rfl rfl (by decide +kernel) ⟨Nat.le_of_ble_eq_true rfl, Nat.le_of_ble_eq_true rfl⟩) rfl hl rfl (Nat.le_of_ble_eq_true rfl) dX3_paintsLine_45 ⟨Nat.le_refl _, Nat.le_refl _⟩ (fun H locs hH hS => ?_)
          refine z_iload C dX3_paintsLine_48 hl 6 rfl ?_
          refine m_iast C hOk hH hS 1 ⟨by decide, by decide⟩ (show 0 ≤ (28 + 40 * ln + k) ∧ (28 + 40 * ln + k) < (828 : Int) by omega) dX3_paintsLine_50 (fun H locs hH hS => ?_)
          refine z_iinc C [(6, .int (iI (k + 1))), (5, .int (iI (n + 0))), (0, .ref o), (1, .int (iI ln)), (2, .int (iI f)), (3, .int (iI t)), (4, .int (iI cc))] dX3_paintsLine_51 hl 1 rfl (by decide) rfl (fun ls hl => ?_)
          refine z_goto C dX3_paintsLine_54 (tgt := 6) (by decide) ?_
          exact ih_6 ((n + 0)) ((k + 1)) ((su s1 1 (28 + 40 * ln + k) cc)) (by omega) (by omega) (by rw [hs, ← Int.add_assoc]; exact su_wr σ 1 (fun _ => cc) _ (by omega)) (by rw [cnt_go _ (by omega), ← hn, if_neg (by omega)]) _ _ _ hH hS (lv_sub hl [0, 1, 2, 3, 4, 5, 6] rfl)
  exact J_6 _ 0 f σ (Nat.lt_succ_self _) (by omega) (by rw [wr_0, sa_id]) (by rw [cnt_0s (fun k a b => if_neg (by omega))]) _ _ _ hH hS (lv_sub hl [0, 1, 2, 3, 4, 5, 6] rfl)
set_option maxHeartbeats 1000000 in
theorem mm_addLine {l : Launch} {D : va_G} {dA : Nat → ClassId} {A : Nat → Prop} {o : Nat} {ad : Nat → Nat} (hOk : mOk o ad) (σ : Sg) (f : Int) (t : Int) (P : Pg) (L : List Pg) (hI : MIv σ P L) (hr : zR f) (hr2 : zR t) : Met l yX3_addLine (ws_ yX3_addLine cX3_addLine 5 (some .int)) (rmL 4 0 0) (MP D dA A o ad [.ref o, .int (iI f), .int (iI t)] σ) (MQi D dA A o ad (fun r σ' => σ' 0 0 = (if ¬ ((0 ≤ f ∧ f ≤ pW P) ∧ f ≤ t ∧ t ≤ pW P) then 1 else if pN P < 20 then 0 else 2) ∧ (σ' 0 0 = 0 → r = pN P ∧ MIv σ' (eAdd P f t) (pkL L P)) ∧ (σ' 0 0 ≠ 0 → MIv σ' P L) ∧ Fr [0, 1, 3, 4, 7, 8, 9, 10, 11, 12, 13, 14, 15, 16, 17, 18, 19] σ σ')) 0 0 A := by
  refine z_ofW (by decide) rfl ?_
  intro pp ee s0 mm below meth cc0 ls C hret hname hl hH hS
  have hl : lv_has ls 5 [(0, .ref o), (1, .int (iI f)), (2, .int (iI t))] := hl
  obtain ⟨hP, hk, hU, h4, hL, hLk⟩ := hI
  have hk9 := hk
  have hP9 := hP
  obtain ⟨k1, k2, k3, k4, k5, k6, k7, k8, k9, k10, k11⟩ := hk
  obtain ⟨p1, p2, p3, p4, p5⟩ := hP
  have pn0 : 0 ≤ pN P := by show (0 : Int) ≤ ((pB P).length : Int); omega
  have hI : MIv σ P L := ⟨hP9, hk9, hU, h4, hL, hLk⟩
  have hr_1 := hr.1
  have hr_2 := hr.2
  have hr2_1 := hr2.1
  have hr2_2 := hr2.2
  refine z_aload_n C dX3_addLine_0 hl 0 rfl ?_
  refine z_aload_n C dX3_addLine_1 hl 0 rfl ?_
  refine z_iload_n C dX3_addLine_2 hl 1 rfl ?_
  refine z_iload_n C dX3_addLine_3 hl 2 rfl ?_
  refine m_ViF C hH hS (mm_isPart hOk σ f t P (hP9) (hk9) (hr) (hr2)) (cwV 2 C.1.2.2.2.2 (lw_V q2503 q2505 qs74 q133 q2506) rfl rfl rfl (by decide +kernel) ⟨Nat.le_of_ble_eq_true rfl, Nat.le_of_ble_eq_true rfl⟩) rfl hl rfl (Nat.le_of_ble_eq_true rfl) dX3_addLine_4 ⟨Nat.le_refl _, Nat.le_refl _⟩ (fun H locs hH hS => ?_)
  refine z_topi (fun z_4 hz_4 => ?_)
  have q_4 := isPart_or f t (pW P)
  rw [← hz_4] at q_4
  refine z_ifne C dX3_addLine_7 (tgt := 14) (by decide) ⟨by omega, by omega⟩ (fun c_7 => ?_) (fun c_7 => ?_)
  · refine z_aload_n C dX3_addLine_14 hl 0 rfl ?_
    refine m_geta C hH 1 ⟨by decide, by decide⟩ q2186 rfl dX3_addLine_15 ?_
    refine z_iconst C dX3_addLine_18 ?_
    refine m_ialdZ C hOk hH 1 ⟨by decide, by decide⟩ 1 (pN P) (p2) (show 0 ≤ 1 ∧ 1 < (828 : Int) by omega) dX3_addLine_19 ?_
    refine z_bipush C dX3_addLine_20 (by decide +kernel) ?_
    refine z_icmpge C dX3_addLine_22 (tgt := 29) (by decide) ⟨⟨by omega, by omega⟩, ⟨by omega, by omega⟩⟩ (fun c_22 => ?_) (fun c_22 => ?_)
    · refine z_iconst C dX3_addLine_29 ?_
      refine m_puts C hH hS 0 ⟨by decide, by decide⟩ q2185 rfl ⟨rfl, rfl⟩ dX3_addLine_30 (fun H locs hH hS => ?_)
      refine z_aload_n C dX3_addLine_33 hl 0 rfl ?_
      refine m_getsZ C hH 0 ⟨by decide, by decide⟩ 2 rfl q2185 rfl dX3_addLine_34 ?_
      refine z_ifle C dX3_addLine_37 (tgt := 42) (by decide) ⟨by omega, by omega⟩ (fun c_37 => ?_) (fun c_37 => ?_)
      · exact absurd c_37 (by decide)
      · refine z_iconst C dX3_addLine_40 ?_
        refine m_iret C hret hH hS dX3_addLine_41 ?_
        refine ⟨by rw [show (su σ 0 0 2) 0 0 = 2 from (su_self _ _ _ _)]; first | (rw [if_pos (by omega)]; done) | (rw [if_neg (by omega)]; done) | (rw [if_neg (by omega), if_pos (by omega)]; done) | (rw [if_neg (by omega), if_neg (by omega)]; done), fun hth => absurd ((show (su σ 0 0 2) 0 0 = 2 from (su_self _ _ _ _)).symm.trans hth) (by decide), fun _ => hI.keep rfl rfl rfl, frSu Fr.rf rfl⟩
    · refine z_iconst C dX3_addLine_25 ?_
      refine z_goto C dX3_addLine_26 (tgt := 30) (by decide) ?_
      refine m_puts C hH hS 0 ⟨by decide, by decide⟩ q2185 rfl ⟨rfl, rfl⟩ dX3_addLine_30 (fun H locs hH hS => ?_)
      refine z_aload_n C dX3_addLine_33 hl 0 rfl ?_
      refine m_getsZ C hH 0 ⟨by decide, by decide⟩ 0 rfl q2185 rfl dX3_addLine_34 ?_
      refine z_ifle C dX3_addLine_37 (tgt := 42) (by decide) ⟨by omega, by omega⟩ (fun c_37_1 => ?_) (fun c_37_1 => ?_)
      · refine z_aload_n C dX3_addLine_42 hl 0 rfl ?_
        refine m_Vv C hH hS (mm_keeps hOk (su σ 0 0 0) P L (hI.keep rfl rfl rfl)) (cwV 0 C.1.2.2.2.2 (lw_V q2491 q2493 qs73 q133 q2494) rfl rfl rfl (by decide +kernel) ⟨Nat.le_of_ble_eq_true rfl, Nat.le_of_ble_eq_true rfl⟩) rfl hl rfl (Nat.le_of_ble_eq_true rfl) dX3_addLine_43 ⟨Nat.le_refl _, Nat.le_refl _⟩ (fun s_43 H locs hp_43 hH hS => ?_)
        obtain ⟨hf43, hu43, h443⟩ := hp_43
        have e1 : s_43 1 = σ 1 := by rw [hf43.at 1 rfl]; rfl
        refine z_aload_n C dX3_addLine_46 hl 0 rfl ?_
        refine m_geta C hH 1 ⟨by decide, by decide⟩ q2186 rfl dX3_addLine_47 ?_
        refine z_iconst C dX3_addLine_50 ?_
        refine m_ialdZ C hOk hH 1 ⟨by decide, by decide⟩ 1 (pN P) (by rw [e1]; exact p2) (show 0 ≤ 1 ∧ 1 < (828 : Int) by omega) dX3_addLine_51 ?_
        refine z_istore_n C [(3, .int (iI (pN P))), (0, .ref o), (1, .int (iI f)), (2, .int (iI t))] dX3_addLine_52 hl (by decide) rfl (fun ls hl => ?_)
        refine z_aload_n C dX3_addLine_53 hl 1 rfl ?_
        refine z_iload_n C dX3_addLine_54 hl 0 rfl ?_
        refine m_VvF C hH hS (mm_clearsLine hOk s_43 (pN P) (by omega)) (cwV 1 C.1.2.2.2.2 (lw_V q2507 q2509 qs75 q133 q2510) rfl rfl rfl (by decide +kernel) ⟨Nat.le_of_ble_eq_true rfl, Nat.le_of_ble_eq_true rfl⟩) rfl hl rfl (Nat.le_of_ble_eq_true rfl) dX3_addLine_55 ⟨Nat.le_refl _, Nat.le_refl _⟩ (fun H locs hH hS => ?_)
        refine z_aload_n C dX3_addLine_58 hl 1 rfl ?_
        refine z_iload_n C dX3_addLine_59 hl 0 rfl ?_
        refine z_iload_n C dX3_addLine_60 hl 2 rfl ?_
        refine z_iload_n C dX3_addLine_61 hl 3 rfl ?_
        refine z_iconst C dX3_addLine_62 ?_
        refine m_Vi C hH hS (mm_paintsLine hOk (sa s_43 1 (wr (fun _ => 0) (s_43 1) (28 + 40 * (pN P)) (28 + 40 * (pN P) + 40))) (pN P) f t 1 (by omega) (by omega) (by omega) (fun k a b => Or.inl (by show wr (fun _ => 0) (s_43 1) (28 + 40 * pN P) (28 + 40 * pN P + 40) (28 + 40 * pN P + k) = 0; rw [wr_in _ _ (by omega) (by omega)]))) (cwV 4 C.1.2.2.2.2 (lw_V q2511 q2513 qs76 q133 q2514) rfl rfl rfl (by decide +kernel) ⟨Nat.le_of_ble_eq_true rfl, Nat.le_of_ble_eq_true rfl⟩) rfl hl rfl (Nat.le_of_ble_eq_true rfl) dX3_addLine_63 ⟨Nat.le_refl _, Nat.le_refl _⟩ (fun r_63 s_63 H locs hp_63 hH hS => ?_)
        obtain ⟨hr63, hs63⟩ := hp_63
        subst hs63
        refine z_istore C [(4, .int (iI r_63)), (3, .int (iI (pN P))), (0, .ref o), (1, .int (iI f)), (2, .int (iI t))] dX3_addLine_66 hl (by decide) rfl (fun ls hl => ?_)
        refine z_aload_n C dX3_addLine_68 hl 2 rfl ?_
        refine m_geta C hH 1 ⟨by decide, by decide⟩ q2186 rfl dX3_addLine_69 ?_
        refine z_iconst C dX3_addLine_72 ?_
        refine lv_dup2_11 C.1.1 C.1.2.1 dX3_addLine_73 rfl rfl ?_
        refine m_ialdZ C hOk hH 1 ⟨by decide, by decide⟩ 1 (pN P) (by show wr (fun _ => 1) (wr (fun _ => 0) (s_43 1) (28 + 40 * pN P) (28 + 40 * pN P + 40)) (28 + 40 * pN P + f) (28 + 40 * pN P + t) 1 = pN P; rw [wr_out _ _ (by omega), wr_out _ _ (by omega), e1]; exact p2) (show 0 ≤ 1 ∧ 1 < (828 : Int) by omega) dX3_addLine_74 ?_
        refine z_iconst C dX3_addLine_75 ?_
        refine z_iadd C dX3_addLine_76 ?_
        refine m_iast C hOk hH hS 1 ⟨by decide, by decide⟩ (show 0 ≤ 1 ∧ 1 < (828 : Int) by omega) dX3_addLine_77 (fun H locs hH hS => ?_)
        refine z_iload_n C dX3_addLine_78 hl 1 rfl ?_
        refine m_iret C hret hH hS dX3_addLine_79 ?_
        refine ⟨by rw [show (su ((sa (sa s_43 1 (wr (fun _ => 0) (s_43 1) (28 + 40 * pN P) (28 + 40 * pN P + 40))) 1 (wr (fun _ => 1) (sa s_43 1 (wr (fun _ => 0) (s_43 1) (28 + 40 * pN P) (28 + 40 * pN P + 40)) 1) (28 + 40 * pN P + f) (28 + 40 * pN P + t)))) 1 1 ((pN P) + 1)) 0 0 = 0 from (by show s_43 0 0 = 0; rw [hf43.at 0 rfl]; exact su_self _ _ _ _)]; first | (rw [if_pos (by omega)]; done) | (rw [if_neg (by omega)]; done) | (rw [if_neg (by omega), if_pos (by omega)]; done) | (rw [if_neg (by omega), if_neg (by omega)]; done), fun _ => ⟨?_, ?_⟩, fun hth => absurd (show (su ((sa (sa s_43 1 (wr (fun _ => 0) (s_43 1) (28 + 40 * pN P) (28 + 40 * pN P + 40))) 1 (wr (fun _ => 1) (sa s_43 1 (wr (fun _ => 0) (s_43 1) (28 + 40 * pN P) (28 + 40 * pN P + 40)) 1) (28 + 40 * pN P + f) (28 + 40 * pN P + t)))) 1 1 ((pN P) + 1)) 0 0 = 0 from (by show s_43 0 0 = 0; rw [hf43.at 0 rfl]; exact su_self _ _ _ _)) hth, frSu (frSa (frSa (((frSu Fr.rf rfl)).th hf43 rfl) rfl) rfl) rfl⟩
        · rfl
        · exact ⟨PgAt.bits hP9 (fun j a b c => by
            show uZ (wr (fun _ => 1) (wr (fun _ => 0) (s_43 1) (28 + 40 * pN P) (28 + 40 * pN P + 40)) (28 + 40 * pN P + f) (28 + 40 * pN P + t)) 1 (pN P + 1) j = σ 1 j
            rw [uZ_ne _ _ c, wr_out _ _ (by omega), wr_out _ _ (by omega), e1]) (by show uZ (wr (fun _ => 1) (wr (fun _ => 0) (s_43 1) (28 + 40 * pN P) (28 + 40 * pN P + 40)) (28 + 40 * pN P + f) (28 + 40 * pN P + t)) 1 (pN P + 1) 1 = _; rw [uZ_self, List.length_append]; rfl) (fun l k a b c d => by
            rw [List.length_append] at b
            show uZ (wr (fun _ => 1) (wr (fun _ => 0) (s_43 1) (28 + 40 * pN P) (28 + 40 * pN P + 40)) (28 + 40 * pN P + f) (28 + 40 * pN P + t)) 1 (pN P + 1) (28 + 40 * l + k) = _
            have en : pN P = ((pB P).length : Int) := rfl
            rw [uZ_ne _ _ (by omega)]
            by_cases hl : l = pN P
            · subst hl
              rw [List.getD_eq_getElem?_getD, List.getElem?_append_right (by omega), show (pN P).toNat - (pB P).length = 0 by omega]
              rw [show ([bI (pW P) (fun k => decide (f ≤ k ∧ k < t))][0]?.getD 0) = bI (pW P) (fun k => decide (f ≤ k ∧ k < t)) from rfl, dz_bI c d]
              by_cases hkk : f ≤ k ∧ k < t
              · rw [wr_in _ _ (by omega) (by omega), if_pos (by simpa using hkk)]
              · rw [wr_out _ _ (by omega), wr_in _ _ (by omega) (by omega), if_neg (by simpa using hkk)]
            · simp at b
              rw [wr_out _ _ (by omega), wr_out _ _ (by omega), e1, p5 l k a (by omega) c d, List.getD_eq_getElem?_getD, List.getElem?_append_left (by omega)]
              unfold lnZ; rw [List.getD_eq_getElem?_getD]), hk9.add (by omega) f t, hu43, h443, pkL_len L P hL, pkL_ok hLk hk9⟩
      · exact absurd c_37_1 (by decide)
  · refine z_iconst C dX3_addLine_10 ?_
    refine z_goto C dX3_addLine_11 (tgt := 30) (by decide) ?_
    refine m_puts C hH hS 0 ⟨by decide, by decide⟩ q2185 rfl ⟨rfl, rfl⟩ dX3_addLine_30 (fun H locs hH hS => ?_)
    refine z_aload_n C dX3_addLine_33 hl 0 rfl ?_
    refine m_getsZ C hH 0 ⟨by decide, by decide⟩ 1 rfl q2185 rfl dX3_addLine_34 ?_
    refine z_ifle C dX3_addLine_37 (tgt := 42) (by decide) ⟨by omega, by omega⟩ (fun c_37_2 => ?_) (fun c_37_2 => ?_)
    · exact absurd c_37_2 (by decide)
    · refine z_iconst C dX3_addLine_40 ?_
      refine m_iret C hret hH hS dX3_addLine_41 ?_
      refine ⟨by rw [show (su σ 0 0 1) 0 0 = 1 from (su_self _ _ _ _)]; first | (rw [if_pos (by omega)]; done) | (rw [if_neg (by omega)]; done) | (rw [if_neg (by omega), if_pos (by omega)]; done) | (rw [if_neg (by omega), if_neg (by omega)]; done), fun hth => absurd ((show (su σ 0 0 1) 0 0 = 1 from (su_self _ _ _ _)).symm.trans hth) (by decide), fun _ => hI.keep rfl rfl rfl, frSu Fr.rf rfl⟩
set_option maxHeartbeats 1000000 in
theorem mm_paint {l : Launch} {D : va_G} {dA : Nat → ClassId} {A : Nat → Prop} {o : Nat} {ad : Nat → Nat} (hOk : mOk o ad) (σ : Sg) (ln : Int) (f : Int) (t : Int) (cc : Int) (P : Pg) (L : List Pg) (hI : MIv σ P L) (hr : zR ln) (hr2 : zR f) (hr3 : zR t) (hr4 : zR cc) : Met l yX3_paint (ws_ yX3_paint cX3_paint 5 (some .int)) (rmL 4 0 0) (MP D dA A o ad [.ref o, .int (iI ln), .int (iI f), .int (iI t), .int (iI cc)] σ) (MQi D dA A o ad (fun r σ' => σ' 0 0 = (if ¬ (0 ≤ ln ∧ ln ≤ pN P - 1) then 1 else if ((0 ≤ f ∧ f ≤ pW P) ∧ f ≤ t ∧ t ≤ pW P) ∧ 0 ≤ cc ∧ cc ≤ 1 then 0 else 2) ∧ (σ' 0 0 = 0 → r = pntZ P ln f t cc ∧ MIv σ' (eLn P ln (pntF P ln f t cc)) (pkL L P)) ∧ (σ' 0 0 ≠ 0 → MIv σ' P L) ∧ Fr [0, 1, 3, 4, 7, 8, 9, 10, 11, 12, 13, 14, 15, 16, 17, 18, 19] σ σ')) 0 0 A := by
  refine z_ofW (by decide) rfl ?_
  intro pp ee s0 mm below meth cc0 ls C hret hname hl hH hS
  have hl : lv_has ls 5 [(0, .ref o), (1, .int (iI ln)), (2, .int (iI f)), (3, .int (iI t)), (4, .int (iI cc))] := hl
  obtain ⟨hP, hk, hU, h4, hL, hLk⟩ := hI
  have hk9 := hk
  have hP9 := hP
  obtain ⟨k1, k2, k3, k4, k5, k6, k7, k8, k9, k10, k11⟩ := hk
  obtain ⟨p1, p2, p3, p4, p5⟩ := hP
  have pn0 : 0 ≤ pN P := by show (0 : Int) ≤ ((pB P).length : Int); omega
  have hI : MIv σ P L := ⟨hP9, hk9, hU, h4, hL, hLk⟩
  have hr_1 := hr.1
  have hr_2 := hr.2
  have hr2_1 := hr2.1
  have hr2_2 := hr2.2
  have hr3_1 := hr3.1
  have hr3_2 := hr3.2
  have hr4_1 := hr4.1
  have hr4_2 := hr4.2
  refine z_aload_n C dX3_paint_0 hl 0 rfl ?_
  refine z_aload_n C dX3_paint_1 hl 0 rfl ?_
  refine z_iload_n C dX3_paint_2 hl 1 rfl ?_
  refine m_ViF C hH hS (mm_isLine hOk σ ln P (hP9) (hk9) (⟨by omega, by omega⟩)) (cwV 1 C.1.2.2.2.2 (lw_V q2413 q2415 qs63 q133 q2416) rfl rfl rfl (by decide +kernel) ⟨Nat.le_of_ble_eq_true rfl, Nat.le_of_ble_eq_true rfl⟩) rfl hl rfl (Nat.le_of_ble_eq_true rfl) dX3_paint_3 ⟨Nat.le_refl _, Nat.le_refl _⟩ (fun H locs hH hS => ?_)
  refine z_topi (fun z_3 hz_3 => ?_)
  have q_3 := inZ_or ln 0 (pN P - 1)
  rw [← hz_3] at q_3
  refine z_ifne C dX3_paint_6 (tgt := 13) (by decide) ⟨by omega, by omega⟩ (fun c_6 => ?_) (fun c_6 => ?_)
  · refine z_aload_n C dX3_paint_13 hl 0 rfl ?_
    refine z_iload_n C dX3_paint_14 hl 2 rfl ?_
    refine z_iload_n C dX3_paint_15 hl 3 rfl ?_
    refine m_ViF C hH hS (mm_isPart hOk σ f t P (hP9) (hk9) (hr2) (hr3)) (cwV 2 C.1.2.2.2.2 (lw_V q2503 q2505 qs74 q133 q2506) rfl rfl rfl (by decide +kernel) ⟨Nat.le_of_ble_eq_true rfl, Nat.le_of_ble_eq_true rfl⟩) rfl hl rfl (Nat.le_of_ble_eq_true rfl) dX3_paint_16 ⟨Nat.le_refl _, Nat.le_refl _⟩ (fun H locs hH hS => ?_)
    refine z_topi (fun z_16 hz_16 => ?_)
    have q_16 := isPart_or f t (pW P)
    rw [← hz_16] at q_16
    refine z_ifeq C dX3_paint_19 (tgt := 36) (by decide) ⟨by omega, by omega⟩ (fun c_19 => ?_) (fun c_19 => ?_)
    · refine z_iconst C dX3_paint_36 ?_
      refine m_puts C hH hS 0 ⟨by decide, by decide⟩ q2185 rfl ⟨rfl, rfl⟩ dX3_paint_37 (fun H locs hH hS => ?_)
      refine z_aload_n C dX3_paint_40 hl 0 rfl ?_
      refine m_getsZ C hH 0 ⟨by decide, by decide⟩ 2 rfl q2185 rfl dX3_paint_41 ?_
      refine z_ifle C dX3_paint_44 (tgt := 49) (by decide) ⟨by omega, by omega⟩ (fun c_44 => ?_) (fun c_44 => ?_)
      · exact absurd c_44 (by decide)
      · refine z_iconst C dX3_paint_47 ?_
        refine m_iret C hret hH hS dX3_paint_48 ?_
        refine ⟨by rw [show (su σ 0 0 2) 0 0 = 2 from (su_self _ _ _ _)]; first | (rw [if_pos (by omega)]; done) | (rw [if_neg (by omega)]; done) | (rw [if_neg (by omega), if_pos (by omega)]; done) | (rw [if_neg (by omega), if_neg (by omega)]; done), fun hth => absurd ((show (su σ 0 0 2) 0 0 = 2 from (su_self _ _ _ _)).symm.trans hth) (by decide), fun _ => hI.keep rfl rfl rfl, frSu Fr.rf rfl⟩
    · refine z_iload C dX3_paint_22 hl 4 rfl ?_
      refine z_iconst C dX3_paint_24 ?_
      refine z_iconst C dX3_paint_25 ?_
      refine m_SiF C hH hS (mm_in hOk σ cc 0 1 (⟨by omega, by omega⟩) (⟨by omega, by omega⟩) (⟨by omega, by omega⟩)) (va_cwS 3 C.1.2.2.2.2 (lw_S q2321 q2322 q133 q2323) rfl rfl rfl (by decide +kernel) ⟨Nat.le_of_ble_eq_true rfl, Nat.le_of_ble_eq_true rfl⟩) rfl hl rfl (Nat.le_of_ble_eq_true rfl) dX3_paint_26 ⟨Nat.le_refl _, Nat.le_refl _⟩ (fun H locs hH hS => ?_)
      refine z_topi (fun z_26 hz_26 => ?_)
      have q_26 := inZ_or cc 0 1
      rw [← hz_26] at q_26
      refine z_ifeq C dX3_paint_29 (tgt := 36) (by decide) ⟨by omega, by omega⟩ (fun c_29 => ?_) (fun c_29 => ?_)
      · refine z_iconst C dX3_paint_36 ?_
        refine m_puts C hH hS 0 ⟨by decide, by decide⟩ q2185 rfl ⟨rfl, rfl⟩ dX3_paint_37 (fun H locs hH hS => ?_)
        refine z_aload_n C dX3_paint_40 hl 0 rfl ?_
        refine m_getsZ C hH 0 ⟨by decide, by decide⟩ 2 rfl q2185 rfl dX3_paint_41 ?_
        refine z_ifle C dX3_paint_44 (tgt := 49) (by decide) ⟨by omega, by omega⟩ (fun c_44_1 => ?_) (fun c_44_1 => ?_)
        · exact absurd c_44_1 (by decide)
        · refine z_iconst C dX3_paint_47 ?_
          refine m_iret C hret hH hS dX3_paint_48 ?_
          refine ⟨by rw [show (su σ 0 0 2) 0 0 = 2 from (su_self _ _ _ _)]; first | (rw [if_pos (by omega)]; done) | (rw [if_neg (by omega)]; done) | (rw [if_neg (by omega), if_pos (by omega)]; done) | (rw [if_neg (by omega), if_neg (by omega)]; done), fun hth => absurd ((show (su σ 0 0 2) 0 0 = 2 from (su_self _ _ _ _)).symm.trans hth) (by decide), fun _ => hI.keep rfl rfl rfl, frSu Fr.rf rfl⟩
      · refine z_iconst C dX3_paint_32 ?_
        refine z_goto C dX3_paint_33 (tgt := 37) (by decide) ?_
        refine m_puts C hH hS 0 ⟨by decide, by decide⟩ q2185 rfl ⟨rfl, rfl⟩ dX3_paint_37 (fun H locs hH hS => ?_)
        refine z_aload_n C dX3_paint_40 hl 0 rfl ?_
        refine m_getsZ C hH 0 ⟨by decide, by decide⟩ 0 rfl q2185 rfl dX3_paint_41 ?_
        refine z_ifle C dX3_paint_44 (tgt := 49) (by decide) ⟨by omega, by omega⟩ (fun c_44_2 => ?_) (fun c_44_2 => ?_)
        · refine z_aload_n C dX3_paint_49 hl 0 rfl ?_
          refine m_Vv C hH hS (mm_keeps hOk (su σ 0 0 0) P L (hI.keep rfl rfl rfl)) (cwV 0 C.1.2.2.2.2 (lw_V q2491 q2493 qs73 q133 q2494) rfl rfl rfl (by decide +kernel) ⟨Nat.le_of_ble_eq_true rfl, Nat.le_of_ble_eq_true rfl⟩) rfl hl rfl (Nat.le_of_ble_eq_true rfl) dX3_paint_50 ⟨Nat.le_refl _, Nat.le_refl _⟩ (fun s_50 H locs hp_50 hH hS => ?_)
          obtain ⟨hf50, hu50, h450⟩ := hp_50
          have e1 : s_50 1 = σ 1 := by rw [hf50.at 1 rfl]; rfl
          have hln : ∀ k, 0 ≤ k → k < pW P → s_50 1 (28 + 40 * ln + k) = lnZ P ln k := fun k a b => by rw [e1]; exact p5 ln k (by omega) (by omega) a b
          refine z_aload_n C dX3_paint_53 hl 0 rfl ?_
          refine z_iload_n C dX3_paint_54 hl 1 rfl ?_
          refine z_iload_n C dX3_paint_55 hl 2 rfl ?_
          refine z_iload_n C dX3_paint_56 hl 3 rfl ?_
          refine z_iload C dX3_paint_57 hl 4 rfl ?_
          refine m_Vi C hH hS (mm_paintsLine hOk s_50 ln f t cc (by omega) (by omega) (by omega) (fun k a b => by rw [hln k (by omega) (by omega)]; exact lnZ_01 P ln k)) (cwV 4 C.1.2.2.2.2 (lw_V q2511 q2513 qs76 q133 q2514) rfl rfl rfl (by decide +kernel) ⟨Nat.le_of_ble_eq_true rfl, Nat.le_of_ble_eq_true rfl⟩) rfl hl rfl (Nat.le_of_ble_eq_true rfl) dX3_paint_59 ⟨Nat.le_refl _, Nat.le_refl _⟩ (fun r_59 s_59 H locs hp_59 hH hS => ?_)
          obtain ⟨hr59, hs59⟩ := hp_59
          subst hs59
          refine m_iret C hret hH hS dX3_paint_62 ?_
          refine ⟨by rw [show ((sa s_50 1 (wr (fun _ => cc) (s_50 1) (28 + 40 * ln + f) (28 + 40 * ln + t)))) 0 0 = 0 from (by show s_50 0 0 = 0; rw [hf50.at 0 rfl]; exact su_self _ _ _ _)]; first | (rw [if_pos (by omega)]; done) | (rw [if_neg (by omega)]; done) | (rw [if_neg (by omega), if_pos (by omega)]; done) | (rw [if_neg (by omega), if_neg (by omega)]; done), fun _ => ⟨?_, ?_⟩, fun hth => absurd (show ((sa s_50 1 (wr (fun _ => cc) (s_50 1) (28 + 40 * ln + f) (28 + 40 * ln + t)))) 0 0 = 0 from (by show s_50 0 0 = 0; rw [hf50.at 0 rfl]; exact su_self _ _ _ _)) hth, frSa (((frSu Fr.rf rfl)).th hf50 rfl) rfl⟩
          · rw [hr59]; unfold pntZ
            rw [cnt_congr (g := fun k => if f ≤ k ∧ k < t ∧ lnZ P ln k ≠ cc then 1 else 0) (fun k a b => by rw [hln k a (by omega)])]
            exact (cnt_same (by omega) (by omega) (fun k a b => if_neg (by omega))).symm
          · exact ⟨PgAt.ln hk9 hP9 (by omega) (by omega) (fun j a => by show wr (fun _ => cc) (s_50 1) (28 + 40 * ln + f) (28 + 40 * ln + t) j = σ 1 j; rw [wr_out _ _ (by omega), e1]) (fun k a b => by
              show wr (fun _ => cc) (s_50 1) (28 + 40 * ln + f) (28 + 40 * ln + t) (28 + 40 * ln + k) = _
              have v := lnZ_01 P ln k
              unfold pntF
              by_cases hkk : f ≤ k ∧ k < t
              · rw [wr_in _ _ (by omega) (by omega)]; simp only [hkk]; simp; split <;> omega
              · rw [wr_out _ _ (by omega), hln k a b]; simp only [hkk]; simp; split <;> omega), hk9.ln _ _, hu50, h450, pkL_len L P hL, pkL_ok hLk hk9⟩
        · exact absurd c_44_2 (by decide)
  · refine z_iconst C dX3_paint_9 ?_
    refine z_goto C dX3_paint_10 (tgt := 37) (by decide) ?_
    refine m_puts C hH hS 0 ⟨by decide, by decide⟩ q2185 rfl ⟨rfl, rfl⟩ dX3_paint_37 (fun H locs hH hS => ?_)
    refine z_aload_n C dX3_paint_40 hl 0 rfl ?_
    refine m_getsZ C hH 0 ⟨by decide, by decide⟩ 1 rfl q2185 rfl dX3_paint_41 ?_
    refine z_ifle C dX3_paint_44 (tgt := 49) (by decide) ⟨by omega, by omega⟩ (fun c_44_3 => ?_) (fun c_44_3 => ?_)
    · exact absurd c_44_3 (by decide)
    · refine z_iconst C dX3_paint_47 ?_
      refine m_iret C hret hH hS dX3_paint_48 ?_
      refine ⟨by rw [show (su σ 0 0 1) 0 0 = 1 from (su_self _ _ _ _)]; first | (rw [if_pos (by omega)]; done) | (rw [if_neg (by omega)]; done) | (rw [if_neg (by omega), if_pos (by omega)]; done) | (rw [if_neg (by omega), if_neg (by omega)]; done), fun hth => absurd ((show (su σ 0 0 1) 0 0 = 1 from (su_self _ _ _ _)).symm.trans hth) (by decide), fun _ => hI.keep rfl rfl rfl, frSu Fr.rf rfl⟩
