/-! the reference's methods, 19 (written by gen/model19.py) -/
set_option maxRecDepth 100000
set_option maxHeartbeats 1000000 in
theorem mm_load {l : Launch} {D : va_G} {dA : Nat → ClassId} {A : Nat → Prop} {o : Nat} {ad : Nat → Nat} (hOk : mOk o ad) (σ : Sg) (P : Pg) (L : List Pg) (tx : Int → Int) (n : Int) (hI : MIv σ P L) (hT : TxAt σ tx n) (hD : WdAt σ) : Met l yX3_load (ws_ yX3_load cX3_load 2 (some .int)) (rmL 10 0 0) (MP D dA A o ad [.ref o] σ) (MQi D dA A o ad (fun r σ' => σ' 0 0 = 0 ∧ TxAt σ' tx 0 ∧ (match ldE tx n with | .inl e => r = -1 ∧ σ' 37 0 = e.1 ∧ σ' 38 0 = e.2 ∧ MIv σ' P L | .inr q => r = pN q.2 ∧ σ' 37 0 = 0 ∧ σ' 38 0 = -1 ∧ MIv σ' q.2 []) ∧ Fr [0, 1, 2, 4, 7, 9, 15, 16, 17, 32, 33, 34, 35, 36, 37, 38] σ σ')) 0 0 A := by
  refine z_ofW (by decide) rfl ?_
  intro pp ee s0 mm below meth cc0 ls C hret hname hl hH hS
  have hl : lv_has ls 2 [(0, .ref o)] := hl
  obtain ⟨hx1, hx2, hx3, hx4⟩ := hT
  have hT : TxAt σ tx n := ⟨hx1, hx2, hx3, hx4⟩
  have ok0 := nxt_ok (tx := tx) hx4 (a := 0) (n := n) (by omega) (by omega)
  refine z_aload_n C dX3_load_0 hl 0 rfl ?_
  refine z_iconst C dX3_load_1 ?_
  refine m_puts C hH hS 0 ⟨by decide, by decide⟩ q2185 rfl ⟨rfl, rfl⟩ dX3_load_2 (fun H locs hH hS => ?_)
  refine z_aload_n C dX3_load_5 hl 0 rfl ?_
  refine z_iconst C dX3_load_6 ?_
  refine m_puts C hH hS 33 ⟨by decide, by decide⟩ q2218 rfl ⟨rfl, rfl⟩ dX3_load_7 (fun H locs hH hS => ?_)
  refine z_aload_n C dX3_load_10 hl 0 rfl ?_
  refine z_iconst C dX3_load_11 ?_
  refine m_puts C hH hS 37 ⟨by decide, by decide⟩ q2222 rfl ⟨rfl, rfl⟩ dX3_load_12 (fun H locs hH hS => ?_)
  refine z_aload_n C dX3_load_15 hl 0 rfl ?_
  refine z_iconst C dX3_load_16 ?_
  refine m_puts C hH hS 38 ⟨by decide, by decide⟩ q2223 rfl ⟨rfl, rfl⟩ dX3_load_17 (fun H locs hH hS => ?_)
  refine z_aload_n C dX3_load_20 hl 0 rfl ?_
  refine z_bipush C dX3_load_21 (by decide +kernel) ?_
  refine m_VvF C hH hS (mm_begins hOk (su (su (su (su σ 0 0 0) 33 0 0) 37 0 0) 38 0 ((-1))) 16) (cwV 1 C.1.2.2.2.2 (lw_V q2178 q2180 qs43 q133 q2181) rfl rfl rfl (by decide +kernel) ⟨Nat.le_of_ble_eq_true rfl, Nat.le_of_ble_eq_true rfl⟩) rfl hl rfl (Nat.le_of_ble_eq_true rfl) dX3_load_23 ⟨Nat.le_refl _, Nat.le_refl _⟩ (fun H locs hH hS => ?_)
  refine z_aload_n C dX3_load_26 hl 0 rfl ?_
  refine m_Vv C hH hS (mm_advances hOk (su (su (su (su (sa (su (su (su (su σ 0 0 0) 33 0 0) 37 0 0) 38 0 ((-1))) 2 (wr (fun _ => 0) ((su (su (su (su σ 0 0 0) 33 0 0) 37 0 0) 38 0 ((-1))) 2) 0 828)) 2 0 16) 2 2 4) 2 6 8) 2 7 16) tx n 0 (hT.fr rfl rfl) (rfl) (⟨by omega, by omega⟩)) (cwV 0 C.1.2.2.2.2 (lw_V q2635 q2637 qs89 q133 q2638) rfl rfl rfl (by decide +kernel) ⟨Nat.le_of_ble_eq_true rfl, Nat.le_of_ble_eq_true rfl⟩) rfl hl rfl (Nat.le_of_ble_eq_true rfl) dX3_load_27 ⟨Nat.le_refl _, Nat.le_refl _⟩ (fun ta H locs hp_27 hH hS => ?_)
  obtain ⟨hla, hna, hma, hfa⟩ := hp_27
  have hpg : PgAt (ta 2) (bgP 16) := by
    rw [hfa.at 2 rfl]
    exact bgP_at _ _ ⟨rfl, rfl, rfl, rfl⟩ (fun j a b c d e => by show uZ (uZ (uZ (uZ (wr (fun _ => 0) (σ 2) 0 828) 0 _) 2 4) 6 8) 7 16 j = 0; rw [uZ_ne _ _ e, uZ_ne _ _ d, uZ_ne _ _ c, uZ_ne _ _ (by omega), wr_in _ _ (by omega) (by omega)])
  obtain ⟨l1, l2, l3, l4⟩ := hla
  obtain ⟨o1, o2, o3, o4, o5, -⟩ := ok0
  have hpa : PX ta tx n (.inr (nxt tx n 0)) := ⟨(hT.fr rfl rfl).fr (hfa.at 31 rfl) (hfa.at 32 rfl), ⟨by omega, by omega, by omega, by omega, by omega, hna, hma, by rw [hfa.at 37 rfl]; exact Int.le_refl 0, by rw [hfa.at 37 rfl]; exact (by decide : (0 : Int) ≤ 5)⟩, by rw [hfa.at 37 rfl]; rfl, ⟨l1, l2, l3, l4⟩, by rw [hfa.at 38 rfl]; rfl⟩
  have hfa9 : Fr [2, 7, 9, 15, 16, 17, 33, 34, 35, 36, 37, 38] (su σ 0 0 0) ta := (frSu (frSu (frSu (frSu (frSa (frSu (frSu (frSu Fr.rf rfl) rfl) rfl) rfl) rfl) rfl) rfl) rfl).th hfa rfl
  have ha0 : ta 0 0 = 0 := by rw [hfa.at 0 rfl]; rfl
  have wxr := wix_in tx (nxt tx n 0)
  refine z_aload_n C dX3_load_30 hl 0 rfl ?_
  refine m_ViF C hH hS (mm_wordHere hOk ta tx n ((nxt tx n 0)) (hpa) (fun j a b => by rw [hfa9.at 39 rfl]; exact hD j a b)) (cwV 0 C.1.2.2.2.2 (lw_V q2646 q2648 qs91 q133 q2649) rfl rfl rfl (by decide +kernel) ⟨Nat.le_of_ble_eq_true rfl, Nat.le_of_ble_eq_true rfl⟩) rfl hl rfl (Nat.le_of_ble_eq_true rfl) dX3_load_31 ⟨Nat.le_refl _, Nat.le_refl _⟩ (fun H locs hH hS => ?_)
  refine z_iconst C dX3_load_34 ?_
  refine z_icmpne C dX3_load_35 (tgt := 78) (by decide) ⟨⟨by omega, by omega⟩, ⟨by omega, by omega⟩⟩ (fun c_35 => ?_) (fun c_35 => ?_)
  · have J_78 : ∀ (fu : Nat) (s1 : Sg) (S : Er (LX × Pg)), stQ n S < fu → (QX s1 tx n S) → (okR n 0 (erP S)) → (Fr [2, 7, 9, 15, 16, 17, 33, 34, 35, 36, 37, 38] (su σ 0 0 0) s1) → (s1 0 0 = 0) → (itN (stS tx n) stC 1000 S = ldE tx n) → ∀ (H : Heap) (locs : List Loc) (ls : Array Slot), MH D dA A o ad s1 H → va_S A s0.heap H locs → lv_has ls 2 [(0, .ref o)] → W pp l ee (rmL 10 0 0) s0 mm ([.ref o] : List Value).toArray below meth cc0 H locs 0 0 (MQ below (MQi D dA A o ad (fun r σ' => σ' 0 0 = 0 ∧ TxAt σ' tx 0 ∧ (match ldE tx n with | .inl e => r = -1 ∧ σ' 37 0 = e.1 ∧ σ' 38 0 = e.2 ∧ MIv σ' P L | .inr q => r = pN q.2 ∧ σ' 37 0 = 0 ∧ σ' 38 0 = -1 ∧ MIv σ' q.2 []) ∧ Fr [0, 1, 2, 4, 7, 9, 15, 16, 17, 32, 33, 34, 35, 36, 37, 38] σ σ')) ([.ref o] : List Value).toArray s0 0 0 A) (F0 mm 78 ls []) := by
      intro fu
      induction fu with
      | zero => intro s1 S hn; exact absurd hn (Nat.not_lt_zero _)
      | succ fu ih_78 =>
        intro s1 S hn hQ hO hfr h00 hR H locs ls hH hS hl
        have er1 := hQ.1.er
        have lr1 := hQ.1.2.1
        obtain ⟨-, -, -, t4_, t5_, -, -, -, -⟩ := lr1
        refine z_aload_n C dX3_load_78 hl 0 rfl ?_
        refine m_getsZ C hH 37 ⟨by decide, by decide⟩ (s1 37 0) rfl q2222 rfl dX3_load_79 ?_
        refine z_ifne C dX3_load_82 (tgt := 99) (by decide) ⟨by omega, by omega⟩ (fun c_82 => ?_) (fun c_82 => ?_)
        · have hCn : ¬ stC S = true := fun hC => by
            cases hS : S with
            | inl e => rw [hS] at hC; cases hC
            | inr q =>
              rw [hS] at hC hQ
              have h1 := of_decide_eq_true hC
              have h2 := PX.at (x := q.1) hQ.1
              have h3 := hQ.1.e0.mpr ⟨q.1, rfl⟩
              omega
          have hRT : ldE tx n = S := by rw [← hR]; exact ldE_end hCn
          refine z_aload_n C dX3_load_99 hl 0 rfl ?_
          refine z_iconst C dX3_load_100 ?_
          refine m_puts C hH hS 32 ⟨by decide, by decide⟩ q2217 rfl ⟨rfl, rfl⟩ dX3_load_101 (fun H locs hH hS => ?_)
          refine z_aload_n C dX3_load_104 hl 0 rfl ?_
          refine m_getsZ C hH 37 ⟨by decide, by decide⟩ (s1 37 0) rfl q2222 rfl dX3_load_105 ?_
          refine z_ifle C dX3_load_108 (tgt := 113) (by decide) ⟨by omega, by omega⟩ (fun c_108 => ?_) (fun c_108 => ?_)
          · refine z_aload_n C dX3_load_113 hl 0 rfl ?_
            refine m_geta C hH 2 ⟨by decide, by decide⟩ q2187 rfl dX3_load_114 ?_
            refine z_iconst C dX3_load_117 ?_
            refine z_aload_n C dX3_load_118 hl 0 rfl ?_
            refine m_geta C hH 1 ⟨by decide, by decide⟩ q2186 rfl dX3_load_119 ?_
            refine z_iconst C dX3_load_122 ?_
            refine m_SvF C hH hS (mm_copies hOk (su s1 32 0 0) 2 0 1 0 (⟨by decide, by decide⟩) (⟨by decide, by decide⟩) (by decide) (show 0 ≤ (0 : Int) ∧ (0 : Int) + 828 ≤ (828 : Int) by omega) (show 0 ≤ (0 : Int) ∧ (0 : Int) + 828 ≤ (828 : Int) by omega)) (va_cwS 4 C.1.2.2.2.2 (lw_S q2182 q2183 q133 q2184) rfl rfl rfl (by decide +kernel) ⟨Nat.le_of_ble_eq_true rfl, Nat.le_of_ble_eq_true rfl⟩) rfl hl rfl (Nat.le_of_ble_eq_true rfl) dX3_load_123 ⟨Nat.le_refl _, Nat.le_refl _⟩ (fun H locs hH hS => ?_)
            refine z_aload_n C dX3_load_126 hl 0 rfl ?_
            refine z_iconst C dX3_load_127 ?_
            refine m_puts C hH hS 4 ⟨by decide, by decide⟩ q2189 rfl ⟨rfl, rfl⟩ dX3_load_128 (fun H locs hH hS => ?_)
            refine z_aload_n C dX3_load_131 hl 0 rfl ?_
            refine m_geta C hH 1 ⟨by decide, by decide⟩ q2186 rfl dX3_load_132 ?_
            refine z_iconst C dX3_load_135 ?_
            refine m_ialdZ C hOk hH 1 ⟨by decide, by decide⟩ 1 (wr (fun j => s1 2 (0 + (j - 0))) (s1 1) 0 (0 + 828) 1) (rfl) (show 0 ≤ 1 ∧ 1 < (828 : Int) by omega) dX3_load_136 ?_
            refine m_iret C hret hH hS dX3_load_137 ?_
            rw [hRT]
            obtain ⟨x, hx⟩ := hQ.1.e0.mp (by omega)
            obtain ⟨q, hSq, -⟩ := erP_inr hx
            have hg := hQ.2 q hSq
            refine ⟨h00, ⟨rfl, by omega, (fun i a b => absurd b (by omega)), hx4⟩, ?_, frSu (frSa (frSu ((frSu Fr.rf rfl).th hfr rfl) rfl) rfl) rfl⟩
            have h9 := hQ.1.2.2
            rw [hSq] at h9 ⊢
            refine ⟨?_, h9.1, h9.2.2, PgAt.congr hg.2 hg.1 (fun j a b => ?_), hg.2, (fun i Q h => by cases h), su_self _ _ _ _, by decide, (fun Q h => by cases h)⟩
            · rw [wr_in _ _ (by decide) (by decide)]; exact hg.1.2.1
            · show wr (fun j => s1 2 (0 + (j - 0))) (s1 1) 0 (0 + 828) j = _
              rw [wr_in _ _ a (by omega)]; congr 1; omega
          · refine z_iconst C dX3_load_111 ?_
            refine m_iret C hret hH hS dX3_load_112 ?_
            rw [hRT]
            obtain ⟨e, he⟩ := hQ.1.e1 (by omega)
            have hS := erP_inl he
            refine ⟨h00, ⟨su_self _ _ _ _, by omega, (fun i a b => absurd b (by omega)), hx4⟩, ?_, frSu ((frSu Fr.rf rfl).th hfr rfl) rfl⟩
            have h9 := hQ.1.2.2
            rw [he] at h9
            rw [hS]
            exact ⟨rfl, h9.1, h9.2.1, hI.keep (hfr.at 1 rfl) (hfr.at 3 rfl) (hfr.at 4 rfl)⟩
        · refine z_aload_n C dX3_load_85 hl 0 rfl ?_
          refine m_getsZ C hH 35 ⟨by decide, by decide⟩ (s1 35 0) rfl q2220 rfl dX3_load_86 ?_
          refine z_ifeq C dX3_load_89 (tgt := 99) (by decide) ⟨by omega, by omega⟩ (fun c_89 => ?_) (fun c_89 => ?_)
          · have hCn : ¬ stC S = true := fun hC => by
              cases hS : S with
              | inl e => rw [hS] at hC; cases hC
              | inr q =>
                rw [hS] at hC hQ
                have h1 := of_decide_eq_true hC
                have h2 := PX.at (x := q.1) hQ.1
                have h3 := hQ.1.e0.mpr ⟨q.1, rfl⟩
                omega
            have hRT : ldE tx n = S := by rw [← hR]; exact ldE_end hCn
            refine z_aload_n C dX3_load_99 hl 0 rfl ?_
            refine z_iconst C dX3_load_100 ?_
            refine m_puts C hH hS 32 ⟨by decide, by decide⟩ q2217 rfl ⟨rfl, rfl⟩ dX3_load_101 (fun H locs hH hS => ?_)
            refine z_aload_n C dX3_load_104 hl 0 rfl ?_
            refine m_getsZ C hH 37 ⟨by decide, by decide⟩ (s1 37 0) rfl q2222 rfl dX3_load_105 ?_
            refine z_ifle C dX3_load_108 (tgt := 113) (by decide) ⟨by omega, by omega⟩ (fun c_108_1 => ?_) (fun c_108_1 => ?_)
            · refine z_aload_n C dX3_load_113 hl 0 rfl ?_
              refine m_geta C hH 2 ⟨by decide, by decide⟩ q2187 rfl dX3_load_114 ?_
              refine z_iconst C dX3_load_117 ?_
              refine z_aload_n C dX3_load_118 hl 0 rfl ?_
              refine m_geta C hH 1 ⟨by decide, by decide⟩ q2186 rfl dX3_load_119 ?_
              refine z_iconst C dX3_load_122 ?_
              refine m_SvF C hH hS (mm_copies hOk (su s1 32 0 0) 2 0 1 0 (⟨by decide, by decide⟩) (⟨by decide, by decide⟩) (by decide) (show 0 ≤ (0 : Int) ∧ (0 : Int) + 828 ≤ (828 : Int) by omega) (show 0 ≤ (0 : Int) ∧ (0 : Int) + 828 ≤ (828 : Int) by omega)) (va_cwS 4 C.1.2.2.2.2 (lw_S q2182 q2183 q133 q2184) rfl rfl rfl (by decide +kernel) ⟨Nat.le_of_ble_eq_true rfl, Nat.le_of_ble_eq_true rfl⟩) rfl hl rfl (Nat.le_of_ble_eq_true rfl) dX3_load_123 ⟨Nat.le_refl _, Nat.le_refl _⟩ (fun H locs hH hS => ?_)
              refine z_aload_n C dX3_load_126 hl 0 rfl ?_
              refine z_iconst C dX3_load_127 ?_
              refine m_puts C hH hS 4 ⟨by decide, by decide⟩ q2189 rfl ⟨rfl, rfl⟩ dX3_load_128 (fun H locs hH hS => ?_)
              refine z_aload_n C dX3_load_131 hl 0 rfl ?_
              refine m_geta C hH 1 ⟨by decide, by decide⟩ q2186 rfl dX3_load_132 ?_
              refine z_iconst C dX3_load_135 ?_
              refine m_ialdZ C hOk hH 1 ⟨by decide, by decide⟩ 1 (wr (fun j => s1 2 (0 + (j - 0))) (s1 1) 0 (0 + 828) 1) (rfl) (show 0 ≤ 1 ∧ 1 < (828 : Int) by omega) dX3_load_136 ?_
              refine m_iret C hret hH hS dX3_load_137 ?_
              rw [hRT]
              obtain ⟨x, hx⟩ := hQ.1.e0.mp (by omega)
              obtain ⟨q, hSq, -⟩ := erP_inr hx
              have hg := hQ.2 q hSq
              refine ⟨h00, ⟨rfl, by omega, (fun i a b => absurd b (by omega)), hx4⟩, ?_, frSu (frSa (frSu ((frSu Fr.rf rfl).th hfr rfl) rfl) rfl) rfl⟩
              have h9 := hQ.1.2.2
              rw [hSq] at h9 ⊢
              refine ⟨?_, h9.1, h9.2.2, PgAt.congr hg.2 hg.1 (fun j a b => ?_), hg.2, (fun i Q h => by cases h), su_self _ _ _ _, by decide, (fun Q h => by cases h)⟩
              · rw [wr_in _ _ (by decide) (by decide)]; exact hg.1.2.1
              · show wr (fun j => s1 2 (0 + (j - 0))) (s1 1) 0 (0 + 828) j = _
                rw [wr_in _ _ a (by omega)]; congr 1; omega
            · refine z_iconst C dX3_load_111 ?_
              refine m_iret C hret hH hS dX3_load_112 ?_
              rw [hRT]
              obtain ⟨e, he⟩ := hQ.1.e1 (by omega)
              have hS := erP_inl he
              refine ⟨h00, ⟨su_self _ _ _ _, by omega, (fun i a b => absurd b (by omega)), hx4⟩, ?_, frSu ((frSu Fr.rf rfl).th hfr rfl) rfl⟩
              have h9 := hQ.1.2.2
              rw [he] at h9
              rw [hS]
              exact ⟨rfl, h9.1, h9.2.1, hI.keep (hfr.at 1 rfl) (hfr.at 3 rfl) (hfr.at 4 rfl)⟩
          · obtain ⟨x, hx⟩ := hQ.1.e0.mp (by omega)
            obtain ⟨q, hSq, -⟩ := erP_inr hx
            have hC : stC S = true := by
              rw [hSq]
              have h1 := hQ.1
              rw [hSq] at h1
              have h2 := PX.at (x := q.1) h1
              exact decide_eq_true (by omega)
            refine z_aload_n C dX3_load_92 hl 0 rfl ?_
            refine m_Vv C hH hS (mm_readsStatement hOk s1 tx n q.1 q.2 (by rw [hSq] at hQ; exact hQ.1) ((hQ.2 q hSq).1) ((hQ.2 q hSq).2) (fun j a b => by rw [hfr.at 39 rfl]; exact hD j a b)) (cwV 0 C.1.2.2.2.2 (lw_V q2666 q2668 qs96 q133 q2669) rfl rfl rfl (by decide +kernel) ⟨Nat.le_of_ble_eq_true rfl, Nat.le_of_ble_eq_true rfl⟩) rfl hl rfl (Nat.le_of_ble_eq_true rfl) dX3_load_93 ⟨Nat.le_refl _, Nat.le_refl _⟩ (fun tf H locs hp_93 hH hS => ?_)
            obtain ⟨hqf, hff⟩ := hp_93
            refine z_goto C dX3_load_96 (tgt := 78) (by decide) ?_
            exact ih_78 tf ((stS tx n S)) (by have := (stS_step hx4 S hO hC).1; omega) (by rw [hSq]; exact hqf) ((stS_step hx4 S hO hC).2) (hfr.th hff rfl) (by rw [hff.at 0 rfl]; exact h00) (by rw [← hR, ldE_go hx4 hx2.2 hO hC]) _ _ _ hH hS (lv_sub hl [0] rfl)
    exact J_78 _ ta ((.inr (nxt tx n 0, bgP 16))) (Nat.lt_succ_self _) (⟨hpa, fun q hq => by cases hq; exact ⟨hpg, bgP_ok (by decide)⟩⟩) (ok_0 hx4 hx2.1) (hfa9) (ha0) (by unfold ldE wdE; rw [if_neg (by omega)]) _ _ _ hH hS (lv_sub hl [0] rfl)
  · refine z_aload_n C dX3_load_38 hl 0 rfl ?_
    refine m_Vv C hH hS (mm_goesOn hOk ta tx n ((.inr (nxt tx n 0))) (hpa)) (cwV 0 C.1.2.2.2.2 (lw_V q2650 q2652 qs92 q133 q2653) rfl rfl rfl (by decide +kernel) ⟨Nat.le_of_ble_eq_true rfl, Nat.le_of_ble_eq_true rfl⟩) rfl hl rfl (Nat.le_of_ble_eq_true rfl) dX3_load_39 ⟨Nat.le_refl _, Nat.le_refl _⟩ (fun tb H locs hp_39 hH hS => ?_)
    obtain ⟨hpb, hfb⟩ := hp_39
    refine z_aload_n C dX3_load_42 hl 0 rfl ?_
    refine z_bipush C dX3_load_43 (by decide +kernel) ?_
    refine z_bipush C dX3_load_45 (by decide +kernel) ?_
    refine m_Vi C hH hS (mm_reads hOk tb 8 40 tx n ((.inr (nxt tx n (nxt tx n 0).1))) (hpb) (by decide)) (cwV 2 C.1.2.2.2.2 (lw_V q2654 q2656 qs93 q133 q2657) rfl rfl rfl (by decide +kernel) ⟨Nat.le_of_ble_eq_true rfl, Nat.le_of_ble_eq_true rfl⟩) rfl hl rfl (Nat.le_of_ble_eq_true rfl) dX3_load_47 ⟨Nat.le_refl _, Nat.le_refl _⟩ (fun v tc H locs hp_47 hH hS => ?_)
    obtain ⟨hvc, hpc, hfc⟩ := hp_47
    have kr := lkV_in (r := (.inr (nxt tx n (nxt tx n 0).1))) (show (8 : Int) ≤ 40 by decide)
    rw [← hvc] at kr
    have lrc := hpc.2.1
    obtain ⟨-, -, -, t4, t5, -, -, -, -⟩ := lrc
    refine z_istore_n C [(1, .int (iI v)), (0, .ref o)] dX3_load_50 hl (by decide) rfl (fun ls hl => ?_)
    refine z_aload_n C dX3_load_51 hl 1 rfl ?_
    refine z_aload_n C dX3_load_52 hl 1 rfl ?_
    refine m_getsZ C hH 35 ⟨by decide, by decide⟩ (tc 35 0) rfl q2220 rfl dX3_load_53 ?_
    refine z_iconst C dX3_load_56 ?_
    refine z_icmpne C dX3_load_57 (tgt := 64) (by decide) ⟨⟨by omega, by omega⟩, ⟨by omega, by omega⟩⟩ (fun c_57 => ?_) (fun c_57 => ?_)
    · refine z_iconst C dX3_load_64 ?_
      refine z_iconst C dX3_load_65 ?_
      refine m_Vv C hH hS (mm_must hOk tc 0 1 tx n ((goE tx n (lkE (.inr (nxt tx n (nxt tx n 0).1)) 8 40))) (hpc) (by decide) (by decide)) (cwV 2 C.1.2.2.2.2 (lw_V q2662 q2664 qs95 q133 q2665) rfl rfl rfl (by decide +kernel) ⟨Nat.le_of_ble_eq_true rfl, Nat.le_of_ble_eq_true rfl⟩) rfl hl rfl (Nat.le_of_ble_eq_true rfl) dX3_load_66 ⟨Nat.le_refl _, Nat.le_refl _⟩ (fun td H locs hp_66 hH hS => ?_)
      obtain ⟨hpd, hfd⟩ := hp_66
      have e66 : ndE (goE tx n (lkE (.inr (nxt tx n (nxt tx n 0).1)) 8 40)) (decide ((0 : Int) = 1)) 1 = ndE (goE tx n (lkE (.inr (nxt tx n (nxt tx n 0).1)) 8 40)) (kdE (goE tx n (lkE (.inr (nxt tx n (nxt tx n 0).1)) 8 40)) 4) 1 := hpc.kd (decide_eq_decide.mpr (by omega))
      rw [e66] at hpd
      refine z_aload_n C dX3_load_69 hl 1 rfl ?_
      refine m_Vv C hH hS (mm_goesOn hOk td tx n ((ndE (goE tx n (lkE (.inr (nxt tx n (nxt tx n 0).1)) 8 40)) (kdE (goE tx n (lkE (.inr (nxt tx n (nxt tx n 0).1)) 8 40)) 4) 1)) (hpd)) (cwV 0 C.1.2.2.2.2 (lw_V q2650 q2652 qs92 q133 q2653) rfl rfl rfl (by decide +kernel) ⟨Nat.le_of_ble_eq_true rfl, Nat.le_of_ble_eq_true rfl⟩) rfl hl rfl (Nat.le_of_ble_eq_true rfl) dX3_load_70 ⟨Nat.le_refl _, Nat.le_refl _⟩ (fun te H locs hp_70 hH hS => ?_)
      obtain ⟨hpe, hfe⟩ := hp_70
      have hfe9 : Fr [2, 7, 9, 15, 16, 17, 33, 34, 35, 36, 37, 38] (su σ 0 0 0) te := (((hfa9.th hfb rfl).th hfc rfl).th hfd rfl).th hfe rfl
      refine z_aload_n C dX3_load_73 hl 1 rfl ?_
      refine z_iload_n C dX3_load_74 hl 0 rfl ?_
      refine m_VvF C hH hS (mm_begins hOk te v) (cwV 1 C.1.2.2.2.2 (lw_V q2178 q2180 qs43 q133 q2181) rfl rfl rfl (by decide +kernel) ⟨Nat.le_of_ble_eq_true rfl, Nat.le_of_ble_eq_true rfl⟩) rfl hl rfl (Nat.le_of_ble_eq_true rfl) dX3_load_75 ⟨Nat.le_refl _, Nat.le_refl _⟩ (fun H locs hH hS => ?_)
      have J_78 : ∀ (fu : Nat) (s1 : Sg) (S : Er (LX × Pg)), stQ n S < fu → (QX s1 tx n S) → (okR n 0 (erP S)) → (Fr [2, 7, 9, 15, 16, 17, 33, 34, 35, 36, 37, 38] (su σ 0 0 0) s1) → (s1 0 0 = 0) → (itN (stS tx n) stC 1000 S = ldE tx n) → ∀ (H : Heap) (locs : List Loc) (ls : Array Slot), MH D dA A o ad s1 H → va_S A s0.heap H locs → lv_has ls 2 [(0, .ref o)] → W pp l ee (rmL 10 0 0) s0 mm ([.ref o] : List Value).toArray below meth cc0 H locs 0 0 (MQ below (MQi D dA A o ad (fun r σ' => σ' 0 0 = 0 ∧ TxAt σ' tx 0 ∧ (match ldE tx n with | .inl e => r = -1 ∧ σ' 37 0 = e.1 ∧ σ' 38 0 = e.2 ∧ MIv σ' P L | .inr q => r = pN q.2 ∧ σ' 37 0 = 0 ∧ σ' 38 0 = -1 ∧ MIv σ' q.2 []) ∧ Fr [0, 1, 2, 4, 7, 9, 15, 16, 17, 32, 33, 34, 35, 36, 37, 38] σ σ')) ([.ref o] : List Value).toArray s0 0 0 A) (F0 mm 78 ls []) := by
        intro fu
        induction fu with
        | zero => intro s1 S hn; exact absurd hn (Nat.not_lt_zero _)
        | succ fu ih_78 =>
          intro s1 S hn hQ hO hfr h00 hR H locs ls hH hS hl
          have er1 := hQ.1.er
          have lr1 := hQ.1.2.1
          obtain ⟨-, -, -, t4_, t5_, -, -, -, -⟩ := lr1
          refine z_aload_n C dX3_load_78 hl 0 rfl ?_
          refine m_getsZ C hH 37 ⟨by decide, by decide⟩ (s1 37 0) rfl q2222 rfl dX3_load_79 ?_
          refine z_ifne C dX3_load_82 (tgt := 99) (by decide) ⟨by omega, by omega⟩ (fun c_82_1 => ?_) (fun c_82_1 => ?_)
          · have hCn : ¬ stC S = true := fun hC => by
              cases hS : S with
              | inl e => rw [hS] at hC; cases hC
              | inr q =>
                rw [hS] at hC hQ
                have h1 := of_decide_eq_true hC
                have h2 := PX.at (x := q.1) hQ.1
                have h3 := hQ.1.e0.mpr ⟨q.1, rfl⟩
                omega
            have hRT : ldE tx n = S := by rw [← hR]; exact ldE_end hCn
            refine z_aload_n C dX3_load_99 hl 0 rfl ?_
            refine z_iconst C dX3_load_100 ?_
            refine m_puts C hH hS 32 ⟨by decide, by decide⟩ q2217 rfl ⟨rfl, rfl⟩ dX3_load_101 (fun H locs hH hS => ?_)
            refine z_aload_n C dX3_load_104 hl 0 rfl ?_
            refine m_getsZ C hH 37 ⟨by decide, by decide⟩ (s1 37 0) rfl q2222 rfl dX3_load_105 ?_
            refine z_ifle C dX3_load_108 (tgt := 113) (by decide) ⟨by omega, by omega⟩ (fun c_108_2 => ?_) (fun c_108_2 => ?_)
            · refine z_aload_n C dX3_load_113 hl 0 rfl ?_
              refine m_geta C hH 2 ⟨by decide, by decide⟩ q2187 rfl dX3_load_114 ?_
              refine z_iconst C dX3_load_117 ?_
              refine z_aload_n C dX3_load_118 hl 0 rfl ?_
              refine m_geta C hH 1 ⟨by decide, by decide⟩ q2186 rfl dX3_load_119 ?_
              refine z_iconst C dX3_load_122 ?_
              refine m_SvF C hH hS (mm_copies hOk (su s1 32 0 0) 2 0 1 0 (⟨by decide, by decide⟩) (⟨by decide, by decide⟩) (by decide) (show 0 ≤ (0 : Int) ∧ (0 : Int) + 828 ≤ (828 : Int) by omega) (show 0 ≤ (0 : Int) ∧ (0 : Int) + 828 ≤ (828 : Int) by omega)) (va_cwS 4 C.1.2.2.2.2 (lw_S q2182 q2183 q133 q2184) rfl rfl rfl (by decide +kernel) ⟨Nat.le_of_ble_eq_true rfl, Nat.le_of_ble_eq_true rfl⟩) rfl hl rfl (Nat.le_of_ble_eq_true rfl) dX3_load_123 ⟨Nat.le_refl _, Nat.le_refl _⟩ (fun H locs hH hS => ?_)
              refine z_aload_n C dX3_load_126 hl 0 rfl ?_
              refine z_iconst C dX3_load_127 ?_
              refine m_puts C hH hS 4 ⟨by decide, by decide⟩ q2189 rfl ⟨rfl, rfl⟩ dX3_load_128 (fun H locs hH hS => ?_)
              refine z_aload_n C dX3_load_131 hl 0 rfl ?_
              refine m_geta C hH 1 ⟨by decide, by decide⟩ q2186 rfl dX3_load_132 ?_
              refine z_iconst C dX3_load_135 ?_
              refine m_ialdZ C hOk hH 1 ⟨by decide, by decide⟩ 1 (wr (fun j => s1 2 (0 + (j - 0))) (s1 1) 0 (0 + 828) 1) (rfl) (show 0 ≤ 1 ∧ 1 < (828 : Int) by omega) dX3_load_136 ?_
              refine m_iret C hret hH hS dX3_load_137 ?_
              rw [hRT]
              obtain ⟨x, hx⟩ := hQ.1.e0.mp (by omega)
              obtain ⟨q, hSq, -⟩ := erP_inr hx
              have hg := hQ.2 q hSq
              refine ⟨h00, ⟨rfl, by omega, (fun i a b => absurd b (by omega)), hx4⟩, ?_, frSu (frSa (frSu ((frSu Fr.rf rfl).th hfr rfl) rfl) rfl) rfl⟩
              have h9 := hQ.1.2.2
              rw [hSq] at h9 ⊢
              refine ⟨?_, h9.1, h9.2.2, PgAt.congr hg.2 hg.1 (fun j a b => ?_), hg.2, (fun i Q h => by cases h), su_self _ _ _ _, by decide, (fun Q h => by cases h)⟩
              · rw [wr_in _ _ (by decide) (by decide)]; exact hg.1.2.1
              · show wr (fun j => s1 2 (0 + (j - 0))) (s1 1) 0 (0 + 828) j = _
                rw [wr_in _ _ a (by omega)]; congr 1; omega
            · refine z_iconst C dX3_load_111 ?_
              refine m_iret C hret hH hS dX3_load_112 ?_
              rw [hRT]
              obtain ⟨e, he⟩ := hQ.1.e1 (by omega)
              have hS := erP_inl he
              refine ⟨h00, ⟨su_self _ _ _ _, by omega, (fun i a b => absurd b (by omega)), hx4⟩, ?_, frSu ((frSu Fr.rf rfl).th hfr rfl) rfl⟩
              have h9 := hQ.1.2.2
              rw [he] at h9
              rw [hS]
              exact ⟨rfl, h9.1, h9.2.1, hI.keep (hfr.at 1 rfl) (hfr.at 3 rfl) (hfr.at 4 rfl)⟩
          · refine z_aload_n C dX3_load_85 hl 0 rfl ?_
            refine m_getsZ C hH 35 ⟨by decide, by decide⟩ (s1 35 0) rfl q2220 rfl dX3_load_86 ?_
            refine z_ifeq C dX3_load_89 (tgt := 99) (by decide) ⟨by omega, by omega⟩ (fun c_89_1 => ?_) (fun c_89_1 => ?_)
            · have hCn : ¬ stC S = true := fun hC => by
                cases hS : S with
                | inl e => rw [hS] at hC; cases hC
                | inr q =>
                  rw [hS] at hC hQ
                  have h1 := of_decide_eq_true hC
                  have h2 := PX.at (x := q.1) hQ.1
                  have h3 := hQ.1.e0.mpr ⟨q.1, rfl⟩
                  omega
              have hRT : ldE tx n = S := by rw [← hR]; exact ldE_end hCn
              refine z_aload_n C dX3_load_99 hl 0 rfl ?_
              refine z_iconst C dX3_load_100 ?_
              refine m_puts C hH hS 32 ⟨by decide, by decide⟩ q2217 rfl ⟨rfl, rfl⟩ dX3_load_101 (fun H locs hH hS => ?_)
              refine z_aload_n C dX3_load_104 hl 0 rfl ?_
              refine m_getsZ C hH 37 ⟨by decide, by decide⟩ (s1 37 0) rfl q2222 rfl dX3_load_105 ?_
              refine z_ifle C dX3_load_108 (tgt := 113) (by decide) ⟨by omega, by omega⟩ (fun c_108_3 => ?_) (fun c_108_3 => ?_)
              · refine z_aload_n C dX3_load_113 hl 0 rfl ?_
                refine m_geta C hH 2 ⟨by decide, by decide⟩ q2187 rfl dX3_load_114 ?_
                refine z_iconst C dX3_load_117 ?_
                refine z_aload_n C dX3_load_118 hl 0 rfl ?_
                refine m_geta C hH 1 ⟨by decide, by decide⟩ q2186 rfl dX3_load_119 ?_
                refine z_iconst C dX3_load_122 ?_
                refine m_SvF C hH hS (mm_copies hOk (su s1 32 0 0) 2 0 1 0 (⟨by decide, by decide⟩) (⟨by decide, by decide⟩) (by decide) (show 0 ≤ (0 : Int) ∧ (0 : Int) + 828 ≤ (828 : Int) by omega) (show 0 ≤ (0 : Int) ∧ (0 : Int) + 828 ≤ (828 : Int) by omega)) (va_cwS 4 C.1.2.2.2.2 (lw_S q2182 q2183 q133 q2184) rfl rfl rfl (by decide +kernel) ⟨Nat.le_of_ble_eq_true rfl, Nat.le_of_ble_eq_true rfl⟩) rfl hl rfl (Nat.le_of_ble_eq_true rfl) dX3_load_123 ⟨Nat.le_refl _, Nat.le_refl _⟩ (fun H locs hH hS => ?_)
                refine z_aload_n C dX3_load_126 hl 0 rfl ?_
                refine z_iconst C dX3_load_127 ?_
                refine m_puts C hH hS 4 ⟨by decide, by decide⟩ q2189 rfl ⟨rfl, rfl⟩ dX3_load_128 (fun H locs hH hS => ?_)
                refine z_aload_n C dX3_load_131 hl 0 rfl ?_
                refine m_geta C hH 1 ⟨by decide, by decide⟩ q2186 rfl dX3_load_132 ?_
                refine z_iconst C dX3_load_135 ?_
                refine m_ialdZ C hOk hH 1 ⟨by decide, by decide⟩ 1 (wr (fun j => s1 2 (0 + (j - 0))) (s1 1) 0 (0 + 828) 1) (rfl) (show 0 ≤ 1 ∧ 1 < (828 : Int) by omega) dX3_load_136 ?_
                refine m_iret C hret hH hS dX3_load_137 ?_
                rw [hRT]
                obtain ⟨x, hx⟩ := hQ.1.e0.mp (by omega)
                obtain ⟨q, hSq, -⟩ := erP_inr hx
                have hg := hQ.2 q hSq
                refine ⟨h00, ⟨rfl, by omega, (fun i a b => absurd b (by omega)), hx4⟩, ?_, frSu (frSa (frSu ((frSu Fr.rf rfl).th hfr rfl) rfl) rfl) rfl⟩
                have h9 := hQ.1.2.2
                rw [hSq] at h9 ⊢
                refine ⟨?_, h9.1, h9.2.2, PgAt.congr hg.2 hg.1 (fun j a b => ?_), hg.2, (fun i Q h => by cases h), su_self _ _ _ _, by decide, (fun Q h => by cases h)⟩
                · rw [wr_in _ _ (by decide) (by decide)]; exact hg.1.2.1
                · show wr (fun j => s1 2 (0 + (j - 0))) (s1 1) 0 (0 + 828) j = _
                  rw [wr_in _ _ a (by omega)]; congr 1; omega
              · refine z_iconst C dX3_load_111 ?_
                refine m_iret C hret hH hS dX3_load_112 ?_
                rw [hRT]
                obtain ⟨e, he⟩ := hQ.1.e1 (by omega)
                have hS := erP_inl he
                refine ⟨h00, ⟨su_self _ _ _ _, by omega, (fun i a b => absurd b (by omega)), hx4⟩, ?_, frSu ((frSu Fr.rf rfl).th hfr rfl) rfl⟩
                have h9 := hQ.1.2.2
                rw [he] at h9
                rw [hS]
                exact ⟨rfl, h9.1, h9.2.1, hI.keep (hfr.at 1 rfl) (hfr.at 3 rfl) (hfr.at 4 rfl)⟩
            · obtain ⟨x, hx⟩ := hQ.1.e0.mp (by omega)
              obtain ⟨q, hSq, -⟩ := erP_inr hx
              have hC : stC S = true := by
                rw [hSq]
                have h1 := hQ.1
                rw [hSq] at h1
                have h2 := PX.at (x := q.1) h1
                exact decide_eq_true (by omega)
              refine z_aload_n C dX3_load_92 hl 0 rfl ?_
              refine m_Vv C hH hS (mm_readsStatement hOk s1 tx n q.1 q.2 (by rw [hSq] at hQ; exact hQ.1) ((hQ.2 q hSq).1) ((hQ.2 q hSq).2) (fun j a b => by rw [hfr.at 39 rfl]; exact hD j a b)) (cwV 0 C.1.2.2.2.2 (lw_V q2666 q2668 qs96 q133 q2669) rfl rfl rfl (by decide +kernel) ⟨Nat.le_of_ble_eq_true rfl, Nat.le_of_ble_eq_true rfl⟩) rfl hl rfl (Nat.le_of_ble_eq_true rfl) dX3_load_93 ⟨Nat.le_refl _, Nat.le_refl _⟩ (fun tf H locs hp_93_1 hH hS => ?_)
              obtain ⟨hqf, hff⟩ := hp_93_1
              refine z_goto C dX3_load_96 (tgt := 78) (by decide) ?_
              exact ih_78 tf ((stS tx n S)) (by have := (stS_step hx4 S hO hC).1; omega) (by rw [hSq]; exact hqf) ((stS_step hx4 S hO hC).2) (hfr.th hff rfl) (by rw [hff.at 0 rfl]; exact h00) (by rw [← hR, ldE_go hx4 hx2.2 hO hC]) _ _ _ hH hS (lv_sub hl [0] rfl)
      exact J_78 _ ((su (su (su (su (sa te 2 (wr (fun _ => 0) (te 2) 0 828)) 2 0 v) 2 2 4) 2 6 8) 2 7 16)) ((mpE (seE tx n (goE tx n (lkE (.inr (nxt tx n (nxt tx n 0).1)) 8 40))) (bgP (lkV (.inr (nxt tx n (nxt tx n 0).1)) 8 40)))) (Nat.lt_succ_self _) (QX.mp (hpe.fr (fun k a b => by rw [su_ne _ _ _ (by omega), su_ne _ _ _ (by omega), su_ne _ _ _ (by omega), su_ne _ _ _ (by omega), sa_ne _ _ (by omega)])) (fun x hx => ⟨by rw [← hvc]; exact bgP_at _ _ ⟨rfl, rfl, rfl, rfl⟩ (fun j a b c d e => by show uZ (uZ (uZ (uZ (wr (fun _ => 0) (te 2) 0 828) 0 _) 2 4) 6 8) 7 16 j = 0; rw [uZ_ne _ _ e, uZ_ne _ _ d, uZ_ne _ _ c, uZ_ne _ _ (by omega), wr_in _ _ (by omega) (by omega)]), bgP_ok (by rw [← hvc]; exact kr)⟩)) (by rw [erP_mp]; exact ((((((ok_0 hx4 hx2.1).go hx4).lk _ _).go hx4).nd _ _).go hx4)) (frSu (frSu (frSu (frSu (frSa hfe9 rfl) rfl) rfl) rfl) rfl) (by show te 0 0 = 0; rw [hfe.at 0 rfl, hfd.at 0 rfl, hfc.at 0 rfl, hfb.at 0 rfl]; exact ha0) (by unfold ldE wdE; rw [if_pos (by omega)]) _ _ _ hH hS (lv_sub hl [1] rfl)
    · refine z_iconst C dX3_load_60 ?_
      refine z_goto C dX3_load_61 (tgt := 65) (by decide) ?_
      refine z_iconst C dX3_load_65 ?_
      refine m_Vv C hH hS (mm_must hOk tc 1 1 tx n ((goE tx n (lkE (.inr (nxt tx n (nxt tx n 0).1)) 8 40))) (hpc) (by decide) (by decide)) (cwV 2 C.1.2.2.2.2 (lw_V q2662 q2664 qs95 q133 q2665) rfl rfl rfl (by decide +kernel) ⟨Nat.le_of_ble_eq_true rfl, Nat.le_of_ble_eq_true rfl⟩) rfl hl rfl (Nat.le_of_ble_eq_true rfl) dX3_load_66 ⟨Nat.le_refl _, Nat.le_refl _⟩ (fun td H locs hp_66_1 hH hS => ?_)
      obtain ⟨hpd, hfd⟩ := hp_66_1
      have e66 : ndE (goE tx n (lkE (.inr (nxt tx n (nxt tx n 0).1)) 8 40)) (decide ((1 : Int) = 1)) 1 = ndE (goE tx n (lkE (.inr (nxt tx n (nxt tx n 0).1)) 8 40)) (kdE (goE tx n (lkE (.inr (nxt tx n (nxt tx n 0).1)) 8 40)) 4) 1 := hpc.kd (decide_eq_decide.mpr (by omega))
      rw [e66] at hpd
      refine z_aload_n C dX3_load_69 hl 1 rfl ?_
      refine m_Vv C hH hS (mm_goesOn hOk td tx n ((ndE (goE tx n (lkE (.inr (nxt tx n (nxt tx n 0).1)) 8 40)) (kdE (goE tx n (lkE (.inr (nxt tx n (nxt tx n 0).1)) 8 40)) 4) 1)) (hpd)) (cwV 0 C.1.2.2.2.2 (lw_V q2650 q2652 qs92 q133 q2653) rfl rfl rfl (by decide +kernel) ⟨Nat.le_of_ble_eq_true rfl, Nat.le_of_ble_eq_true rfl⟩) rfl hl rfl (Nat.le_of_ble_eq_true rfl) dX3_load_70 ⟨Nat.le_refl _, Nat.le_refl _⟩ (fun te H locs hp_70_1 hH hS => ?_)
      obtain ⟨hpe, hfe⟩ := hp_70_1
      have hfe9 : Fr [2, 7, 9, 15, 16, 17, 33, 34, 35, 36, 37, 38] (su σ 0 0 0) te := (((hfa9.th hfb rfl).th hfc rfl).th hfd rfl).th hfe rfl
      refine z_aload_n C dX3_load_73 hl 1 rfl ?_
      refine z_iload_n C dX3_load_74 hl 0 rfl ?_
      refine m_VvF C hH hS (mm_begins hOk te v) (cwV 1 C.1.2.2.2.2 (lw_V q2178 q2180 qs43 q133 q2181) rfl rfl rfl (by decide +kernel) ⟨Nat.le_of_ble_eq_true rfl, Nat.le_of_ble_eq_true rfl⟩) rfl hl rfl (Nat.le_of_ble_eq_true rfl) dX3_load_75 ⟨Nat.le_refl _, Nat.le_refl _⟩ (fun H locs hH hS => ?_)
      have J_78 : ∀ (fu : Nat) (s1 : Sg) (S : Er (LX × Pg)), stQ n S < fu → (QX s1 tx n S) → (okR n 0 (erP S)) → (Fr [2, 7, 9, 15, 16, 17, 33, 34, 35, 36, 37, 38] (su σ 0 0 0) s1) → (s1 0 0 = 0) → (itN (stS tx n) stC 1000 S = ldE tx n) → ∀ (H : Heap) (locs : List Loc) (ls : Array Slot), MH D dA A o ad s1 H → va_S A s0.heap H locs → lv_has ls 2 [(0, .ref o)] → W pp l ee (rmL 10 0 0) s0 mm ([.ref o] : List Value).toArray below meth cc0 H locs 0 0 (MQ below (MQi D dA A o ad (fun r σ' => σ' 0 0 = 0 ∧ TxAt σ' tx 0 ∧ (match ldE tx n with | .inl e => r = -1 ∧ σ' 37 0 = e.1 ∧ σ' 38 0 = e.2 ∧ MIv σ' P L | .inr q => r = pN q.2 ∧ σ' 37 0 = 0 ∧ σ' 38 0 = -1 ∧ MIv σ' q.2 []) ∧ Fr [0, 1, 2, 4, 7, 9, 15, 16, 17, 32, 33, 34, 35, 36, 37, 38] σ σ')) ([.ref o] : List Value).toArray s0 0 0 A) (F0 mm 78 ls []) := by
        intro fu
        induction fu with
        | zero => intro s1 S hn; exact absurd hn (Nat.not_lt_zero _)
        | succ fu ih_78 =>
          intro s1 S hn hQ hO hfr h00 hR H locs ls hH hS hl
          have er1 := hQ.1.er
          have lr1 := hQ.1.2.1
          obtain ⟨-, -, -, t4_, t5_, -, -, -, -⟩ := lr1
          refine z_aload_n C dX3_load_78 hl 0 rfl ?_
          refine m_getsZ C hH 37 ⟨by decide, by decide⟩ (s1 37 0) rfl q2222 rfl dX3_load_79 ?_
          refine z_ifne C dX3_load_82 (tgt := 99) (by decide) ⟨by omega, by omega⟩ (fun c_82_2 => ?_) (fun c_82_2 => ?_)
          · have hCn : ¬ stC S = true := fun hC => by
              cases hS : S with
              | inl e => rw [hS] at hC; cases hC
              | inr q =>
                rw [hS] at hC hQ
                have h1 := of_decide_eq_true hC
                have h2 := PX.at (x := q.1) hQ.1
                have h3 := hQ.1.e0.mpr ⟨q.1, rfl⟩
                omega
            have hRT : ldE tx n = S := by rw [← hR]; exact ldE_end hCn
            refine z_aload_n C dX3_load_99 hl 0 rfl ?_
            refine z_iconst C dX3_load_100 ?_
            refine m_puts C hH hS 32 ⟨by decide, by decide⟩ q2217 rfl ⟨rfl, rfl⟩ dX3_load_101 (fun H locs hH hS => ?_)
            refine z_aload_n C dX3_load_104 hl 0 rfl ?_
            refine m_getsZ C hH 37 ⟨by decide, by decide⟩ (s1 37 0) rfl q2222 rfl dX3_load_105 ?_
            refine z_ifle C dX3_load_108 (tgt := 113) (by decide) ⟨by omega, by omega⟩ (fun c_108_4 => ?_) (fun c_108_4 => ?_)
            · refine z_aload_n C dX3_load_113 hl 0 rfl ?_
              refine m_geta C hH 2 ⟨by decide, by decide⟩ q2187 rfl dX3_load_114 ?_
              refine z_iconst C dX3_load_117 ?_
              refine z_aload_n C dX3_load_118 hl 0 rfl ?_
              refine m_geta C hH 1 ⟨by decide, by decide⟩ q2186 rfl dX3_load_119 ?_
              refine z_iconst C dX3_load_122 ?_
              refine m_SvF C hH hS (mm_copies hOk (su s1 32 0 0) 2 0 1 0 (⟨by decide, by decide⟩) (⟨by decide, by decide⟩) (by decide) (show 0 ≤ (0 : Int) ∧ (0 : Int) + 828 ≤ (828 : Int) by omega) (show 0 ≤ (0 : Int) ∧ (0 : Int) + 828 ≤ (828 : Int) by omega)) (va_cwS 4 C.1.2.2.2.2 (lw_S q2182 q2183 q133 q2184) rfl rfl rfl (by decide +kernel) ⟨Nat.le_of_ble_eq_true rfl, Nat.le_of_ble_eq_true rfl⟩) rfl hl rfl (Nat.le_of_ble_eq_true rfl) dX3_load_123 ⟨Nat.le_refl _, Nat.le_refl _⟩ (fun H locs hH hS => ?_)
              refine z_aload_n C dX3_load_126 hl 0 rfl ?_
              refine z_iconst C dX3_load_127 ?_
              refine m_puts C hH hS 4 ⟨by decide, by decide⟩ q2189 rfl ⟨rfl, rfl⟩ dX3_load_128 (fun H locs hH hS => ?_)
              refine z_aload_n C dX3_load_131 hl 0 rfl ?_
              refine m_geta C hH 1 ⟨by decide, by decide⟩ q2186 rfl dX3_load_132 ?_
              refine z_iconst C dX3_load_135 ?_
              refine m_ialdZ C hOk hH 1 ⟨by decide, by decide⟩ 1 (wr (fun j => s1 2 (0 + (j - 0))) (s1 1) 0 (0 + 828) 1) (rfl) (show 0 ≤ 1 ∧ 1 < (828 : Int) by omega) dX3_load_136 ?_
              refine m_iret C hret hH hS dX3_load_137 ?_
              rw [hRT]
              obtain ⟨x, hx⟩ := hQ.1.e0.mp (by omega)
              obtain ⟨q, hSq, -⟩ := erP_inr hx
              have hg := hQ.2 q hSq
              refine ⟨h00, ⟨rfl, by omega, (fun i a b => absurd b (by omega)), hx4⟩, ?_, frSu (frSa (frSu ((frSu Fr.rf rfl).th hfr rfl) rfl) rfl) rfl⟩
              have h9 := hQ.1.2.2
              rw [hSq] at h9 ⊢
              refine ⟨?_, h9.1, h9.2.2, PgAt.congr hg.2 hg.1 (fun j a b => ?_), hg.2, (fun i Q h => by cases h), su_self _ _ _ _, by decide, (fun Q h => by cases h)⟩
              · rw [wr_in _ _ (by decide) (by decide)]; exact hg.1.2.1
              · show wr (fun j => s1 2 (0 + (j - 0))) (s1 1) 0 (0 + 828) j = _
                rw [wr_in _ _ a (by omega)]; congr 1; omega
            · refine z_iconst C dX3_load_111 ?_
              refine m_iret C hret hH hS dX3_load_112 ?_
              rw [hRT]
              obtain ⟨e, he⟩ := hQ.1.e1 (by omega)
              have hS := erP_inl he
              refine ⟨h00, ⟨su_self _ _ _ _, by omega, (fun i a b => absurd b (by omega)), hx4⟩, ?_, frSu ((frSu Fr.rf rfl).th hfr rfl) rfl⟩
              have h9 := hQ.1.2.2
              rw [he] at h9
              rw [hS]
              exact ⟨rfl, h9.1, h9.2.1, hI.keep (hfr.at 1 rfl) (hfr.at 3 rfl) (hfr.at 4 rfl)⟩
          · refine z_aload_n C dX3_load_85 hl 0 rfl ?_
            refine m_getsZ C hH 35 ⟨by decide, by decide⟩ (s1 35 0) rfl q2220 rfl dX3_load_86 ?_
            refine z_ifeq C dX3_load_89 (tgt := 99) (by decide) ⟨by omega, by omega⟩ (fun c_89_2 => ?_) (fun c_89_2 => ?_)
            · have hCn : ¬ stC S = true := fun hC => by
                cases hS : S with
                | inl e => rw [hS] at hC; cases hC
                | inr q =>
                  rw [hS] at hC hQ
                  have h1 := of_decide_eq_true hC
                  have h2 := PX.at (x := q.1) hQ.1
                  have h3 := hQ.1.e0.mpr ⟨q.1, rfl⟩
                  omega
              have hRT : ldE tx n = S := by rw [← hR]; exact ldE_end hCn
              refine z_aload_n C dX3_load_99 hl 0 rfl ?_
              refine z_iconst C dX3_load_100 ?_
              refine m_puts C hH hS 32 ⟨by decide, by decide⟩ q2217 rfl ⟨rfl, rfl⟩ dX3_load_101 (fun H locs hH hS => ?_)
              refine z_aload_n C dX3_load_104 hl 0 rfl ?_
              refine m_getsZ C hH 37 ⟨by decide, by decide⟩ (s1 37 0) rfl q2222 rfl dX3_load_105 ?_
              refine z_ifle C dX3_load_108 (tgt := 113) (by decide) ⟨by omega, by omega⟩ (fun c_108_5 => ?_) (fun c_108_5 => ?_)
              · refine z_aload_n C dX3_load_113 hl 0 rfl ?_
                refine m_geta C hH 2 ⟨by decide, by decide⟩ q2187 rfl dX3_load_114 ?_
                refine z_iconst C dX3_load_117 ?_
                refine z_aload_n C dX3_load_118 hl 0 rfl ?_
                refine m_geta C hH 1 ⟨by decide, by decide⟩ q2186 rfl dX3_load_119 ?_
                refine z_iconst C dX3_load_122 ?_
                refine m_SvF C hH hS (mm_copies hOk (su s1 32 0 0) 2 0 1 0 (⟨by decide, by decide⟩) (⟨by decide, by decide⟩) (by decide) (show 0 ≤ (0 : Int) ∧ (0 : Int) + 828 ≤ (828 : Int) by omega) (show 0 ≤ (0 : Int) ∧ (0 : Int) + 828 ≤ (828 : Int) by omega)) (va_cwS 4 C.1.2.2.2.2 (lw_S q2182 q2183 q133 q2184) rfl rfl rfl (by decide +kernel) ⟨Nat.le_of_ble_eq_true rfl, Nat.le_of_ble_eq_true rfl⟩) rfl hl rfl (Nat.le_of_ble_eq_true rfl) dX3_load_123 ⟨Nat.le_refl _, Nat.le_refl _⟩ (fun H locs hH hS => ?_)
                refine z_aload_n C dX3_load_126 hl 0 rfl ?_
                refine z_iconst C dX3_load_127 ?_
                refine m_puts C hH hS 4 ⟨by decide, by decide⟩ q2189 rfl ⟨rfl, rfl⟩ dX3_load_128 (fun H locs hH hS => ?_)
                refine z_aload_n C dX3_load_131 hl 0 rfl ?_
                refine m_geta C hH 1 ⟨by decide, by decide⟩ q2186 rfl dX3_load_132 ?_
                refine z_iconst C dX3_load_135 ?_
                refine m_ialdZ C hOk hH 1 ⟨by decide, by decide⟩ 1 (wr (fun j => s1 2 (0 + (j - 0))) (s1 1) 0 (0 + 828) 1) (rfl) (show 0 ≤ 1 ∧ 1 < (828 : Int) by omega) dX3_load_136 ?_
                refine m_iret C hret hH hS dX3_load_137 ?_
                rw [hRT]
                obtain ⟨x, hx⟩ := hQ.1.e0.mp (by omega)
                obtain ⟨q, hSq, -⟩ := erP_inr hx
                have hg := hQ.2 q hSq
                refine ⟨h00, ⟨rfl, by omega, (fun i a b => absurd b (by omega)), hx4⟩, ?_, frSu (frSa (frSu ((frSu Fr.rf rfl).th hfr rfl) rfl) rfl) rfl⟩
                have h9 := hQ.1.2.2
                rw [hSq] at h9 ⊢
                refine ⟨?_, h9.1, h9.2.2, PgAt.congr hg.2 hg.1 (fun j a b => ?_), hg.2, (fun i Q h => by cases h), su_self _ _ _ _, by decide, (fun Q h => by cases h)⟩
                · rw [wr_in _ _ (by decide) (by decide)]; exact hg.1.2.1
                · show wr (fun j => s1 2 (0 + (j - 0))) (s1 1) 0 (0 + 828) j = _
                  rw [wr_in _ _ a (by omega)]; congr 1; omega
              · refine z_iconst C dX3_load_111 ?_
                refine m_iret C hret hH hS dX3_load_112 ?_
                rw [hRT]
                obtain ⟨e, he⟩ := hQ.1.e1 (by omega)
                have hS := erP_inl he
                refine ⟨h00, ⟨su_self _ _ _ _, by omega, (fun i a b => absurd b (by omega)), hx4⟩, ?_, frSu ((frSu Fr.rf rfl).th hfr rfl) rfl⟩
                have h9 := hQ.1.2.2
                rw [he] at h9
                rw [hS]
                exact ⟨rfl, h9.1, h9.2.1, hI.keep (hfr.at 1 rfl) (hfr.at 3 rfl) (hfr.at 4 rfl)⟩
            · obtain ⟨x, hx⟩ := hQ.1.e0.mp (by omega)
              obtain ⟨q, hSq, -⟩ := erP_inr hx
              have hC : stC S = true := by
                rw [hSq]
                have h1 := hQ.1
                rw [hSq] at h1
                have h2 := PX.at (x := q.1) h1
                exact decide_eq_true (by omega)
              refine z_aload_n C dX3_load_92 hl 0 rfl ?_
              refine m_Vv C hH hS (mm_readsStatement hOk s1 tx n q.1 q.2 (by rw [hSq] at hQ; exact hQ.1) ((hQ.2 q hSq).1) ((hQ.2 q hSq).2) (fun j a b => by rw [hfr.at 39 rfl]; exact hD j a b)) (cwV 0 C.1.2.2.2.2 (lw_V q2666 q2668 qs96 q133 q2669) rfl rfl rfl (by decide +kernel) ⟨Nat.le_of_ble_eq_true rfl, Nat.le_of_ble_eq_true rfl⟩) rfl hl rfl (Nat.le_of_ble_eq_true rfl) dX3_load_93 ⟨Nat.le_refl _, Nat.le_refl _⟩ (fun tf H locs hp_93_2 hH hS => ?_)
              obtain ⟨hqf, hff⟩ := hp_93_2
              refine z_goto C dX3_load_96 (tgt := 78) (by decide) ?_
              exact ih_78 tf ((stS tx n S)) (by have := (stS_step hx4 S hO hC).1; omega) (by rw [hSq]; exact hqf) ((stS_step hx4 S hO hC).2) (hfr.th hff rfl) (by rw [hff.at 0 rfl]; exact h00) (by rw [← hR, ldE_go hx4 hx2.2 hO hC]) _ _ _ hH hS (lv_sub hl [0] rfl)
      exact J_78 _ ((su (su (su (su (sa te 2 (wr (fun _ => 0) (te 2) 0 828)) 2 0 v) 2 2 4) 2 6 8) 2 7 16)) ((mpE (seE tx n (goE tx n (lkE (.inr (nxt tx n (nxt tx n 0).1)) 8 40))) (bgP (lkV (.inr (nxt tx n (nxt tx n 0).1)) 8 40)))) (Nat.lt_succ_self _) (QX.mp (hpe.fr (fun k a b => by rw [su_ne _ _ _ (by omega), su_ne _ _ _ (by omega), su_ne _ _ _ (by omega), su_ne _ _ _ (by omega), sa_ne _ _ (by omega)])) (fun x hx => ⟨by rw [← hvc]; exact bgP_at _ _ ⟨rfl, rfl, rfl, rfl⟩ (fun j a b c d e => by show uZ (uZ (uZ (uZ (wr (fun _ => 0) (te 2) 0 828) 0 _) 2 4) 6 8) 7 16 j = 0; rw [uZ_ne _ _ e, uZ_ne _ _ d, uZ_ne _ _ c, uZ_ne _ _ (by omega), wr_in _ _ (by omega) (by omega)]), bgP_ok (by rw [← hvc]; exact kr)⟩)) (by rw [erP_mp]; exact ((((((ok_0 hx4 hx2.1).go hx4).lk _ _).go hx4).nd _ _).go hx4)) (frSu (frSu (frSu (frSu (frSa hfe9 rfl) rfl) rfl) rfl) rfl) (by show te 0 0 = 0; rw [hfe.at 0 rfl, hfd.at 0 rfl, hfc.at 0 rfl, hfb.at 0 rfl]; exact ha0) (by unfold ldE wdE; rw [if_pos (by omega)]) _ _ _ hH hS (lv_sub hl [1] rfl)
