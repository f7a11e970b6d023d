/-! the reference's methods, 16 (written by gen/model16.py) -/
set_option maxRecDepth 100000
set_option maxHeartbeats 1000000 in
theorem mm_readsOne {l : Launch} {D : va_G} {dA : Nat → ClassId} {A : Nat → Prop} {o : Nat} {ad : Nat → Nat} (hOk : mOk o ad) (σ : Sg) (tx : Int → Int) (n : Int) (xx : LX) (wd : Int) (u : Int → Int) (q : Rd) (hp : PX σ tx n (.inr xx)) (hW : 8 ≤ wd ∧ wd ≤ 40) (h9 : σ 9 0 = wd) (hD : WdAt σ) (hw6 : 6 ≤ wix tx xx) (hu : ∀ j, 0 ≤ j → j < wd → σ 7 j = u j) (hb : ∀ j, u j = 0 ∨ u j = 1) (hq : RdAt σ q) (ho : RdOk wd q) : Met l yX3_readsOne (ws_ yX3_readsOne cX3_readsOne 6 none) (rmL 6 0 0) (MP D dA A o ad [.ref o] σ) (MQv D dA A o ad (fun σ' => PX σ' tx n (abS tx n wd u (.inr xx, q)).1 ∧ (∀ y, (abS tx n wd u (.inr xx, q)).1 = .inr y → RdAt σ' (abS tx n wd u (.inr xx, q)).2) ∧ (-1 ≤ σ' 16 0 ∧ σ' 16 0 ≤ wd) ∧ Fr [15, 16, 17, 33, 34, 35, 36, 37, 38] σ σ')) 0 0 A := by
  refine z_ofW (by decide) rfl ?_
  intro pp ee s0 mm below meth cc0 ls C hret hname hl hH hS
  have hl : lv_has ls 6 [(0, .ref o)] := hl
  have w6 := wix_in tx xx
  have pa := hp.at
  obtain ⟨q1, q2, q3⟩ := hq
  obtain ⟨o1, o2, o3, o4⟩ := ho
  have ho : RdOk wd q := ⟨o1, o2, o3, o4⟩
  have hq : RdAt σ q := ⟨q1, q2, q3⟩
  obtain ⟨w, hw⟩ : ∃ y, y = wix tx xx - 6 := ⟨_, rfl⟩
  obtain ⟨r1, hr1⟩ : ∃ y, y = ndE (.inr xx) (decide (q.1 < wd)) 4 := ⟨_, rfl⟩
  refine z_aload_n C dX3_readsOne_0 hl 0 rfl ?_
  refine m_ViF C hH hS (mm_wordHere hOk σ tx n xx (hp) (hD)) (cwV 0 C.1.2.2.2.2 (lw_V q2646 q2648 qs91 q133 q2649) rfl rfl rfl (by decide +kernel) ⟨Nat.le_of_ble_eq_true rfl, Nat.le_of_ble_eq_true rfl⟩) rfl hl rfl (Nat.le_of_ble_eq_true rfl) dX3_readsOne_1 ⟨Nat.le_refl _, Nat.le_refl _⟩ (fun H locs hH hS => ?_)
  refine z_bipush C dX3_readsOne_4 (by decide +kernel) ?_
  refine z_isub C dX3_readsOne_6 ?_
  refine z_topr (show wix tx xx - 6 = w from hw.symm) ?_
  refine z_istore_n C [(1, .int (iI w)), (0, .ref o)] dX3_readsOne_7 hl (by decide) rfl (fun ls hl => ?_)
  have J_25 : ∀ (b : Int), (b = 0 ∨ b = 1) → (b = 1 ↔ q.1 < wd) → ∀ (H : Heap) (locs : List Loc) (ls : Array Slot), MH D dA A o ad σ H → va_S A s0.heap H locs → lv_has ls 6 [(1, .int (iI w)), (0, .ref o)] → W pp l ee (rmL 6 0 0) s0 mm ([.ref o] : List Value).toArray below meth cc0 H locs 0 0 (MQ below (MQv D dA A o ad (fun σ' => PX σ' tx n (abS tx n wd u (.inr xx, q)).1 ∧ (∀ y, (abS tx n wd u (.inr xx, q)).1 = .inr y → RdAt σ' (abS tx n wd u (.inr xx, q)).2) ∧ (-1 ≤ σ' 16 0 ∧ σ' 16 0 ≤ wd) ∧ Fr [15, 16, 17, 33, 34, 35, 36, 37, 38] σ σ')) ([.ref o] : List Value).toArray s0 0 0 A) (F0 mm 25 ls [.int (iI b), .ref o]) := by
    intro b hb1 hb2 H locs ls hH hS hl
    refine z_iconst C dX3_readsOne_25 ?_
    refine m_Vv C hH hS (mm_must hOk σ b 4 tx n ((.inr xx)) (hp) (hb1) (by decide)) (cwV 2 C.1.2.2.2.2 (lw_V q2662 q2664 qs95 q133 q2665) rfl rfl rfl (by decide +kernel) ⟨Nat.le_of_ble_eq_true rfl, Nat.le_of_ble_eq_true rfl⟩) rfl hl rfl (Nat.le_of_ble_eq_true rfl) dX3_readsOne_26 ⟨Nat.le_refl _, Nat.le_refl _⟩ (fun ta H locs hp_26 hH hS => ?_)
    obtain ⟨hpa, hfa⟩ := hp_26
    have e26 : ndE (.inr xx) (decide (b = 1)) 4 = r1 := by rw [hr1]; exact ndE_congr (fun x hx => decide_eq_decide.mpr hb2)
    rw [e26] at hpa
    refine z_aload_n C dX3_readsOne_29 hl 1 rfl ?_
    refine m_getsZ C hH 34 ⟨by decide, by decide⟩ xx.2.1 (by rw [hfa.at 34 rfl]; exact pa.2.1) q2219 rfl dX3_readsOne_30 ?_
    refine z_istore_n C [(2, .int (iI xx.2.1)), (1, .int (iI w)), (0, .ref o)] dX3_readsOne_33 hl (by decide) rfl (fun ls hl => ?_)
    refine z_aload_n C dX3_readsOne_34 hl 2 rfl ?_
    refine m_Vv C hH hS (mm_goesOn hOk ta tx n r1 (hpa)) (cwV 0 C.1.2.2.2.2 (lw_V q2650 q2652 qs92 q133 q2653) rfl rfl rfl (by decide +kernel) ⟨Nat.le_of_ble_eq_true rfl, Nat.le_of_ble_eq_true rfl⟩) rfl hl rfl (Nat.le_of_ble_eq_true rfl) dX3_readsOne_35 ⟨Nat.le_refl _, Nat.le_refl _⟩ (fun tb H locs hp_35 hH hS => ?_)
    obtain ⟨hpb, hfb⟩ := hp_35
    have erb := hpb.er
    have lrb := hpb.2.1
    obtain ⟨-, -, -, tb4, tb5, -, -, -, -⟩ := lrb
    have J_72 : ∀ (L : Int) (s2 : Sg) (r2 : Er LX), (L = 0 ∨ L = 1) → (L = 1 ↔ (w = 1 ∧ kdE (goE tx n r1) 5 = true)) → (PX s2 tx n r2) → (Fr [33, 34, 35, 36, 37, 38] σ s2) → (r2 = (if L = 1 then goE tx n (goE tx n r1) else goE tx n r1)) → ∀ (H : Heap) (locs : List Loc) (ls : Array Slot), MH D dA A o ad s2 H → va_S A s0.heap H locs → lv_has ls 6 [(3, .int (iI L)), (2, .int (iI xx.2.1)), (1, .int (iI w)), (0, .ref o)] → W pp l ee (rmL 6 0 0) s0 mm ([.ref o] : List Value).toArray below meth cc0 H locs 0 0 (MQ below (MQv D dA A o ad (fun σ' => PX σ' tx n (abS tx n wd u (.inr xx, q)).1 ∧ (∀ y, (abS tx n wd u (.inr xx, q)).1 = .inr y → RdAt σ' (abS tx n wd u (.inr xx, q)).2) ∧ (-1 ≤ σ' 16 0 ∧ σ' 16 0 ≤ wd) ∧ Fr [15, 16, 17, 33, 34, 35, 36, 37, 38] σ σ')) ([.ref o] : List Value).toArray s0 0 0 A) (F0 mm 72 ls []) := by
      intro L s2 r2 hL hLi hp2 hf2 hr2 H locs ls hH hS hl
      have J_105 : ∀ (aa : Int) (s3 : Sg) (r3 : Er LX), (0 ≤ aa ∧ aa ≤ wd ∧ (w = 1 → aa ≤ 3)) → (PX s3 tx n r3) → (Fr [33, 34, 35, 36, 37, 38] σ s3) → ((w = 0 → r3 = r2 ∧ aa = 0) ∧ (w = 1 → r3 = goE tx n (lkE r2 0 3) ∧ aa = lkV r2 0 3) ∧ (w = 2 → r3 = goE tx n (lkE r2 0 wd) ∧ aa = lkV r2 0 wd)) → ∀ (H : Heap) (locs : List Loc) (ls : Array Slot), MH D dA A o ad s3 H → va_S A s0.heap H locs → lv_has ls 6 [(4, .int (iI aa)), (3, .int (iI L)), (2, .int (iI xx.2.1)), (1, .int (iI w)), (0, .ref o)] → W pp l ee (rmL 6 0 0) s0 mm ([.ref o] : List Value).toArray below meth cc0 H locs 0 0 (MQ below (MQv D dA A o ad (fun σ' => PX σ' tx n (abS tx n wd u (.inr xx, q)).1 ∧ (∀ y, (abS tx n wd u (.inr xx, q)).1 = .inr y → RdAt σ' (abS tx n wd u (.inr xx, q)).2) ∧ (-1 ≤ σ' 16 0 ∧ σ' 16 0 ≤ wd) ∧ Fr [15, 16, 17, 33, 34, 35, 36, 37, 38] σ σ')) ([.ref o] : List Value).toArray s0 0 0 A) (F0 mm 105 ls []) := by
        intro aa s3 r3 haa hp3 hf3 hN3 H locs ls hH hS hl
        have J_125 : ∀ (bb : Int) (s4 : Sg) (r4 : Er LX), (0 ≤ bb ∧ bb ≤ wd) → (PX s4 tx n r4) → (Fr [33, 34, 35, 36, 37, 38] σ s4) → ((w ≠ 2 → r4 = r3 ∧ bb = 0) ∧ (w = 2 → r4 = goE tx n (lkE r3 0 wd) ∧ bb = lkV r3 0 wd)) → ∀ (H : Heap) (locs : List Loc) (ls : Array Slot), MH D dA A o ad s4 H → va_S A s0.heap H locs → lv_has ls 6 [(5, .int (iI bb)), (4, .int (iI aa)), (3, .int (iI L)), (2, .int (iI xx.2.1)), (1, .int (iI w)), (0, .ref o)] → W pp l ee (rmL 6 0 0) s0 mm ([.ref o] : List Value).toArray below meth cc0 H locs 0 0 (MQ below (MQv D dA A o ad (fun σ' => PX σ' tx n (abS tx n wd u (.inr xx, q)).1 ∧ (∀ y, (abS tx n wd u (.inr xx, q)).1 = .inr y → RdAt σ' (abS tx n wd u (.inr xx, q)).2) ∧ (-1 ≤ σ' 16 0 ∧ σ' 16 0 ≤ wd) ∧ Fr [15, 16, 17, 33, 34, 35, 36, 37, 38] σ σ')) ([.ref o] : List Value).toArray s0 0 0 A) (F0 mm 125 ls []) := by
          intro bb s4 r4 hbb hp4 hf4 hN4 H locs ls hH hS hl
          have hN : abN tx n wd w (goE tx n r1) = (r4, (if L = 1 then -aa else aa), bb) := by
            unfold abN
            rcases (show w = 0 ∨ w = 1 ∨ w = 2 by omega) with h | h | h
            · have a1 := hN3.1 h
              have a2 := hN4.1 (by omega)
              have a3 : L = 0 := by rcases hL with h1 | h1; exact h1; have := hLi.mp h1; omega
              rw [if_pos h, a2.1, a2.2, a1.1, a1.2, hr2, a3, if_neg (by decide), if_neg (by decide)]
            · have a1 := hN3.2.1 h
              have a2 := hN4.1 (by omega)
              rw [if_neg (by omega), if_pos h]
              by_cases hk : kdE (goE tx n r1) 5 = true
              · have a3 : L = 1 := hLi.mpr ⟨h, hk⟩
                rw [if_pos hk, a2.1, a2.2, a1.1, a1.2, hr2, a3, if_pos rfl, if_pos rfl]
              · have a3 : L = 0 := by rcases hL with h1 | h1; exact h1; exact absurd (hLi.mp h1).2 hk
                rw [if_neg hk, a2.1, a2.2, a1.1, a1.2, hr2, a3, if_neg (by decide), if_neg (by decide)]
            · have a1 := hN3.2.2 h
              have a2 := hN4.2 h
              have a3 : L = 0 := by rcases hL with h1 | h1; exact h1; have := hLi.mp h1; omega
              rw [if_neg (by omega), if_neg (by omega), a2.1, a2.2, a1.1, a1.2, hr2, a3, if_neg (by decide), if_neg (by decide)]
          have hAb : abS tx n wd u (.inr xx, q) = abM u wd w xx.2.1 q (r4, (if L = 1 then -aa else aa), bb) := by rw [abS_in, ← hw, ← hr1, hN]
          have er4 := hp4.er
          refine z_aload_n C dX3_readsOne_125 hl 5 rfl ?_
          refine m_getsZ C hH 37 ⟨by decide, by decide⟩ (s4 37 0) rfl q2222 rfl dX3_readsOne_126 ?_
          refine z_ifne C dX3_readsOne_129 (tgt := 164) (by decide) ⟨by omega, by omega⟩ (fun c_129 => ?_) (fun c_129 => ?_)
          · refine m_vret C hret hH hS dX3_readsOne_164 ?_
            rw [hAb]
            first
              | (obtain ⟨e, he⟩ := hp4.e1 (by omega)
                 rw [abM_inl (show (r4, (if L = 1 then -aa else aa), bb).1 = .inl e from he)]
                 exact ⟨by rw [he] at hp4; exact hp4, (fun y h => by cases h), by rw [hf4.at 16 rfl, q1]; exact ⟨o1, o2⟩, hf4.up rfl⟩)
              | (rw [abM_no (show (r4, (if L = 1 then -aa else aa), bb).1 = .inr y4 from hy4) (by show rdM u wd q w (if L = 1 then -aa else aa) bb = none; rw [hcc]; exact hno)]
                 exact ⟨hp4.put (by decide), (fun y h => by cases h), by show -1 ≤ s4 16 0 ∧ s4 16 0 ≤ wd; rw [hf4.at 16 rfl, q1]; exact ⟨o1, o2⟩, frSu (frSu (hf4.up rfl) rfl) rfl⟩)
              | (rw [abM_ok (show (r4, (if L = 1 then -aa else aa), bb).1 = .inr y4 from hy4) (by show rdM u wd q w (if L = 1 then -aa else aa) bb = some q9; rw [hcc]; exact hso)]
                 have o9 := rdM_ok ho hso
                 exact ⟨by rw [← hy4]; exact hp4.fr (fun k a b => hfz.at k (by rcases (show k = 31 ∨ k = 32 ∨ k = 33 ∨ k = 34 ∨ k = 35 ∨ k = 36 ∨ k = 37 ∨ k = 38 by omega) with h | h | h | h | h | h | h | h <;> subst h <;> rfl)), fun y h => hq9, by rw [hq9.1]; exact ⟨o9.1, o9.2.1⟩, (hf4.up rfl).th hfz rfl⟩)
          · obtain ⟨y4, hy4⟩ := hp4.e0.mp (by omega)
            refine z_aload_n C dX3_readsOne_132 hl 5 rfl ?_
            refine z_iload_n C dX3_readsOne_133 hl 4 rfl ?_
            refine z_iload_n C dX3_readsOne_134 hl 2 rfl ?_
            refine z_ifeq C dX3_readsOne_135 (tgt := 144) (by decide) ⟨by omega, by omega⟩ (fun c_135 => ?_) (fun c_135 => ?_)
            · have hcc : (if L = 1 then -aa else aa) = aa := if_neg (by omega)
              refine z_iload C dX3_readsOne_144 hl 1 rfl ?_
              refine z_iload C dX3_readsOne_146 hl 0 rfl ?_
              refine m_Vi C hH hS (mm_readsMode hOk s4 w aa bb wd u q (⟨by omega, by omega⟩) (by rw [hf4.at 9 rfl]; exact h9) (fun j a b => by rw [hf4.at 7 rfl]; exact hu j a b) (hb) (⟨by rw [hf4.at 16 rfl]; exact q1, by rw [hf4.at 17 rfl]; exact q2, fun j a b => by rw [hf4.at 15 rfl]; exact q3 j a b⟩) (ho) (⟨by omega, by omega, by omega, by omega, by omega, by omega, fun _ => by omega⟩)) (cwV 3 C.1.2.2.2.2 (lw_V q2473 q2475 qs71 q133 q2476) rfl rfl rfl (by decide +kernel) ⟨Nat.le_of_ble_eq_true rfl, Nat.le_of_ble_eq_true rfl⟩) rfl hl rfl (Nat.le_of_ble_eq_true rfl) dX3_readsOne_148 ⟨Nat.le_refl _, Nat.le_refl _⟩ (fun rz tf H locs hp_148 hH hS => ?_)
              obtain ⟨hfz, hrz⟩ := hp_148
              rcases hrz with ⟨hno, hr9, hs9⟩ | ⟨q9, hso, hr9, hq9⟩
              · subst hr9
                rw [hs9] at hH
                refine z_ifne C dX3_readsOne_151 (tgt := 164) (by decide) ⟨by omega, by omega⟩ (fun c_151 => ?_) (fun c_151 => ?_)
                · exact absurd c_151 (by decide)
                · refine z_aload_n C dX3_readsOne_154 hl 5 rfl ?_
                  refine z_iconst C dX3_readsOne_155 ?_
                  refine m_puts C hH hS 37 ⟨by decide, by decide⟩ q2222 rfl ⟨rfl, rfl⟩ dX3_readsOne_156 (fun H locs hH hS => ?_)
                  refine z_aload_n C dX3_readsOne_159 hl 5 rfl ?_
                  refine z_iload_n C dX3_readsOne_160 hl 3 rfl ?_
                  refine m_puts C hH hS 38 ⟨by decide, by decide⟩ q2223 rfl ⟨rfl, rfl⟩ dX3_readsOne_161 (fun H locs hH hS => ?_)
                  refine m_vret C hret hH hS dX3_readsOne_164 ?_
                  rw [hAb]
                  first
                    | (obtain ⟨e, he⟩ := hp4.e1 (by omega)
                       rw [abM_inl (show (r4, (if L = 1 then -aa else aa), bb).1 = .inl e from he)]
                       exact ⟨by rw [he] at hp4; exact hp4, (fun y h => by cases h), by rw [hf4.at 16 rfl, q1]; exact ⟨o1, o2⟩, hf4.up rfl⟩)
                    | (rw [abM_no (show (r4, (if L = 1 then -aa else aa), bb).1 = .inr y4 from hy4) (by show rdM u wd q w (if L = 1 then -aa else aa) bb = none; rw [hcc]; exact hno)]
                       exact ⟨hp4.put (by decide), (fun y h => by cases h), by show -1 ≤ s4 16 0 ∧ s4 16 0 ≤ wd; rw [hf4.at 16 rfl, q1]; exact ⟨o1, o2⟩, frSu (frSu (hf4.up rfl) rfl) rfl⟩)
                    | (rw [abM_ok (show (r4, (if L = 1 then -aa else aa), bb).1 = .inr y4 from hy4) (by show rdM u wd q w (if L = 1 then -aa else aa) bb = some q9; rw [hcc]; exact hso)]
                       have o9 := rdM_ok ho hso
                       exact ⟨by rw [← hy4]; exact hp4.fr (fun k a b => hfz.at k (by rcases (show k = 31 ∨ k = 32 ∨ k = 33 ∨ k = 34 ∨ k = 35 ∨ k = 36 ∨ k = 37 ∨ k = 38 by omega) with h | h | h | h | h | h | h | h <;> subst h <;> rfl)), fun y h => hq9, by rw [hq9.1]; exact ⟨o9.1, o9.2.1⟩, (hf4.up rfl).th hfz rfl⟩)
              · subst hr9
                refine z_ifne C dX3_readsOne_151 (tgt := 164) (by decide) ⟨by omega, by omega⟩ (fun c_151_1 => ?_) (fun c_151_1 => ?_)
                · refine m_vret C hret hH hS dX3_readsOne_164 ?_
                  rw [hAb]
                  first
                    | (obtain ⟨e, he⟩ := hp4.e1 (by omega)
                       rw [abM_inl (show (r4, (if L = 1 then -aa else aa), bb).1 = .inl e from he)]
                       exact ⟨by rw [he] at hp4; exact hp4, (fun y h => by cases h), by rw [hf4.at 16 rfl, q1]; exact ⟨o1, o2⟩, hf4.up rfl⟩)
                    | (rw [abM_no (show (r4, (if L = 1 then -aa else aa), bb).1 = .inr y4 from hy4) (by show rdM u wd q w (if L = 1 then -aa else aa) bb = none; rw [hcc]; exact hno)]
                       exact ⟨hp4.put (by decide), (fun y h => by cases h), by show -1 ≤ s4 16 0 ∧ s4 16 0 ≤ wd; rw [hf4.at 16 rfl, q1]; exact ⟨o1, o2⟩, frSu (frSu (hf4.up rfl) rfl) rfl⟩)
                    | (rw [abM_ok (show (r4, (if L = 1 then -aa else aa), bb).1 = .inr y4 from hy4) (by show rdM u wd q w (if L = 1 then -aa else aa) bb = some q9; rw [hcc]; exact hso)]
                       have o9 := rdM_ok ho hso
                       exact ⟨by rw [← hy4]; exact hp4.fr (fun k a b => hfz.at k (by rcases (show k = 31 ∨ k = 32 ∨ k = 33 ∨ k = 34 ∨ k = 35 ∨ k = 36 ∨ k = 37 ∨ k = 38 by omega) with h | h | h | h | h | h | h | h <;> subst h <;> rfl)), fun y h => hq9, by rw [hq9.1]; exact ⟨o9.1, o9.2.1⟩, (hf4.up rfl).th hfz rfl⟩)
                · exact absurd c_151_1 (by decide)
            · have hcc : (if L = 1 then -aa else aa) = -aa := if_pos (by omega)
              refine z_iload C dX3_readsOne_138 hl 1 rfl ?_
              refine z_ineg C dX3_readsOne_140 ?_
              refine z_goto C dX3_readsOne_141 (tgt := 146) (by decide) ?_
              refine z_iload C dX3_readsOne_146 hl 0 rfl ?_
              refine m_Vi C hH hS (mm_readsMode hOk s4 w (-aa) bb wd u q (⟨by omega, by omega⟩) (by rw [hf4.at 9 rfl]; exact h9) (fun j a b => by rw [hf4.at 7 rfl]; exact hu j a b) (hb) (⟨by rw [hf4.at 16 rfl]; exact q1, by rw [hf4.at 17 rfl]; exact q2, fun j a b => by rw [hf4.at 15 rfl]; exact q3 j a b⟩) (ho) (⟨by omega, by omega, by omega, by omega, by omega, by omega, fun _ => by omega⟩)) (cwV 3 C.1.2.2.2.2 (lw_V q2473 q2475 qs71 q133 q2476) rfl rfl rfl (by decide +kernel) ⟨Nat.le_of_ble_eq_true rfl, Nat.le_of_ble_eq_true rfl⟩) rfl hl rfl (Nat.le_of_ble_eq_true rfl) dX3_readsOne_148 ⟨Nat.le_refl _, Nat.le_refl _⟩ (fun rz tf H locs hp_148_1 hH hS => ?_)
              obtain ⟨hfz, hrz⟩ := hp_148_1
              rcases hrz with ⟨hno, hr9, hs9⟩ | ⟨q9, hso, hr9, hq9⟩
              · subst hr9
                rw [hs9] at hH
                refine z_ifne C dX3_readsOne_151 (tgt := 164) (by decide) ⟨by omega, by omega⟩ (fun c_151_2 => ?_) (fun c_151_2 => ?_)
                · exact absurd c_151_2 (by decide)
                · refine z_aload_n C dX3_readsOne_154 hl 5 rfl ?_
                  refine z_iconst C dX3_readsOne_155 ?_
                  refine m_puts C hH hS 37 ⟨by decide, by decide⟩ q2222 rfl ⟨rfl, rfl⟩ dX3_readsOne_156 (fun H locs hH hS => ?_)
                  refine z_aload_n C dX3_readsOne_159 hl 5 rfl ?_
                  refine z_iload_n C dX3_readsOne_160 hl 3 rfl ?_
                  refine m_puts C hH hS 38 ⟨by decide, by decide⟩ q2223 rfl ⟨rfl, rfl⟩ dX3_readsOne_161 (fun H locs hH hS => ?_)
                  refine m_vret C hret hH hS dX3_readsOne_164 ?_
                  rw [hAb]
                  first
                    | (obtain ⟨e, he⟩ := hp4.e1 (by omega)
                       rw [abM_inl (show (r4, (if L = 1 then -aa else aa), bb).1 = .inl e from he)]
                       exact ⟨by rw [he] at hp4; exact hp4, (fun y h => by cases h), by rw [hf4.at 16 rfl, q1]; exact ⟨o1, o2⟩, hf4.up rfl⟩)
                    | (rw [abM_no (show (r4, (if L = 1 then -aa else aa), bb).1 = .inr y4 from hy4) (by show rdM u wd q w (if L = 1 then -aa else aa) bb = none; rw [hcc]; exact hno)]
                       exact ⟨hp4.put (by decide), (fun y h => by cases h), by show -1 ≤ s4 16 0 ∧ s4 16 0 ≤ wd; rw [hf4.at 16 rfl, q1]; exact ⟨o1, o2⟩, frSu (frSu (hf4.up rfl) rfl) rfl⟩)
                    | (rw [abM_ok (show (r4, (if L = 1 then -aa else aa), bb).1 = .inr y4 from hy4) (by show rdM u wd q w (if L = 1 then -aa else aa) bb = some q9; rw [hcc]; exact hso)]
                       have o9 := rdM_ok ho hso
                       exact ⟨by rw [← hy4]; exact hp4.fr (fun k a b => hfz.at k (by rcases (show k = 31 ∨ k = 32 ∨ k = 33 ∨ k = 34 ∨ k = 35 ∨ k = 36 ∨ k = 37 ∨ k = 38 by omega) with h | h | h | h | h | h | h | h <;> subst h <;> rfl)), fun y h => hq9, by rw [hq9.1]; exact ⟨o9.1, o9.2.1⟩, (hf4.up rfl).th hfz rfl⟩)
              · subst hr9
                refine z_ifne C dX3_readsOne_151 (tgt := 164) (by decide) ⟨by omega, by omega⟩ (fun c_151_3 => ?_) (fun c_151_3 => ?_)
                · refine m_vret C hret hH hS dX3_readsOne_164 ?_
                  rw [hAb]
                  first
                    | (obtain ⟨e, he⟩ := hp4.e1 (by omega)
                       rw [abM_inl (show (r4, (if L = 1 then -aa else aa), bb).1 = .inl e from he)]
                       exact ⟨by rw [he] at hp4; exact hp4, (fun y h => by cases h), by rw [hf4.at 16 rfl, q1]; exact ⟨o1, o2⟩, hf4.up rfl⟩)
                    | (rw [abM_no (show (r4, (if L = 1 then -aa else aa), bb).1 = .inr y4 from hy4) (by show rdM u wd q w (if L = 1 then -aa else aa) bb = none; rw [hcc]; exact hno)]
                       exact ⟨hp4.put (by decide), (fun y h => by cases h), by show -1 ≤ s4 16 0 ∧ s4 16 0 ≤ wd; rw [hf4.at 16 rfl, q1]; exact ⟨o1, o2⟩, frSu (frSu (hf4.up rfl) rfl) rfl⟩)
                    | (rw [abM_ok (show (r4, (if L = 1 then -aa else aa), bb).1 = .inr y4 from hy4) (by show rdM u wd q w (if L = 1 then -aa else aa) bb = some q9; rw [hcc]; exact hso)]
                       have o9 := rdM_ok ho hso
                       exact ⟨by rw [← hy4]; exact hp4.fr (fun k a b => hfz.at k (by rcases (show k = 31 ∨ k = 32 ∨ k = 33 ∨ k = 34 ∨ k = 35 ∨ k = 36 ∨ k = 37 ∨ k = 38 by omega) with h | h | h | h | h | h | h | h <;> subst h <;> rfl)), fun y h => hq9, by rw [hq9.1]; exact ⟨o9.1, o9.2.1⟩, (hf4.up rfl).th hfz rfl⟩)
                · exact absurd c_151_3 (by decide)
        refine z_iload_n C dX3_readsOne_105 hl 3 rfl ?_
        refine z_iconst C dX3_readsOne_106 ?_
        refine z_icmpne C dX3_readsOne_107 (tgt := 122) (by decide) ⟨⟨by omega, by omega⟩, ⟨by omega, by omega⟩⟩ (fun c_107 => ?_) (fun c_107 => ?_)
        · refine z_iconst C dX3_readsOne_122 ?_
          refine z_istore C [(5, .int (iI 0)), (4, .int (iI aa)), (3, .int (iI L)), (2, .int (iI xx.2.1)), (1, .int (iI w)), (0, .ref o)] dX3_readsOne_123 hl (by decide) rfl (fun ls hl => ?_)
          exact J_125 0 s3 r3 (by omega) (hp3) (hf3) (⟨fun _ => ⟨rfl, rfl⟩, fun h => absurd h (by omega)⟩) _ _ _ hH hS (lv_sub hl [0, 1, 2, 3, 4, 5] rfl)
        · refine z_aload_n C dX3_readsOne_110 hl 4 rfl ?_
          refine z_iconst C dX3_readsOne_111 ?_
          refine z_aload_n C dX3_readsOne_112 hl 4 rfl ?_
          refine m_getsZ C hH 9 ⟨by decide, by decide⟩ wd (by rw [hf3.at 9 rfl]; exact h9) q2194 rfl dX3_readsOne_113 ?_
          refine m_Vi C hH hS (mm_reads hOk s3 0 wd tx n r3 (hp3) (⟨by decide, by omega, by omega⟩)) (cwV 2 C.1.2.2.2.2 (lw_V q2654 q2656 qs93 q133 q2657) rfl rfl rfl (by decide +kernel) ⟨Nat.le_of_ble_eq_true rfl, Nat.le_of_ble_eq_true rfl⟩) rfl hl rfl (Nat.le_of_ble_eq_true rfl) dX3_readsOne_116 ⟨Nat.le_refl _, Nat.le_refl _⟩ (fun vb te H locs hp_116 hH hS => ?_)
          obtain ⟨hvb, hpe, hfe⟩ := hp_116
          have kr2 := lkV_in (r := r3) (show (0 : Int) ≤ wd by omega)
          rw [← hvb] at kr2
          refine z_goto C dX3_readsOne_119 (tgt := 123) (by decide) ?_
          refine z_istore C [(5, .int (iI vb)), (4, .int (iI aa)), (3, .int (iI L)), (2, .int (iI xx.2.1)), (1, .int (iI w)), (0, .ref o)] dX3_readsOne_123 hl (by decide) rfl (fun ls hl => ?_)
          exact J_125 vb te ((goE tx n (lkE r3 0 wd))) (by omega) (hpe) (hf3.th hfe rfl) (⟨fun h => absurd (show w = 2 by omega) h, fun _ => ⟨rfl, hvb⟩⟩) _ _ _ hH hS (lv_sub hl [0, 1, 2, 3, 4, 5] rfl)
      refine z_iload_n C dX3_readsOne_72 hl 2 rfl ?_
      refine z_ifne C dX3_readsOne_73 (tgt := 80) (by decide) ⟨by omega, by omega⟩ (fun c_73 => ?_) (fun c_73 => ?_)
      · refine z_iload_n C dX3_readsOne_80 hl 2 rfl ?_
        refine z_iconst C dX3_readsOne_81 ?_
        refine z_icmpne C dX3_readsOne_82 (tgt := 94) (by decide) ⟨⟨by omega, by omega⟩, ⟨by omega, by omega⟩⟩ (fun c_82 => ?_) (fun c_82 => ?_)
        · refine z_aload_n C dX3_readsOne_94 hl 3 rfl ?_
          refine z_iconst C dX3_readsOne_95 ?_
          refine z_aload_n C dX3_readsOne_96 hl 3 rfl ?_
          refine m_getsZ C hH 9 ⟨by decide, by decide⟩ wd (by rw [hf2.at 9 rfl]; exact h9) q2194 rfl dX3_readsOne_97 ?_
          refine m_Vi C hH hS (mm_reads hOk s2 0 wd tx n r2 (hp2) (⟨by decide, by omega, by omega⟩)) (cwV 2 C.1.2.2.2.2 (lw_V q2654 q2656 qs93 q133 q2657) rfl rfl rfl (by decide +kernel) ⟨Nat.le_of_ble_eq_true rfl, Nat.le_of_ble_eq_true rfl⟩) rfl hl rfl (Nat.le_of_ble_eq_true rfl) dX3_readsOne_100 ⟨Nat.le_refl _, Nat.le_refl _⟩ (fun va td H locs hp_100 hH hS => ?_)
          obtain ⟨hva, hpd, hfd⟩ := hp_100
          have kr := lkV_in (r := r2) (show (0 : Int) ≤ wd by omega)
          rw [← hva] at kr
          refine z_istore C [(4, .int (iI va)), (3, .int (iI L)), (2, .int (iI xx.2.1)), (1, .int (iI w)), (0, .ref o)] dX3_readsOne_103 hl (by decide) rfl (fun ls hl => ?_)
          exact J_105 va td ((goE tx n (lkE r2 0 wd))) (by omega) (hpd) (hf2.th hfd rfl) (⟨fun h => absurd h (by omega), fun h => absurd h (by omega), fun _ => ⟨rfl, hva⟩⟩) _ _ _ hH hS (lv_sub hl [0, 1, 2, 3, 4] rfl)
        · refine z_aload_n C dX3_readsOne_85 hl 3 rfl ?_
          refine z_iconst C dX3_readsOne_86 ?_
          refine z_iconst C dX3_readsOne_87 ?_
          refine m_Vi C hH hS (mm_reads hOk s2 0 3 tx n r2 (hp2) (by decide)) (cwV 2 C.1.2.2.2.2 (lw_V q2654 q2656 qs93 q133 q2657) rfl rfl rfl (by decide +kernel) ⟨Nat.le_of_ble_eq_true rfl, Nat.le_of_ble_eq_true rfl⟩) rfl hl rfl (Nat.le_of_ble_eq_true rfl) dX3_readsOne_88 ⟨Nat.le_refl _, Nat.le_refl _⟩ (fun va td H locs hp_88 hH hS => ?_)
          obtain ⟨hva, hpd, hfd⟩ := hp_88
          have kr := lkV_in (r := r2) (show (0 : Int) ≤ 3 by decide)
          rw [← hva] at kr
          refine z_goto C dX3_readsOne_91 (tgt := 103) (by decide) ?_
          refine z_istore C [(4, .int (iI va)), (3, .int (iI L)), (2, .int (iI xx.2.1)), (1, .int (iI w)), (0, .ref o)] dX3_readsOne_103 hl (by decide) rfl (fun ls hl => ?_)
          exact J_105 va td ((goE tx n (lkE r2 0 3))) (by omega) (hpd) (hf2.th hfd rfl) (⟨fun h => absurd h (by omega), fun _ => ⟨rfl, hva⟩, fun h => absurd h (by omega)⟩) _ _ _ hH hS (lv_sub hl [0, 1, 2, 3, 4] rfl)
      · refine z_iconst C dX3_readsOne_76 ?_
        refine z_goto C dX3_readsOne_77 (tgt := 103) (by decide) ?_
        refine z_istore C [(4, .int (iI 0)), (3, .int (iI L)), (2, .int (iI xx.2.1)), (1, .int (iI w)), (0, .ref o)] dX3_readsOne_103 hl (by decide) rfl (fun ls hl => ?_)
        exact J_105 0 s2 r2 (by omega) (hp2) (hf2) (⟨fun _ => ⟨rfl, rfl⟩, fun h => absurd h (by omega), fun h => absurd h (by omega)⟩) _ _ _ hH hS (lv_sub hl [0, 1, 2, 3, 4] rfl)
    refine z_aload_n C dX3_readsOne_38 hl 2 rfl ?_
    refine m_getsZ C hH 37 ⟨by decide, by decide⟩ (tb 37 0) rfl q2222 rfl dX3_readsOne_39 ?_
    refine z_ifne C dX3_readsOne_42 (tgt := 62) (by decide) ⟨by omega, by omega⟩ (fun c_42 => ?_) (fun c_42 => ?_)
    · have k5 : ¬ (w = 1 ∧ kdE (goE tx n r1) 5 = true) := fun ⟨h1, h2⟩ => by
        cases hx : goE tx n r1 with
        | inl e => rw [hx] at h2; cases h2
        | inr y =>
          rw [hx] at hpb h2
          have h3 : y.2.2.1 = 5 := of_decide_eq_true h2
          have h4 := hpb.at.2.2
          have h5 := hpb.e0.mpr ⟨y, rfl⟩
          omega
      refine z_iconst C dX3_readsOne_62 ?_
      refine z_istore_n C [(3, .int (iI 0)), (2, .int (iI xx.2.1)), (1, .int (iI w)), (0, .ref o)] dX3_readsOne_63 hl (by decide) rfl (fun ls hl => ?_)
      refine z_iload_n C dX3_readsOne_64 hl 0 rfl ?_
      refine z_ifeq C dX3_readsOne_65 (tgt := 72) (by decide) ⟨by omega, by omega⟩ (fun c_65 => ?_) (fun c_65 => ?_)
      · exact J_72 0 tb ((goE tx n r1)) (by omega) (⟨fun h => absurd h (by decide), fun h => absurd h k5⟩) (hpb) ((hfa.up rfl).th hfb rfl) (by rw [if_neg (by decide)]) _ _ _ hH hS (lv_sub hl [0, 1, 2, 3] rfl)
      · exact absurd c_65 (by decide)
    · refine z_iload_n C dX3_readsOne_45 hl 1 rfl ?_
      refine z_iconst C dX3_readsOne_46 ?_
      refine z_icmpne C dX3_readsOne_47 (tgt := 62) (by decide) ⟨⟨by omega, by omega⟩, ⟨by omega, by omega⟩⟩ (fun c_47 => ?_) (fun c_47 => ?_)
      · have k5 : ¬ (w = 1 ∧ kdE (goE tx n r1) 5 = true) := fun ⟨h1, h2⟩ => by
          cases hx : goE tx n r1 with
          | inl e => rw [hx] at h2; cases h2
          | inr y =>
            rw [hx] at hpb h2
            have h3 : y.2.2.1 = 5 := of_decide_eq_true h2
            have h4 := hpb.at.2.2
            have h5 := hpb.e0.mpr ⟨y, rfl⟩
            omega
        refine z_iconst C dX3_readsOne_62 ?_
        refine z_istore_n C [(3, .int (iI 0)), (2, .int (iI xx.2.1)), (1, .int (iI w)), (0, .ref o)] dX3_readsOne_63 hl (by decide) rfl (fun ls hl => ?_)
        refine z_iload_n C dX3_readsOne_64 hl 0 rfl ?_
        refine z_ifeq C dX3_readsOne_65 (tgt := 72) (by decide) ⟨by omega, by omega⟩ (fun c_65_1 => ?_) (fun c_65_1 => ?_)
        · exact J_72 0 tb ((goE tx n r1)) (by omega) (⟨fun h => absurd h (by decide), fun h => absurd h k5⟩) (hpb) ((hfa.up rfl).th hfb rfl) (by rw [if_neg (by decide)]) _ _ _ hH hS (lv_sub hl [0, 1, 2, 3] rfl)
        · exact absurd c_65_1 (by decide)
      · refine z_aload_n C dX3_readsOne_50 hl 2 rfl ?_
        refine m_getsZ C hH 35 ⟨by decide, by decide⟩ (tb 35 0) rfl q2220 rfl dX3_readsOne_51 ?_
        refine z_iconst C dX3_readsOne_54 ?_
        refine z_icmpne C dX3_readsOne_55 (tgt := 62) (by decide) ⟨⟨by omega, by omega⟩, ⟨by omega, by omega⟩⟩ (fun c_55 => ?_) (fun c_55 => ?_)
        · have k5 : ¬ (w = 1 ∧ kdE (goE tx n r1) 5 = true) := fun ⟨h1, h2⟩ => by
            cases hx : goE tx n r1 with
            | inl e => rw [hx] at h2; cases h2
            | inr y =>
              rw [hx] at hpb h2
              have h3 : y.2.2.1 = 5 := of_decide_eq_true h2
              have h4 := hpb.at.2.2
              have h5 := hpb.e0.mpr ⟨y, rfl⟩
              omega
          refine z_iconst C dX3_readsOne_62 ?_
          refine z_istore_n C [(3, .int (iI 0)), (2, .int (iI xx.2.1)), (1, .int (iI w)), (0, .ref o)] dX3_readsOne_63 hl (by decide) rfl (fun ls hl => ?_)
          refine z_iload_n C dX3_readsOne_64 hl 0 rfl ?_
          refine z_ifeq C dX3_readsOne_65 (tgt := 72) (by decide) ⟨by omega, by omega⟩ (fun c_65_2 => ?_) (fun c_65_2 => ?_)
          · exact J_72 0 tb ((goE tx n r1)) (by omega) (⟨fun h => absurd h (by decide), fun h => absurd h k5⟩) (hpb) ((hfa.up rfl).th hfb rfl) (by rw [if_neg (by decide)]) _ _ _ hH hS (lv_sub hl [0, 1, 2, 3] rfl)
          · exact absurd c_65_2 (by decide)
        · have k5 : kdE (goE tx n r1) 5 = true := by
            obtain ⟨y, hy⟩ := hpb.e0.mp (by omega)
            rw [hy] at hpb ⊢
            have := hpb.at.2.2
            exact decide_eq_true (by omega)
          refine z_iconst C dX3_readsOne_58 ?_
          refine z_goto C dX3_readsOne_59 (tgt := 63) (by decide) ?_
          refine z_istore_n C [(3, .int (iI 1)), (2, .int (iI xx.2.1)), (1, .int (iI w)), (0, .ref o)] dX3_readsOne_63 hl (by decide) rfl (fun ls hl => ?_)
          refine z_iload_n C dX3_readsOne_64 hl 0 rfl ?_
          refine z_ifeq C dX3_readsOne_65 (tgt := 72) (by decide) ⟨by omega, by omega⟩ (fun c_65_3 => ?_) (fun c_65_3 => ?_)
          · exact absurd c_65_3 (by decide)
          · refine z_aload_n C dX3_readsOne_68 hl 3 rfl ?_
            refine m_Vv C hH hS (mm_goesOn hOk tb tx n ((goE tx n r1)) (hpb)) (cwV 0 C.1.2.2.2.2 (lw_V q2650 q2652 qs92 q133 q2653) rfl rfl rfl (by decide +kernel) ⟨Nat.le_of_ble_eq_true rfl, Nat.le_of_ble_eq_true rfl⟩) rfl hl rfl (Nat.le_of_ble_eq_true rfl) dX3_readsOne_69 ⟨Nat.le_refl _, Nat.le_refl _⟩ (fun tc H locs hp_69 hH hS => ?_)
            obtain ⟨hpc, hfc⟩ := hp_69
            exact J_72 1 tc ((goE tx n (goE tx n r1))) (by omega) (⟨fun _ => ⟨by omega, k5⟩, fun _ => rfl⟩) (hpc) (((hfa.up rfl).th hfb rfl).th hfc rfl) (by rw [if_pos rfl]) _ _ _ hH hS (lv_sub hl [0, 1, 2, 3] rfl)
  refine z_aload_n C dX3_readsOne_8 hl 1 rfl ?_
  refine z_aload_n C dX3_readsOne_9 hl 1 rfl ?_
  refine m_getsZ C hH 16 ⟨by decide, by decide⟩ q.1 (q1) q2201 rfl dX3_readsOne_10 ?_
  refine z_aload_n C dX3_readsOne_13 hl 1 rfl ?_
  refine m_getsZ C hH 9 ⟨by decide, by decide⟩ wd (h9) q2194 rfl dX3_readsOne_14 ?_
  refine z_icmpge C dX3_readsOne_17 (tgt := 24) (by decide) ⟨⟨by omega, by omega⟩, ⟨by omega, by omega⟩⟩ (fun c_17 => ?_) (fun c_17 => ?_)
  · refine z_iconst C dX3_readsOne_24 ?_
    exact J_25 0 (by omega) (by omega) _ _ _ hH hS (lv_sub hl [0, 1] rfl)
  · refine z_iconst C dX3_readsOne_20 ?_
    refine z_goto C dX3_readsOne_21 (tgt := 25) (by decide) ?_
    exact J_25 1 (by omega) (by omega) _ _ _ hH hS (lv_sub hl [0, 1] rfl)
