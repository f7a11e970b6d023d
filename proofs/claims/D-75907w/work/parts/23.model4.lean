/-! the reference's methods, 4 (written by gen/model4.py) -/
set_option maxRecDepth 100000
set_option maxHeartbeats 1000000 in
theorem mm_readsCode {l : Launch} {D : va_G} {dA : Nat → ClassId} {A : Nat → Prop} {o : Nat} {ad : Nat → Nat} (hOk : mOk o ad) (σ : Sg) (w : Int) (u : Int → Int) (L : List Md) (hw : 1 ≤ w ∧ w ≤ 40) (h9 : σ 9 0 = w) (hu : ∀ j, 0 ≤ j → j < w → σ 7 j = u j) (hb : ∀ j, u j = 0 ∨ u j = 1) (hm : MdsAt σ L) (hL : ∀ m ∈ L, MdOk w m) (hlen : (L.length : Int) ≤ 41) : Met l yX3_readsCode (ws_ yX3_readsCode cX3_readsCode 3 (some .boolean)) (rmL 4 0 0) (MP D dA A o ad [.ref o] σ) (MQi D dA A o ad (fun r σ' => Fr [15, 16, 17] σ σ' ∧ ((rdC u w L = none ∧ r = 0) ∨ ∃ res, rdC u w L = some res ∧ r = 1 ∧ ∀ j, 0 ≤ j → j < 40 → σ' 15 j = res j))) 0 0 A := by
  refine z_ofW (by decide) rfl ?_
  intro pp ee s0 mm below meth cc0 ls C hret hname hl hH hS
  have hl : lv_has ls 3 [(0, .ref o)] := hl
  refine z_aload_n C dX3_readsCode_0 hl 0 rfl ?_
  refine m_VvF C hH hS (mm_startsReading hOk σ ) (cwV 0 C.1.2.2.2.2 (lw_V q2469 q2471 qs70 q133 q2472) rfl rfl rfl (by decide +kernel) ⟨Nat.le_of_ble_eq_true rfl, Nat.le_of_ble_eq_true rfl⟩) rfl hl rfl (Nat.le_of_ble_eq_true rfl) dX3_readsCode_1 ⟨Nat.le_refl _, Nat.le_refl _⟩ (fun H locs hH hS => ?_)
  refine z_iconst C dX3_readsCode_4 ?_
  refine z_istore_n C [(1, .int (iI 1)), (0, .ref o)] dX3_readsCode_5 hl (by decide) rfl (fun ls hl => ?_)
  refine z_iconst C dX3_readsCode_6 ?_
  refine z_istore_n C [(2, .int (iI 0)), (1, .int (iI 1)), (0, .ref o)] dX3_readsCode_7 hl (by decide) rfl (fun ls hl => ?_)
  have J_8 : ∀ (fu : Nat) (i : Int) (k : Int) (s1 : Sg) (q : Rd), ((L.length : Int) - k).toNat < fu → (0 ≤ k ∧ k ≤ (L.length : Int)) → (Fr [15, 16, 17] σ s1) → ((i = 0 ∧ rdL u w rd0 L = none) ∨ (i = 1 ∧ RdOk w q ∧ RdAt s1 q ∧ rdL u w rd0 L = rdL u w q (L.drop k.toNat))) → ∀ (H : Heap) (locs : List Loc) (ls : Array Slot), MH D dA A o ad s1 H → va_S A s0.heap H locs → lv_has ls 3 [(2, .int (iI k)), (1, .int (iI i)), (0, .ref o)] → W pp l ee (rmL 4 0 0) s0 mm ([.ref o] : List Value).toArray below meth cc0 H locs 0 0 (MQ below (MQi D dA A o ad (fun r σ' => Fr [15, 16, 17] σ σ' ∧ ((rdC u w L = none ∧ r = 0) ∨ ∃ res, rdC u w L = some res ∧ r = 1 ∧ ∀ j, 0 ≤ j → j < 40 → σ' 15 j = res j))) ([.ref o] : List Value).toArray s0 0 0 A) (F0 mm 8 ls []) := by
    intro fu
    induction fu with
    | zero => intro i k s1 q hn; exact absurd hn (Nat.not_lt_zero _)
    | succ fu ih_8 =>
      intro i k s1 q hn hk hf hi H locs ls hH hS hl
      have J_49 : ((i = 0 ∧ rdL u w rd0 L = none) ∨ (i = 1 ∧ RdOk w q ∧ RdAt s1 q ∧ rdL u w rd0 L = some q)) → ∀ (H : Heap) (locs : List Loc) (ls : Array Slot), MH D dA A o ad s1 H → va_S A s0.heap H locs → lv_has ls 3 [(2, .int (iI k)), (1, .int (iI i)), (0, .ref o)] → W pp l ee (rmL 4 0 0) s0 mm ([.ref o] : List Value).toArray below meth cc0 H locs 0 0 (MQ below (MQi D dA A o ad (fun r σ' => Fr [15, 16, 17] σ σ' ∧ ((rdC u w L = none ∧ r = 0) ∨ ∃ res, rdC u w L = some res ∧ r = 1 ∧ ∀ j, 0 ≤ j → j < 40 → σ' 15 j = res j))) ([.ref o] : List Value).toArray s0 0 0 A) (F0 mm 49 ls []) := by
        intro  hx H locs ls hH hS hl
        have J_68 : (rdC u w L = none) → ∀ (H : Heap) (locs : List Loc) (ls : Array Slot), MH D dA A o ad s1 H → va_S A s0.heap H locs → lv_has ls 3 [(2, .int (iI k)), (1, .int (iI i)), (0, .ref o)] → W pp l ee (rmL 4 0 0) s0 mm ([.ref o] : List Value).toArray below meth cc0 H locs 0 0 (MQ below (MQi D dA A o ad (fun r σ' => Fr [15, 16, 17] σ σ' ∧ ((rdC u w L = none ∧ r = 0) ∨ ∃ res, rdC u w L = some res ∧ r = 1 ∧ ∀ j, 0 ≤ j → j < 40 → σ' 15 j = res j))) ([.ref o] : List Value).toArray s0 0 0 A) (F0 mm 68 ls []) := by
          intro  hy H locs ls hH hS hl
          refine z_iconst C dX3_readsCode_68 ?_
          refine m_zret C hret hH hS (by omega) dX3_readsCode_69 ?_
          exact ⟨hf, Or.inl ⟨hy, rfl⟩⟩
        refine z_iload_n C dX3_readsCode_49 hl 1 rfl ?_
        refine z_ifeq C dX3_readsCode_50 (tgt := 68) (by decide) ⟨by omega, by omega⟩ (fun c_50 => ?_) (fun c_50 => ?_)
        · exact J_68  (by unfold rdC; rcases hx with ⟨h1, h2⟩ | ⟨h1, h9, h2, h3⟩; rw [h2]; first | (rw [h3]; dsimp only; rw [if_neg (by have := h2.1; omega)]; done) | (exact absurd h1 (by omega))) _ _ _ hH hS (lv_sub hl [0, 1, 2] rfl)
        · have g16 : s1 16 0 = s1 16 0 := rfl
          obtain ⟨x1, x0, x2, x3⟩ : i = 1 ∧ RdOk w q ∧ RdAt s1 q ∧ rdL u w rd0 L = some q := by rcases hx with h | h; exact absurd h.1 c_50; exact h
          have x2b := x2.1
          have x01 := x0.1
          have x02 := x0.2.1
          refine z_aload_n C dX3_readsCode_53 hl 2 rfl ?_
          refine m_getsZ C hH 16 ⟨by decide, by decide⟩ (s1 16 0) rfl q2201 rfl dX3_readsCode_54 ?_
          refine z_aload_n C dX3_readsCode_57 hl 2 rfl ?_
          refine m_getsZ C hH 9 ⟨by decide, by decide⟩ w ((by rw [hf 9 (by decide)]; exact h9)) q2194 rfl dX3_readsCode_58 ?_
          refine z_icmpne C dX3_readsCode_61 (tgt := 68) (by decide) ⟨⟨by omega, by omega⟩, ⟨by omega, by omega⟩⟩ (fun c_61 => ?_) (fun c_61 => ?_)
          · exact J_68  (by unfold rdC; rcases hx with ⟨h1, h2⟩ | ⟨h1, h9, h2, h3⟩; rw [h2]; first | (rw [h3]; dsimp only; rw [if_neg (by have := h2.1; omega)]; done) | (exact absurd h1 (by omega))) _ _ _ hH hS (lv_sub hl [0, 1, 2] rfl)
          · refine z_iconst C dX3_readsCode_64 ?_
            refine z_goto C dX3_readsCode_65 (tgt := 69) (by decide) ?_
            refine m_zret C hret hH hS (by omega) dX3_readsCode_69 ?_
            refine ⟨hf, Or.inr ⟨q.2.2, ?_, rfl, x2.2.2⟩⟩
            unfold rdC; rw [x3]; dsimp only; rw [if_pos (by omega)]
      refine z_iload_n C dX3_readsCode_8 hl 0 rfl ?_
      refine z_aload_n C dX3_readsCode_9 hl 2 rfl ?_
      refine m_getsZ C hH 14 ⟨by decide, by decide⟩ ((L.length : Int)) ((by rw [hf 14 (by decide)]; exact hm.1)) q2199 rfl dX3_readsCode_10 ?_
      refine z_icmpge C dX3_readsCode_13 (tgt := 49) (by decide) ⟨⟨by omega, by omega⟩, ⟨by omega, by omega⟩⟩ (fun c_13 => ?_) (fun c_13 => ?_)
      · exact J_49  (by rcases hi with h | ⟨h1, h2, h3, h4⟩; exact Or.inl h; first | (exact Or.inr ⟨h1, h2, h3, by rw [h4]; exact rdL_end (by omega)⟩) | (exact absurd h1 (by omega))) _ _ _ hH hS (lv_sub hl [0, 1, 2] rfl)
      · refine z_iload_n C dX3_readsCode_16 hl 1 rfl ?_
        refine z_ifeq C dX3_readsCode_17 (tgt := 49) (by decide) ⟨by omega, by omega⟩ (fun c_17 => ?_) (fun c_17 => ?_)
        · exact J_49  (by rcases hi with h | ⟨h1, h2, h3, h4⟩; exact Or.inl h; first | (exact Or.inr ⟨h1, h2, h3, by rw [h4]; exact rdL_end (by omega)⟩) | (exact absurd h1 (by omega))) _ _ _ hH hS (lv_sub hl [0, 1, 2] rfl)
        · rcases hi with hi | ⟨i1, i2, i3, i4⟩
          · exact absurd hi.1 c_17
          have e := hm.2 k hk.1 (by omega)
          have ok := hL _ (gM_mem hk.1 (show k < (L.length : Int) by omega))
          obtain ⟨e10, e11, e12, e13⟩ := e
          rw [← hf 10 (by decide)] at e10
          rw [← hf 11 (by decide)] at e11
          rw [← hf 12 (by decide)] at e12
          obtain ⟨o1, o2, o3, o4, o5, o6, o7, o8, o9⟩ := ok
          refine z_aload_n C dX3_readsCode_20 hl 2 rfl ?_
          refine z_aload_n C dX3_readsCode_21 hl 2 rfl ?_
          refine m_geta C hH 10 ⟨by decide, by decide⟩ q2195 rfl dX3_readsCode_22 ?_
          refine z_iload_n C dX3_readsCode_25 hl 0 rfl ?_
          refine m_ialdZ C hOk hH 10 ⟨by decide, by decide⟩ k ((gM L k).1) (e10) (show 0 ≤ k ∧ k < (48 : Int) by omega) dX3_readsCode_26 ?_
          refine z_aload_n C dX3_readsCode_27 hl 2 rfl ?_
          refine m_geta C hH 11 ⟨by decide, by decide⟩ q2196 rfl dX3_readsCode_28 ?_
          refine z_iload_n C dX3_readsCode_31 hl 0 rfl ?_
          refine m_ialdZ C hOk hH 11 ⟨by decide, by decide⟩ k ((gM L k).2.1) (e11) (show 0 ≤ k ∧ k < (48 : Int) by omega) dX3_readsCode_32 ?_
          refine z_aload_n C dX3_readsCode_33 hl 2 rfl ?_
          refine m_geta C hH 12 ⟨by decide, by decide⟩ q2197 rfl dX3_readsCode_34 ?_
          refine z_iload_n C dX3_readsCode_37 hl 0 rfl ?_
          refine m_ialdZ C hOk hH 12 ⟨by decide, by decide⟩ k ((gM L k).2.2.1) (e12) (show 0 ≤ k ∧ k < (48 : Int) by omega) dX3_readsCode_38 ?_
          refine m_Vi C hH hS (mm_readsMode hOk s1 ((gM L k).1) ((gM L k).2.1) ((gM L k).2.2.1) w u q (by omega) ((by rw [hf 9 (by decide)]; exact h9)) ((by rw [hf 7 (by decide)]; exact hu)) (hb) (i3) (i2) (⟨by omega, by omega, by omega, by omega, by omega, by omega, o9⟩)) (cwV 3 C.1.2.2.2.2 (lw_V q2473 q2475 qs71 q133 q2476) rfl rfl rfl (by decide +kernel) ⟨Nat.le_of_ble_eq_true rfl, Nat.le_of_ble_eq_true rfl⟩) rfl hl rfl (Nat.le_of_ble_eq_true rfl) dX3_readsCode_39 ⟨Nat.le_refl _, Nat.le_refl _⟩ (fun r_39 s_39 H locs hp_39 hH hS => ?_)
          obtain ⟨hf39, hr39⟩ := hp_39
          rcases hr39 with ⟨hn, hr9, -⟩ | ⟨q9, hs9, hr9, hq9⟩
          · refine z_istore_n C [(1, .int (iI r_39)), (2, .int (iI k)), (0, .ref o)] dX3_readsCode_42 hl (by decide) rfl (fun ls hl => ?_)
            refine z_iinc C [(2, .int (iI (k + 1))), (1, .int (iI r_39)), (0, .ref o)] dX3_readsCode_43 hl 1 rfl (by decide) rfl (fun ls hl => ?_)
            refine z_goto C dX3_readsCode_46 (tgt := 8) (by decide) ?_
            exact ih_8 r_39 ((k + 1)) s_39 q (by omega) (by omega) (hf.th hf39 rfl) (Or.inl ⟨hr9, by rw [i4]; exact rdL_stop hk.1 (by omega) hn⟩) _ _ _ hH hS (lv_sub hl [0, 1, 2] rfl)
          · refine z_istore_n C [(1, .int (iI r_39)), (2, .int (iI k)), (0, .ref o)] dX3_readsCode_42 hl (by decide) rfl (fun ls hl => ?_)
            refine z_iinc C [(2, .int (iI (k + 1))), (1, .int (iI r_39)), (0, .ref o)] dX3_readsCode_43 hl 1 rfl (by decide) rfl (fun ls hl => ?_)
            refine z_goto C dX3_readsCode_46 (tgt := 8) (by decide) ?_
            exact ih_8 r_39 ((k + 1)) s_39 q9 (by omega) (by omega) (hf.th hf39 rfl) (Or.inr ⟨hr9, rdM_ok i2 hs9, hq9, by rw [i4]; exact rdL_step hk.1 (by omega) hs9⟩) _ _ _ hH hS (lv_sub hl [0, 1, 2] rfl)
  exact J_8 _ 1 0 ((sa (su (su σ 16 0 (-1)) 17 0 0) 15 (wr (fun _ => 0) (σ 15) 0 40))) rd0 (Nat.lt_succ_self _) (by omega) (frSa (frSu (frSu Fr.rf rfl) rfl) rfl) (Or.inr ⟨rfl, ⟨by decide, by show (-1 : Int) ≤ w; omega, by decide, by decide⟩, ⟨rfl, rfl, fun j h0 h1 => by show wr (fun _ => 0) (σ 15) 0 40 j = 0; exact wr_in _ _ h0 h1⟩, rfl⟩) _ _ _ hH hS (lv_sub hl [0, 1, 2] rfl)
set_option maxHeartbeats 1000000 in
theorem mm_codesAlone {l : Launch} {D : va_G} {dA : Nat → ClassId} {A : Nat → Prop} {o : Nat} {ad : Nat → Nat} (hOk : mOk o ad) (σ : Sg) (w : Int) (lo : Int → Int) (hw : 1 ≤ w ∧ w ≤ 40) (h9 : σ 9 0 = w) (hlo : ∀ j, 0 ≤ j → j < w → σ 8 j = lo j) (hb : ∀ j, lo j = 0 ∨ lo j = 1) : Met l yX3_codesAlone (ws_ yX3_codesAlone cX3_codesAlone 4 none) (rmL 1 0 0) (MP D dA A o ad [.ref o] σ) (MQv D dA A o ad (fun σ' => RnsAt σ' (rns lo w 0 0) ∧ Fr [18, 19] σ σ')) 0 0 A := by
  refine z_ofW (by decide) rfl ?_
  intro pp ee s0 mm below meth cc0 ls C hret hname hl hH hS
  have hl : lv_has ls 4 [(0, .ref o)] := hl
  refine z_aload_n C dX3_codesAlone_0 hl 0 rfl ?_
  refine z_iconst C dX3_codesAlone_1 ?_
  refine m_puts C hH hS 19 ⟨by decide, by decide⟩ q2204 rfl ⟨rfl, rfl⟩ dX3_codesAlone_2 (fun H locs hH hS => ?_)
  refine z_iconst C dX3_codesAlone_5 ?_
  refine z_istore_n C [(1, .int (iI 0)), (0, .ref o)] dX3_codesAlone_6 hl (by decide) rfl (fun ls hl => ?_)
  refine z_iconst C dX3_codesAlone_7 ?_
  refine z_istore_n C [(2, .int (iI 0)), (1, .int (iI 0)), (0, .ref o)] dX3_codesAlone_8 hl (by decide) rfl (fun ls hl => ?_)
  have J_9 : ∀ (fu : Nat) (c : Int) (i : Int) (s1 : Sg) (pre : List Int), rnM lo w i c < fu → (0 ≤ i ∧ i ≤ w) → (0 ≤ c ∧ c ≤ 1) → (Fr [18, 19] σ s1) → (RnsAt s1 pre) → (pre ++ rns lo w i c = rns lo w 0 0) → (pre.length + rnM lo w i c ≤ rnM lo w 0 0) → (i < w ∨ 1 ≤ pre.length) → ∀ (H : Heap) (locs : List Loc) (ls : Array Slot), MH D dA A o ad s1 H → va_S A s0.heap H locs → lv_has ls 4 [(2, .int (iI i)), (1, .int (iI c)), (0, .ref o)] → W pp l ee (rmL 1 0 0) s0 mm ([.ref o] : List Value).toArray below meth cc0 H locs 0 0 (MQ below (MQv D dA A o ad (fun σ' => RnsAt σ' (rns lo w 0 0) ∧ Fr [18, 19] σ σ')) ([.ref o] : List Value).toArray s0 0 0 A) (F0 mm 9 ls []) := by
    intro fu
    induction fu with
    | zero => intro c i s1 pre hn; exact absurd hn (Nat.not_lt_zero _)
    | succ fu ih_9 =>
      intro c i s1 pre hn hi hc hf hm hp hlen hne H locs ls hH hS hl
      have hM : rnM lo w 0 0 ≤ 41 := by unfold rnM; split <;> omega
      have J_24 : (i < w) → ∀ (H : Heap) (locs : List Loc) (ls : Array Slot), MH D dA A o ad s1 H → va_S A s0.heap H locs → lv_has ls 4 [(2, .int (iI i)), (1, .int (iI c)), (0, .ref o)] → W pp l ee (rmL 1 0 0) s0 mm ([.ref o] : List Value).toArray below meth cc0 H locs 0 0 (MQ below (MQv D dA A o ad (fun σ' => RnsAt σ' (rns lo w 0 0) ∧ Fr [18, 19] σ σ')) ([.ref o] : List Value).toArray s0 0 0 A) (F0 mm 24 ls []) := by
        intro  hlt H locs ls hH hS hl
        have hst := rnM_step (lo := lo) (c := c) hlt
        refine z_iload_n C dX3_codesAlone_24 hl 0 rfl ?_
        refine z_istore_n C [(3, .int (iI i)), (2, .int (iI i)), (1, .int (iI c)), (0, .ref o)] dX3_codesAlone_25 hl (by decide) rfl (fun ls hl => ?_)
        have J_26 : ∀ (fu : Nat) (k : Int), (w - k).toNat < fu → (i ≤ k ∧ k ≤ w) → (fnd lo (1 - c) w i = fnd lo (1 - c) w k) → ∀ (H : Heap) (locs : List Loc) (ls : Array Slot), MH D dA A o ad s1 H → va_S A s0.heap H locs → lv_has ls 4 [(3, .int (iI k)), (2, .int (iI i)), (1, .int (iI c)), (0, .ref o)] → W pp l ee (rmL 1 0 0) s0 mm ([.ref o] : List Value).toArray below meth cc0 H locs 0 0 (MQ below (MQv D dA A o ad (fun σ' => RnsAt σ' (rns lo w 0 0) ∧ Fr [18, 19] σ σ')) ([.ref o] : List Value).toArray s0 0 0 A) (F0 mm 26 ls []) := by
          intro fu
          induction fu with
          | zero => intro k hn; exact absurd hn (Nat.not_lt_zero _)
          | succ fu ih_26 =>
            intro k hn hk0 hs H locs ls hH hS hl
            have J_50 : (fnd lo (1 - c) w i = k) → ∀ (H : Heap) (locs : List Loc) (ls : Array Slot), MH D dA A o ad s1 H → va_S A s0.heap H locs → lv_has ls 4 [(3, .int (iI k)), (2, .int (iI i)), (1, .int (iI c)), (0, .ref o)] → W pp l ee (rmL 1 0 0) s0 mm ([.ref o] : List Value).toArray below meth cc0 H locs 0 0 (MQ below (MQv D dA A o ad (fun σ' => RnsAt σ' (rns lo w 0 0) ∧ Fr [18, 19] σ σ')) ([.ref o] : List Value).toArray s0 0 0 A) (F0 mm 50 ls []) := by
              intro  hx H locs ls hH hS hl
              refine z_aload_n C dX3_codesAlone_50 hl 3 rfl ?_
              refine m_geta C hH 18 ⟨by decide, by decide⟩ q2203 rfl dX3_codesAlone_51 ?_
              refine z_aload_n C dX3_codesAlone_54 hl 3 rfl ?_
              refine m_getsZ C hH 19 ⟨by decide, by decide⟩ ((pre.length : Int)) (hm.1) q2204 rfl dX3_codesAlone_55 ?_
              refine z_iload_n C dX3_codesAlone_58 hl 0 rfl ?_
              refine z_iload_n C dX3_codesAlone_59 hl 1 rfl ?_
              refine z_isub C dX3_codesAlone_60 ?_
              refine m_iast C hOk hH hS 18 ⟨by decide, by decide⟩ (show 0 ≤ (pre.length : Int) ∧ (pre.length : Int) < (44 : Int) by omega) dX3_codesAlone_61 (fun H locs hH hS => ?_)
              refine z_aload_n C dX3_codesAlone_62 hl 3 rfl ?_
              refine z_dup C dX3_codesAlone_63 rfl ?_
              refine m_getsZ C hH 19 ⟨by decide, by decide⟩ ((pre.length : Int)) (hm.1) q2204 rfl dX3_codesAlone_64 ?_
              refine z_iconst C dX3_codesAlone_67 ?_
              refine z_iadd C dX3_codesAlone_68 ?_
              refine m_puts C hH hS 19 ⟨by decide, by decide⟩ q2204 rfl ⟨rfl, rfl⟩ dX3_codesAlone_69 (fun H locs hH hS => ?_)
              refine z_iload_n C dX3_codesAlone_72 hl 0 rfl ?_
              refine z_istore_n C [(2, .int (iI k)), (3, .int (iI k)), (1, .int (iI c)), (0, .ref o)] dX3_codesAlone_73 hl (by decide) rfl (fun ls hl => ?_)
              refine z_iconst C dX3_codesAlone_74 ?_
              refine z_iload_n C dX3_codesAlone_75 hl 2 rfl ?_
              refine z_isub C dX3_codesAlone_76 ?_
              refine z_istore_n C [(1, .int (iI (1 - c))), (2, .int (iI k)), (3, .int (iI k)), (0, .ref o)] dX3_codesAlone_77 hl (by decide) rfl (fun ls hl => ?_)
              refine z_goto C dX3_codesAlone_78 (tgt := 9) (by decide) ?_
              exact ih_9 ((1 - c)) k ((su (su s1 18 ((pre.length : Int)) (k - i)) 19 0 (((pre.length : Int)) + 1))) ((pre ++ [k - i])) (by rw [← hx]; omega) (by omega) (by omega) (frSu (frSu hf rfl) rfl) (hm.add (k - i)) (by rw [List.append_assoc, List.singleton_append, ← hp, rns_go (show i < w by omega), hx]) (by rw [List.length_append, ← hx]; simp; omega) (by right; rw [List.length_append]; simp) _ _ _ hH hS (lv_sub hl [1, 0, 3] rfl)
            refine z_iload_n C dX3_codesAlone_26 hl 0 rfl ?_
            refine z_aload_n C dX3_codesAlone_27 hl 3 rfl ?_
            refine m_getsZ C hH 9 ⟨by decide, by decide⟩ w ((by rw [hf 9 (by decide)]; exact h9)) q2194 rfl dX3_codesAlone_28 ?_
            refine z_icmpge C dX3_codesAlone_31 (tgt := 50) (by decide) ⟨⟨by omega, by omega⟩, ⟨by omega, by omega⟩⟩ (fun c_31 => ?_) (fun c_31 => ?_)
            · exact J_50  (by rw [hs]; first | exact fnd_end (by omega) | exact fnd_at (by omega)) _ _ _ hH hS (lv_sub hl [0, 1, 2, 3] rfl)
            · have e1 := hlo k (by omega) (by omega)
              have b1 := hb k
              refine z_aload_n C dX3_codesAlone_34 hl 3 rfl ?_
              refine m_geta C hH 8 ⟨by decide, by decide⟩ q2193 rfl dX3_codesAlone_35 ?_
              refine z_iload_n C dX3_codesAlone_38 hl 0 rfl ?_
              refine m_ialdZ C hOk hH 8 ⟨by decide, by decide⟩ k (lo k) ((by rw [hf 8 (by decide)]; exact e1)) (show 0 ≤ k ∧ k < (40 : Int) by omega) dX3_codesAlone_39 ?_
              refine z_iload_n C dX3_codesAlone_40 hl 2 rfl ?_
              refine z_icmpne C dX3_codesAlone_41 (tgt := 50) (by decide) ⟨⟨by omega, by omega⟩, ⟨by omega, by omega⟩⟩ (fun c_41 => ?_) (fun c_41 => ?_)
              · exact J_50  (by rw [hs]; first | exact fnd_end (by omega) | exact fnd_at (by omega)) _ _ _ hH hS (lv_sub hl [0, 1, 2, 3] rfl)
              · refine z_iinc C [(3, .int (iI (k + 1))), (2, .int (iI i)), (1, .int (iI c)), (0, .ref o)] dX3_codesAlone_44 hl 0 rfl (by decide) rfl (fun ls hl => ?_)
                refine z_goto C dX3_codesAlone_47 (tgt := 26) (by decide) ?_
                exact ih_26 ((k + 1)) (by omega) (by omega) (by rw [hs]; exact fnd_go (by omega) (by omega)) _ _ _ hH hS (lv_sub hl [0, 1, 2, 3] rfl)
        exact J_26 _ i (Nat.lt_succ_self _) (by omega) (rfl) _ _ _ hH hS (lv_sub hl [0, 1, 2, 3] rfl)
      refine z_iload_n C dX3_codesAlone_9 hl 0 rfl ?_
      refine z_aload_n C dX3_codesAlone_10 hl 2 rfl ?_
      refine m_getsZ C hH 9 ⟨by decide, by decide⟩ w ((by rw [hf 9 (by decide)]; exact h9)) q2194 rfl dX3_codesAlone_11 ?_
      refine z_icmplt C dX3_codesAlone_14 (tgt := 24) (by decide) ⟨⟨by omega, by omega⟩, ⟨by omega, by omega⟩⟩ (fun c_14 => ?_) (fun c_14 => ?_)
      · exact J_24  (by omega) _ _ _ hH hS (lv_sub hl [0, 1, 2] rfl)
      · refine z_aload_n C dX3_codesAlone_17 hl 2 rfl ?_
        refine m_getsZ C hH 19 ⟨by decide, by decide⟩ ((pre.length : Int)) (hm.1) q2204 rfl dX3_codesAlone_18 ?_
        refine z_ifne C dX3_codesAlone_21 (tgt := 81) (by decide) ⟨by omega, by omega⟩ (fun c_21 => ?_) (fun c_21 => ?_)
        · refine m_vret C hret hH hS dX3_codesAlone_81 ?_
          have ha9 : i = w := by omega
          subst ha9
          rw [rns_end (Int.le_refl _), List.append_nil] at hp
          subst hp
          exact ⟨hm, hf⟩
        · exact absurd c_21 (by omega)
  exact J_9 _ 0 0 ((su σ 19 0 0)) ([]) (Nat.lt_succ_self _) (by omega) (by omega) (frSu Fr.rf rfl) (⟨by rw [su_self]; rfl, fun k h0 h1 => absurd h1 (by simp; omega)⟩) (rfl) (by simp) (by omega) _ _ _ hH hS (lv_sub hl [0, 1, 2] rfl)
set_option maxHeartbeats 1000000 in
theorem mm_laysLine {l : Launch} {D : va_G} {dA : Nat → ClassId} {A : Nat → Prop} {o : Nat} {ad : Nat → Nat} (hOk : mOk o ad) (σ : Sg) (ln : Int) (P : Pg) (hP : PgAt (σ 1) P) (hk : PgOk P) (hl0 : 0 ≤ ln ∧ ln < pN P) : Met l yX3_laysLine (ws_ yX3_laysLine cX3_laysLine 2 none) (rmL 2 0 0) (MP D dA A o ad [.ref o, .int (iI ln)] σ) (MQv D dA A o ad (fun σ' => σ' 9 0 = pW P ∧ (∀ k, 0 ≤ k → k < pW P → σ' 7 k = upZ P ln k) ∧ (∀ k, 0 ≤ k → k < pW P → σ' 8 k = lnZ P ln k) ∧ Fr [7, 8, 9] σ σ')) 0 0 A := by
  refine z_ofW (by decide) rfl ?_
  intro pp ee s0 mm below meth cc0 ls C hret hname hl hH hS
  have hl : lv_has ls 2 [(0, .ref o), (1, .int (iI ln))] := hl
  obtain ⟨k1, k2, k3, k4⟩ := hk
  obtain ⟨p1, p2, p3, p4, p5⟩ := hP
  refine z_aload_n C dX3_laysLine_0 hl 0 rfl ?_
  refine z_aload_n C dX3_laysLine_1 hl 0 rfl ?_
  refine m_geta C hH 1 ⟨by decide, by decide⟩ q2186 rfl dX3_laysLine_2 ?_
  refine z_iconst C dX3_laysLine_5 ?_
  refine m_ialdZ C hOk hH 1 ⟨by decide, by decide⟩ 0 (pW P) (p1) (show 0 ≤ 0 ∧ 0 < (828 : Int) by omega) dX3_laysLine_6 ?_
  refine m_puts C hH hS 9 ⟨by decide, by decide⟩ q2194 rfl ⟨rfl, rfl⟩ dX3_laysLine_7 (fun H locs hH hS => ?_)
  refine z_aload_n C dX3_laysLine_10 hl 0 rfl ?_
  refine z_aload_n C dX3_laysLine_11 hl 0 rfl ?_
  refine m_geta C hH 1 ⟨by decide, by decide⟩ q2186 rfl dX3_laysLine_12 ?_
  refine z_iload_n C dX3_laysLine_15 hl 1 rfl ?_
  refine z_ifne C dX3_laysLine_16 (tgt := 23) (by decide) ⟨by omega, by omega⟩ (fun c_16 => ?_) (fun c_16 => ?_)
  · refine z_iload_n C dX3_laysLine_23 hl 1 rfl ?_
    refine z_iconst C dX3_laysLine_24 ?_
    refine z_isub C dX3_laysLine_25 ?_
    refine z_iconst C dX3_laysLine_26 ?_
    refine m_SiF C hH hS (mm_dotAt hOk (su σ 9 0 (pW P)) (ln - 1) 0) (va_cwS 2 C.1.2.2.2.2 (lw_S q2332 q2333 q133 q2334) rfl rfl rfl (by decide +kernel) ⟨Nat.le_of_ble_eq_true rfl, Nat.le_of_ble_eq_true rfl⟩) rfl hl rfl (Nat.le_of_ble_eq_true rfl) dX3_laysLine_27 ⟨Nat.le_refl _, Nat.le_refl _⟩ (fun H locs hH hS => ?_)
    refine m_VvF C hH hS (mm_laysUpper hOk ((su σ 9 0 (pW P))) 1 (28 + 40 * (ln - 1) + 0) (⟨by decide, by decide⟩) (by decide) (Or.inr (show 0 ≤ 28 + 40 * (ln - 1) + 0 ∧ 28 + 40 * (ln - 1) + 0 + 40 ≤ (828 : Int) by omega))) (cwV 2 C.1.2.2.2.2 (lw_V q2355 q2357 qs51 q133 q2358) rfl rfl rfl (by decide +kernel) ⟨Nat.le_of_ble_eq_true rfl, Nat.le_of_ble_eq_true rfl⟩) rfl hl rfl (Nat.le_of_ble_eq_true rfl) dX3_laysLine_30 ⟨Nat.le_refl _, Nat.le_refl _⟩ (fun H locs hH hS => ?_)
    refine z_aload_n C dX3_laysLine_33 hl 0 rfl ?_
    refine z_aload_n C dX3_laysLine_34 hl 0 rfl ?_
    refine m_geta C hH 1 ⟨by decide, by decide⟩ q2186 rfl dX3_laysLine_35 ?_
    refine z_iload_n C dX3_laysLine_38 hl 1 rfl ?_
    refine z_iconst C dX3_laysLine_39 ?_
    refine m_SiF C hH hS (mm_dotAt hOk (sa ((su σ 9 0 (pW P))) 7 (wr (fun j => if (28 + 40 * (ln - 1) + 0) = -1 then 0 else ((su σ 9 0 (pW P))) 1 ((28 + 40 * (ln - 1) + 0) + j)) (((su σ 9 0 (pW P))) 7) 0 40)) ln 0) (va_cwS 2 C.1.2.2.2.2 (lw_S q2332 q2333 q133 q2334) rfl rfl rfl (by decide +kernel) ⟨Nat.le_of_ble_eq_true rfl, Nat.le_of_ble_eq_true rfl⟩) rfl hl rfl (Nat.le_of_ble_eq_true rfl) dX3_laysLine_40 ⟨Nat.le_refl _, Nat.le_refl _⟩ (fun H locs hH hS => ?_)
    refine m_VvF C hH hS (mm_laysLower hOk ((sa ((su σ 9 0 (pW P))) 7 (wr (fun j => if (28 + 40 * (ln - 1) + 0) = -1 then 0 else ((su σ 9 0 (pW P))) 1 ((28 + 40 * (ln - 1) + 0) + j)) (((su σ 9 0 (pW P))) 7) 0 40))) 1 (28 + 40 * ln + 0) (⟨by decide, by decide⟩) (by decide) (show 0 ≤ 28 + 40 * ln + 0 ∧ 28 + 40 * ln + 0 + 40 ≤ (828 : Int) by omega)) (cwV 2 C.1.2.2.2.2 (lw_V q2359 q2361 qs52 q133 q2362) rfl rfl rfl (by decide +kernel) ⟨Nat.le_of_ble_eq_true rfl, Nat.le_of_ble_eq_true rfl⟩) rfl hl rfl (Nat.le_of_ble_eq_true rfl) dX3_laysLine_43 ⟨Nat.le_refl _, Nat.le_refl _⟩ (fun H locs hH hS => ?_)
    refine m_vret C hret hH hS dX3_laysLine_46 ?_
    refine ⟨rfl, fun k h0 h1 => ?_, fun k h0 h1 => ?_, frSa (frSa (frSu Fr.rf rfl) rfl) rfl⟩
    · show wr (fun j => if (28 + 40 * (ln - 1) + 0) = -1 then 0 else σ 1 ((28 + 40 * (ln - 1) + 0) + j)) (σ 7) 0 40 k = upZ P ln k
      rw [wr_in _ _ h0 (by omega)]
      exact by rw [if_neg (by omega)]; unfold upZ; rw [if_neg (by omega)]; have := p5 (ln - 1) k (by omega) (by omega) h0 h1; rw [← this]; show σ 1 _ = σ 1 _; congr 1; omega
    · show wr (fun j => σ 1 (28 + 40 * ln + 0 + j)) (σ 8) 0 40 k = lnZ P ln k
      rw [wr_in _ _ h0 (by omega)]
      have := p5 ln k (by omega) (by omega) h0 h1
      rw [← this]; congr 1; omega
  · refine z_iconst C dX3_laysLine_19 ?_
    refine z_goto C dX3_laysLine_20 (tgt := 30) (by decide) ?_
    refine m_VvF C hH hS (mm_laysUpper hOk (su σ 9 0 (pW P)) 1 ((-1)) (⟨by decide, by decide⟩) (by decide) (Or.inl rfl)) (cwV 2 C.1.2.2.2.2 (lw_V q2355 q2357 qs51 q133 q2358) rfl rfl rfl (by decide +kernel) ⟨Nat.le_of_ble_eq_true rfl, Nat.le_of_ble_eq_true rfl⟩) rfl hl rfl (Nat.le_of_ble_eq_true rfl) dX3_laysLine_30 ⟨Nat.le_refl _, Nat.le_refl _⟩ (fun H locs hH hS => ?_)
    refine z_aload_n C dX3_laysLine_33 hl 0 rfl ?_
    refine z_aload_n C dX3_laysLine_34 hl 0 rfl ?_
    refine m_geta C hH 1 ⟨by decide, by decide⟩ q2186 rfl dX3_laysLine_35 ?_
    refine z_iload_n C dX3_laysLine_38 hl 1 rfl ?_
    refine z_iconst C dX3_laysLine_39 ?_
    refine m_SiF C hH hS (mm_dotAt hOk (sa (su σ 9 0 (pW P)) 7 (wr (fun j => if ((-1)) = -1 then 0 else (su σ 9 0 (pW P)) 1 (((-1)) + j)) ((su σ 9 0 (pW P)) 7) 0 40)) ln 0) (va_cwS 2 C.1.2.2.2.2 (lw_S q2332 q2333 q133 q2334) rfl rfl rfl (by decide +kernel) ⟨Nat.le_of_ble_eq_true rfl, Nat.le_of_ble_eq_true rfl⟩) rfl hl rfl (Nat.le_of_ble_eq_true rfl) dX3_laysLine_40 ⟨Nat.le_refl _, Nat.le_refl _⟩ (fun H locs hH hS => ?_)
    refine m_VvF C hH hS (mm_laysLower hOk ((sa (su σ 9 0 (pW P)) 7 (wr (fun j => if ((-1)) = -1 then 0 else (su σ 9 0 (pW P)) 1 (((-1)) + j)) ((su σ 9 0 (pW P)) 7) 0 40))) 1 (28 + 40 * ln + 0) (⟨by decide, by decide⟩) (by decide) (show 0 ≤ 28 + 40 * ln + 0 ∧ 28 + 40 * ln + 0 + 40 ≤ (828 : Int) by omega)) (cwV 2 C.1.2.2.2.2 (lw_V q2359 q2361 qs52 q133 q2362) rfl rfl rfl (by decide +kernel) ⟨Nat.le_of_ble_eq_true rfl, Nat.le_of_ble_eq_true rfl⟩) rfl hl rfl (Nat.le_of_ble_eq_true rfl) dX3_laysLine_43 ⟨Nat.le_refl _, Nat.le_refl _⟩ (fun H locs hH hS => ?_)
    refine m_vret C hret hH hS dX3_laysLine_46 ?_
    refine ⟨rfl, fun k h0 h1 => ?_, fun k h0 h1 => ?_, frSa (frSa (frSu Fr.rf rfl) rfl) rfl⟩
    · show wr (fun j => if (-1) = -1 then 0 else σ 1 ((-1) + j)) (σ 7) 0 40 k = upZ P ln k
      rw [wr_in _ _ h0 (by omega)]
      exact by rw [if_pos rfl]; unfold upZ; rw [if_pos (by omega)]
    · show wr (fun j => σ 1 (28 + 40 * ln + 0 + j)) (σ 8) 0 40 k = lnZ P ln k
      rw [wr_in _ _ h0 (by omega)]
      have := p5 ln k (by omega) (by omega) h0 h1
      rw [← this]; congr 1; omega
set_option maxHeartbeats 1000000 in
theorem mm_codesLine {l : Launch} {D : va_G} {dA : Nat → ClassId} {A : Nat → Prop} {o : Nat} {ad : Nat → Nat} (hOk : mOk o ad) (σ : Sg) (ln : Int) (P : Pg) (hP : PgAt (σ 1) P) (hk : PgOk P) (hl0 : 0 ≤ ln ∧ ln < pN P) : Met l yX3_codesLine (ws_ yX3_codesLine cX3_codesLine 2 none) (rmL 4 0 0) (MP D dA A o ad [.ref o, .int (iI ln)] σ) (MQv D dA A o ad (fun σ' => Cod σ' (pW P) (upZ P ln) (lnZ P ln) ∧ Fr [7, 8, 9, 10, 11, 12, 13, 14, 18, 19] σ σ')) 0 0 A := by
  refine z_ofW (by decide) rfl ?_
  intro pp ee s0 mm below meth cc0 ls C hret hname hl hH hS
  have hl : lv_has ls 2 [(0, .ref o), (1, .int (iI ln))] := hl
  have hk9 := hk
  obtain ⟨k1, k2, k3, k4⟩ := hk
  refine z_aload_n C dX3_codesLine_0 hl 0 rfl ?_
  refine z_iload_n C dX3_codesLine_1 hl 1 rfl ?_
  refine m_Vv C hH hS (mm_laysLine hOk σ ln P (hP) (hk9) (by omega)) (cwV 1 C.1.2.2.2.2 (lw_V q2351 q2353 qs50 q133 q2354) rfl rfl rfl (by decide +kernel) ⟨Nat.le_of_ble_eq_true rfl, Nat.le_of_ble_eq_true rfl⟩) rfl hl rfl (Nat.le_of_ble_eq_true rfl) dX3_codesLine_2 ⟨Nat.le_refl _, Nat.le_refl _⟩ (fun s_2 H locs hp_2 hH hS => ?_)
  obtain ⟨h92, hu2, hl2, hf2⟩ := hp_2
  refine z_aload_n C dX3_codesLine_5 hl 0 rfl ?_
  refine m_Vv C hH hS (mm_codes hOk s_2 (pW P) (upZ P ln) (lnZ P ln) (by omega) (h92) (hu2) (hl2) (upZ_01 P ln) (lnZ_01 P ln)) (cwV 0 C.1.2.2.2.2 (lw_V q2363 q2365 qs53 q133 q2366) rfl rfl rfl (by decide +kernel) ⟨Nat.le_of_ble_eq_true rfl, Nat.le_of_ble_eq_true rfl⟩) rfl hl rfl (Nat.le_of_ble_eq_true rfl) dX3_codesLine_6 ⟨Nat.le_refl _, Nat.le_refl _⟩ (fun s_6 H locs hp_6 hH hS => ?_)
  obtain ⟨hm6, hf6⟩ := hp_6
  refine z_aload_n C dX3_codesLine_9 hl 0 rfl ?_
  refine m_Vv C hH hS (mm_codesAlone hOk s_6 (pW P) (lnZ P ln) (by omega) (by rw [hf6.at 9 rfl]; exact h92) (by rw [hf6.at 8 rfl]; exact hl2) (lnZ_01 P ln)) (cwV 0 C.1.2.2.2.2 (lw_V q2386 q2388 qs58 q133 q2389) rfl rfl rfl (by decide +kernel) ⟨Nat.le_of_ble_eq_true rfl, Nat.le_of_ble_eq_true rfl⟩) rfl hl rfl (Nat.le_of_ble_eq_true rfl) dX3_codesLine_10 ⟨Nat.le_refl _, Nat.le_refl _⟩ (fun s_10 H locs hp_10 hH hS => ?_)
  obtain ⟨hm10, hf10⟩ := hp_10
  refine m_vret C hret hH hS dX3_codesLine_13 ?_
  exact ⟨⟨by rw [hf10.at 9 rfl, hf6.at 9 rfl]; exact h92, by rw [hf10.at 7 rfl, hf6.at 7 rfl]; exact hu2, by rw [hf10.at 8 rfl, hf6.at 8 rfl]; exact hl2, hm6.fr (hf10.at 10 rfl) (hf10.at 11 rfl) (hf10.at 12 rfl) (hf10.at 13 rfl) (hf10.at 14 rfl), hm10⟩, ((Fr.rf.th hf2 rfl).th hf6 rfl).th hf10 rfl⟩
set_option maxHeartbeats 1000000 in
theorem mm_isMark {l : Launch} {D : va_G} {dA : Nat → ClassId} {A : Nat → Prop} {o : Nat} {ad : Nat → Nat} (hOk : mOk o ad) (σ : Sg) (ln : Int) (P : Pg) (ev : Int) (hP : PgAt (σ 1) P) (hk : PgOk P) (hl0 : 0 ≤ ln ∧ ln < pN P) (hev : σ 1 2 = ev) (hev2 : 1 ≤ ev ∧ ev ≤ 8) : Met l yX3_isMark (ws_ yX3_isMark cX3_isMark 2 (some .boolean)) (rmL 5 0 0) (MP D dA A o ad [.ref o, .int (iI ln)] σ) (MQi D dA A o ad (fun r σ' => r = isMk P ev ln ∧ Fr [7, 8, 9, 10, 11, 12, 13, 14, 18, 19] σ σ')) 0 0 A := by
  refine z_ofW (by decide) rfl ?_
  intro pp ee s0 mm below meth cc0 ls C hret hname hl hH hS
  have hl : lv_has ls 2 [(0, .ref o), (1, .int (iI ln))] := hl
  have hk9 := hk
  have hP9 := hP
  obtain ⟨k1, k2, k3, k4, k5, k6⟩ := hk
  obtain ⟨p1, p2, p3, p4, p5⟩ := hP
  have p33 := p3 1 (by omega) (by omega)
  have rm1 := Int.tmod_nonneg ev hl0.1
  have rm2 := Int.tmod_lt_of_pos ln (show 0 < ev by omega)
  refine z_iload_n C dX3_isMark_0 hl 1 rfl ?_
  refine z_aload_n C dX3_isMark_1 hl 0 rfl ?_
  refine m_geta C hH 1 ⟨by decide, by decide⟩ q2186 rfl dX3_isMark_2 ?_
  refine z_iconst C dX3_isMark_5 ?_
  refine m_ialdZ C hOk hH 1 ⟨by decide, by decide⟩ 2 ev (hev) (show 0 ≤ 2 ∧ 2 < (828 : Int) by omega) dX3_isMark_6 ?_
  refine z_irem C dX3_isMark_7 ⟨⟨by omega, by omega⟩, ⟨by omega, by omega⟩, by omega⟩ ?_
  refine z_ifne C dX3_isMark_8 (tgt := 13) (by decide) ⟨by omega, by omega⟩ (fun c_8 => ?_) (fun c_8 => ?_)
  · refine z_aload_n C dX3_isMark_13 hl 0 rfl ?_
    refine z_iload_n C dX3_isMark_14 hl 1 rfl ?_
    refine m_Vv C hH hS (mm_codesLine hOk σ ln P (hP9) (hk9) (by omega)) (cwV 1 C.1.2.2.2.2 (lw_V q2347 q2349 qs49 q133 q2350) rfl rfl rfl (by decide +kernel) ⟨Nat.le_of_ble_eq_true rfl, Nat.le_of_ble_eq_true rfl⟩) rfl hl rfl (Nat.le_of_ble_eq_true rfl) dX3_isMark_15 ⟨Nat.le_refl _, Nat.le_refl _⟩ (fun s_15 H locs hp_15 hH hS => ?_)
    obtain ⟨hc15, hf15⟩ := hp_15
    obtain ⟨c1, c2, c3, c4, c5⟩ := hc15
    have s1 := sumR_in (pR P ln)
    have s2 := sumM_in (pC P ln)
    have l1 : ((pR P ln).length : Int) ≤ pW P + 1 := rns_len (lnZ P ln) (show 0 ≤ pW P by omega)
    have l2 : ((pC P ln).length : Int) ≤ pW P + 1 := cds_len (upZ P ln) (lnZ P ln) (show 0 ≤ pW P by omega)
    refine z_aload_n C dX3_isMark_18 hl 0 rfl ?_
    refine m_geta C hH 1 ⟨by decide, by decide⟩ q2186 rfl dX3_isMark_19 ?_
    refine z_iconst C dX3_isMark_22 ?_
    refine m_ialdZ C hOk hH 1 ⟨by decide, by decide⟩ 3 (pS P 1) (by rw [hf15.at 1 rfl]; exact p33) (show 0 ≤ 3 ∧ 3 < (828 : Int) by omega) dX3_isMark_23 ?_
    refine z_iconst C dX3_isMark_24 ?_
    refine z_icmpne C dX3_isMark_25 (tgt := 43) (by decide) ⟨⟨by omega, by omega⟩, ⟨by omega, by omega⟩⟩ (fun c_25 => ?_) (fun c_25 => ?_)
    · refine z_iconst C dX3_isMark_43 ?_
      refine m_zret C hret hH hS (by omega) dX3_isMark_44 ?_
      exact ⟨by unfold isMk; rw [if_neg (by omega)]; first | (rw [if_pos ⟨by omega, by omega⟩]; done) | (rw [if_neg (by omega)]; done), hf15⟩
    · refine z_aload_n C dX3_isMark_28 hl 0 rfl ?_
      refine m_ViF C hH hS (mm_aloneBits hOk s_15 (pW P) (pR P ln) (by omega) (c5) (rns_in _ (by omega)) (by omega)) (cwV 0 C.1.2.2.2.2 (lw_V q2390 q2392 qs59 q133 q2393) rfl rfl rfl (by decide +kernel) ⟨Nat.le_of_ble_eq_true rfl, Nat.le_of_ble_eq_true rfl⟩) rfl hl rfl (Nat.le_of_ble_eq_true rfl) dX3_isMark_29 ⟨Nat.le_refl _, Nat.le_refl _⟩ (fun H locs hH hS => ?_)
      refine z_aload_n C dX3_isMark_32 hl 0 rfl ?_
      refine m_ViF C hH hS (mm_codeBits hOk s_15 (pW P) (pC P ln) (by omega) (c4) (cds_ok _ _ (by omega)) (by omega)) (cwV 0 C.1.2.2.2.2 (lw_V q2397 q2399 qs60 q133 q2400) rfl rfl rfl (by decide +kernel) ⟨Nat.le_of_ble_eq_true rfl, Nat.le_of_ble_eq_true rfl⟩) rfl hl rfl (Nat.le_of_ble_eq_true rfl) dX3_isMark_33 ⟨Nat.le_refl _, Nat.le_refl _⟩ (fun H locs hH hS => ?_)
      refine z_icmpge C dX3_isMark_36 (tgt := 43) (by decide) ⟨⟨by omega, by omega⟩, ⟨by omega, by omega⟩⟩ (fun c_36 => ?_) (fun c_36 => ?_)
      · refine z_iconst C dX3_isMark_43 ?_
        refine m_zret C hret hH hS (by omega) dX3_isMark_44 ?_
        exact ⟨by unfold isMk; rw [if_neg (by omega)]; first | (rw [if_pos ⟨by omega, by omega⟩]; done) | (rw [if_neg (by omega)]; done), hf15⟩
      · refine z_iconst C dX3_isMark_39 ?_
        refine z_goto C dX3_isMark_40 (tgt := 44) (by decide) ?_
        refine m_zret C hret hH hS (by omega) dX3_isMark_44 ?_
        exact ⟨by unfold isMk; rw [if_neg (by omega)]; first | (rw [if_pos ⟨by omega, by omega⟩]; done) | (rw [if_neg (by omega)]; done), hf15⟩
  · refine z_iconst C dX3_isMark_11 ?_
    refine m_zret C hret hH hS (by omega) dX3_isMark_12 ?_
    exact ⟨by unfold isMk; rw [if_pos (by omega)], Fr.rf⟩
set_option maxHeartbeats 1000000 in
theorem mm_sentBits {l : Launch} {D : va_G} {dA : Nat → ClassId} {A : Nat → Prop} {o : Nat} {ad : Nat → Nat} (hOk : mOk o ad) (σ : Sg) (ln : Int) (P : Pg) (ev : Int) (hP : PgAt (σ 1) P) (hk : PgOk P) (hl0 : 0 ≤ ln ∧ ln < pN P) (hev : σ 1 2 = ev) (hev2 : 1 ≤ ev ∧ ev ≤ 8) : Met l yX3_sentBits (ws_ yX3_sentBits cX3_sentBits 3 (some .int)) (rmL 6 0 0) (MP D dA A o ad [.ref o, .int (iI ln)] σ) (MQi D dA A o ad (fun r σ' => r = bitsOf P ev ln ∧ Fr [7, 8, 9, 10, 11, 12, 13, 14, 18, 19] σ σ')) 0 0 A := by
  refine z_ofW (by decide) rfl ?_
  intro pp ee s0 mm below meth cc0 ls C hret hname hl hH hS
  have hl : lv_has ls 3 [(0, .ref o), (1, .int (iI ln))] := hl
  have hk9 := hk
  obtain ⟨k1, k2, k3, k4, k5, k6⟩ := hk
  have i01 := isMk_01 P ev ln
  refine z_aload_n C dX3_sentBits_0 hl 0 rfl ?_
  refine z_iload_n C dX3_sentBits_1 hl 1 rfl ?_
  refine m_Vi C hH hS (mm_isMark hOk σ ln P ev (hP) (hk9) (by omega) (hev) (by omega)) (cwV 1 C.1.2.2.2.2 (lw_V q2343 q2345 qs48 q133 q2346) rfl rfl rfl (by decide +kernel) ⟨Nat.le_of_ble_eq_true rfl, Nat.le_of_ble_eq_true rfl⟩) rfl hl rfl (Nat.le_of_ble_eq_true rfl) dX3_sentBits_2 ⟨Nat.le_refl _, Nat.le_refl _⟩ (fun r_2 s_2 H locs hp_2 hH hS => ?_)
  obtain ⟨hr2, hf2⟩ := hp_2
  refine z_istore_n C [(2, .int (iI r_2)), (0, .ref o), (1, .int (iI ln))] dX3_sentBits_5 hl (by decide) rfl (fun ls hl => ?_)
  refine z_aload_n C dX3_sentBits_6 hl 1 rfl ?_
  refine z_iload_n C dX3_sentBits_7 hl 2 rfl ?_
  refine m_Vv C hH hS (mm_codesLine hOk s_2 ln P (by rw [hf2.at 1 rfl]; exact hP) (hk9) (by omega)) (cwV 1 C.1.2.2.2.2 (lw_V q2347 q2349 qs49 q133 q2350) rfl rfl rfl (by decide +kernel) ⟨Nat.le_of_ble_eq_true rfl, Nat.le_of_ble_eq_true rfl⟩) rfl hl rfl (Nat.le_of_ble_eq_true rfl) dX3_sentBits_8 ⟨Nat.le_refl _, Nat.le_refl _⟩ (fun s_8 H locs hp_8 hH hS => ?_)
  obtain ⟨hc8, hf8⟩ := hp_8
  obtain ⟨c1, c2, c3, c4, c5⟩ := hc8
  have l1 : ((pR P ln).length : Int) ≤ pW P + 1 := rns_len (lnZ P ln) (show 0 ≤ pW P by omega)
  have l2 : ((pC P ln).length : Int) ≤ pW P + 1 := cds_len (upZ P ln) (lnZ P ln) (show 0 ≤ pW P by omega)
  refine z_iload_n C dX3_sentBits_11 hl 0 rfl ?_
  refine z_ifeq C dX3_sentBits_12 (tgt := 22) (by decide) ⟨by omega, by omega⟩ (fun c_12 => ?_) (fun c_12 => ?_)
  · refine z_aload_n C dX3_sentBits_22 hl 1 rfl ?_
    refine m_ViF C hH hS (mm_codeBits hOk s_8 (pW P) (pC P ln) (by omega) (c4) (cds_ok _ _ (by omega)) (by omega)) (cwV 0 C.1.2.2.2.2 (lw_V q2397 q2399 qs60 q133 q2400) rfl rfl rfl (by decide +kernel) ⟨Nat.le_of_ble_eq_true rfl, Nat.le_of_ble_eq_true rfl⟩) rfl hl rfl (Nat.le_of_ble_eq_true rfl) dX3_sentBits_23 ⟨Nat.le_refl _, Nat.le_refl _⟩ (fun H locs hH hS => ?_)
    refine m_iret C hret hH hS dX3_sentBits_26 ?_
    exact ⟨by unfold bitsOf; first | (rw [if_pos (by omega)]; done) | (rw [if_neg (by omega)]; done), hf2.th hf8 rfl⟩
  · refine z_aload_n C dX3_sentBits_15 hl 1 rfl ?_
    refine m_ViF C hH hS (mm_aloneBits hOk s_8 (pW P) (pR P ln) (by omega) (c5) (rns_in _ (by omega)) (by omega)) (cwV 0 C.1.2.2.2.2 (lw_V q2390 q2392 qs59 q133 q2393) rfl rfl rfl (by decide +kernel) ⟨Nat.le_of_ble_eq_true rfl, Nat.le_of_ble_eq_true rfl⟩) rfl hl rfl (Nat.le_of_ble_eq_true rfl) dX3_sentBits_16 ⟨Nat.le_refl _, Nat.le_refl _⟩ (fun H locs hH hS => ?_)
    refine z_goto C dX3_sentBits_19 (tgt := 26) (by decide) ?_
    refine m_iret C hret hH hS dX3_sentBits_26 ?_
    exact ⟨by unfold bitsOf; first | (rw [if_pos (by omega)]; done) | (rw [if_neg (by omega)]; done), hf2.th hf8 rfl⟩
set_option maxHeartbeats 1000000 in
theorem mm_markUpTo {l : Launch} {D : va_G} {dA : Nat → ClassId} {A : Nat → Prop} {o : Nat} {ad : Nat → Nat} (hOk : mOk o ad) (σ : Sg) (ln : Int) (P : Pg) (ev : Int) (hP : PgAt (σ 1) P) (hk : PgOk P) (hl0 : 0 ≤ ln ∧ ln < pN P) (hev : σ 1 2 = ev) (hev2 : 1 ≤ ev ∧ ev ≤ 8) : Met l yX3_markUpTo (ws_ yX3_markUpTo cX3_markUpTo 3 (some .int)) (rmL 6 0 0) (MP D dA A o ad [.ref o, .int (iI ln)] σ) (MQi D dA A o ad (fun r σ' => r = mkTo P ev ln ∧ Fr [7, 8, 9, 10, 11, 12, 13, 14, 18, 19] σ σ')) 0 0 A := by
  refine z_ofW (by decide) rfl ?_
  intro pp ee s0 mm below meth cc0 ls C hret hname hl hH hS
  have hl : lv_has ls 3 [(0, .ref o), (1, .int (iI ln))] := hl
  refine z_iload_n C dX3_markUpTo_0 hl 1 rfl ?_
  refine z_istore_n C [(2, .int (iI ln)), (0, .ref o), (1, .int (iI ln))] dX3_markUpTo_1 hl (by decide) rfl (fun ls hl => ?_)
  have J_2 : ∀ (fu : Nat) (k : Int) (s1 : Sg), k.toNat < fu → (0 ≤ k ∧ k ≤ ln) → (mkTo P ev ln = mkTo P ev k) → (Fr [7, 8, 9, 10, 11, 12, 13, 14, 18, 19] σ s1) → ∀ (H : Heap) (locs : List Loc) (ls : Array Slot), MH D dA A o ad s1 H → va_S A s0.heap H locs → lv_has ls 3 [(2, .int (iI k)), (0, .ref o), (1, .int (iI ln))] → W pp l ee (rmL 6 0 0) s0 mm ([.ref o, .int (iI ln)] : List Value).toArray below meth cc0 H locs 0 0 (MQ below (MQi D dA A o ad (fun r σ' => r = mkTo P ev ln ∧ Fr [7, 8, 9, 10, 11, 12, 13, 14, 18, 19] σ σ')) ([.ref o, .int (iI ln)] : List Value).toArray s0 0 0 A) (F0 mm 2 ls []) := by
    intro fu
    induction fu with
    | zero => intro k s1 hn; exact absurd hn (Nat.not_lt_zero _)
    | succ fu ih_2 =>
      intro k s1 hn hk0 hs hf H locs ls hH hS hl
      have i01 := isMk_01 P ev k
      refine z_aload_n C dX3_markUpTo_2 hl 1 rfl ?_
      refine z_iload_n C dX3_markUpTo_3 hl 0 rfl ?_
      refine m_Vi C hH hS (mm_isMark hOk s1 k P ev (by rw [hf.at 1 rfl]; exact hP) (hk) (by omega) (by rw [hf.at 1 rfl]; exact hev) (by omega)) (cwV 1 C.1.2.2.2.2 (lw_V q2343 q2345 qs48 q133 q2346) rfl rfl rfl (by decide +kernel) ⟨Nat.le_of_ble_eq_true rfl, Nat.le_of_ble_eq_true rfl⟩) rfl hl rfl (Nat.le_of_ble_eq_true rfl) dX3_markUpTo_4 ⟨Nat.le_refl _, Nat.le_refl _⟩ (fun r_4 s_4 H locs hp_4 hH hS => ?_)
      obtain ⟨hr4, hf4⟩ := hp_4
      refine z_ifne C dX3_markUpTo_7 (tgt := 16) (by decide) ⟨by omega, by omega⟩ (fun c_7 => ?_) (fun c_7 => ?_)
      · refine z_iload_n C dX3_markUpTo_16 hl 0 rfl ?_
        refine m_iret C hret hH hS dX3_markUpTo_17 ?_
        exact ⟨by rw [hs]; exact (mkTo_at hk0.1 (by omega)).symm, hf.th hf4 rfl⟩
      · refine z_iinc C [(2, .int (iI (k + (-1)))), (0, .ref o), (1, .int (iI ln))] dX3_markUpTo_10 hl 0 rfl (by decide) rfl (fun ls hl => ?_)
        refine z_goto C dX3_markUpTo_13 (tgt := 2) (by decide) ?_
        exact ih_2 ((k + (-1))) s_4 (by have := (mkTo_go hk0.1 (show isMk P ev k = 0 by omega)).1; omega) (by have := (mkTo_go hk0.1 (show isMk P ev k = 0 by omega)).1; omega) (by rw [hs]; exact (mkTo_go hk0.1 (by omega)).2) (hf.th hf4 rfl) _ _ _ hH hS (lv_sub hl [0, 1, 2] rfl)
  exact J_2 _ ln σ (Nat.lt_succ_self _) (by omega) (rfl) (Fr.rf) _ _ _ hH hS (lv_sub hl [0, 1, 2] rfl)
