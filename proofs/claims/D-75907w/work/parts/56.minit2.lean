/-! the reference's constructor (written by gen/minit.py) -/
set_option maxRecDepth 100000
theorem c0_int : (fun _ : Nat => Value.int (iI 0)) = fun _ => defaultValue .int := by funext _; show Value.int (iI 0) = Value.int 0; rw [← iI_0]
theorem c0_byte : (fun _ : Nat => Value.int (iI 0)) = fun _ => defaultValue .byte := by funext _; show Value.int (iI 0) = Value.int 0; rw [← iI_0]
theorem c0_boolean : (fun _ : Nat => Value.int (iI 0)) = fun _ => defaultValue .boolean := by funext _; show Value.int (iI 0) = Value.int 0; rw [← iI_0]
def Z0 (s : Sg) : Prop := ∀ k i, k ≠ 38 → k ≠ 39 → s k i = 0
theorem Z0.z {s : Sg} (h : Z0 s) (k : Nat) : Z0 (sa s k (fun _ => 0)) := fun j i a b => by
  by_cases e : j = k
  · rw [e, sa_k]
  · rw [sa_ne _ _ e]; exact h j i a b
theorem Z0.w {s : Sg} (h : Z0 s) (f : Int → Int) : Z0 (sa s 39 f) := fun j i a b => by rw [sa_ne _ _ b]; exact h j i a b
theorem Z0.n {s : Sg} (h : Z0 s) (v : Int) : Z0 (su s 38 0 v) := fun j i a b => by rw [su_ne _ _ _ a]; exact h j i a b
set_option maxHeartbeats 4000000 in
theorem mm_init {l : Launch} {D : va_G} {dA : Nat → ClassId} {A : Nat → Prop} {o : Nat} : Met l yX3_init (ws_ yX3_init cX3_init 1 none) (rmL 3 22 14387) (ZP D clM dA A (fun _ _ => True) [.ref o] (va_up (fun _ => none) o (some (oI 0 (cF (fun _ => 0) (fun _ _ => 0) (fun _ => false)))))) (ZQv D clM A (fun g => ∃ (ad : Nat → Nat) (σ : Sg), mOk o ad ∧ g = mG dA o ad σ ∧ MIv σ (bgP 16) [] ∧ SvAt σ (fun _ => none) ∧ TxAt σ (fun _ => 0) 0 ∧ OuAt σ [] ∧ WdAt σ ∧ σ 37 0 = 0 ∧ σ 38 0 = -1)) 22 14387 A := by
  refine z_ofW (by decide) rfl ?_
  intro pp ee s0 mm below meth cc0 ls C hret hname hl hH hS
  have hl : lv_has ls 1 [(0, .ref o)] := hl
  have hP : CP dA o (fun _ => 0) (fun _ _ => 0) (fun _ => false) (va_up (fun _ => none) o (some (oI 0 (cF (fun _ => 0) (fun _ _ => 0) (fun _ => false))))) := ⟨va_up_self _ _ _, (fun k a b c => by cases c), (fun j k a b a2 b2 c => by cases c)⟩
  have hZ : Z0 (fun _ _ => 0) := fun _ _ _ _ => rfl
  refine z_aload_n C dX3_init_0 hl 0 rfl ?_
  refine W.objInit C.1.1 C.1.2.1 C.1.2.2.2.1 (C.1.2.2.2.2 _ q2177) (C.1.2.2.2.2 _ q159) (C.1.2.2.2.2 _ q160) rfl (hl.1.trans C.1.2.2.1.symm) rfl dX3_init_1 (Nat.le_of_ble_eq_true rfl) (Nat.le_of_ble_eq_true rfl) ?_
  refine z_aload_n C dX3_init_4 hl 0 rfl ?_
  refine z_sipush C dX3_init_5 (by decide +kernel) ?_
  refine z_newa C hH hS (atype := .int) (ty := .int) 0 rfl rfl (fun U cA h => h) q271 (N := 828) (a0 := (828, .inl (fun j => iI 0))) (fun cA => by rw [vp_cell_i, c0_int]) rfl (by decide) (Nat.le_of_ble_eq_true rfl) (Nat.le_of_ble_eq_true rfl) (Nat.le_of_ble_eq_true rfl) dX3_init_8 (fun q H hq9 hz9 hH hS => ?_)
  have hq := hP.apart hq9
  have hP := hP.side hq (some (.inl (dA 0, (828, .inl (fun j => iI 0)))))
  refine z_putF C hH hS hP.1 in_X3 (T := TX3) (N := 42) tyX3_ok nmX3 rfl 1 (by decide) q2186 (fun x h => h) rfl hname rfl rfl rfl (by rw [cF_len]; decide) dX3_init_10 (fun H locs hH hS => ?_)
  have hP := hP.link (k := 1) (f := (fun _ => 0)) hq (by decide) (by decide) rfl (by exact va_up_self _ _ _)
  have hZ := hZ.z 1
  refine z_aload_n C dX3_init_13 hl 0 rfl ?_
  refine z_sipush C dX3_init_14 (by decide +kernel) ?_
  refine z_newa C hH hS (atype := .int) (ty := .int) 0 rfl rfl (fun U cA h => h) q271 (N := 828) (a0 := (828, .inl (fun j => iI 0))) (fun cA => by rw [vp_cell_i, c0_int]) rfl (by decide) (Nat.le_of_ble_eq_true rfl) (Nat.le_of_ble_eq_true rfl) (Nat.le_of_ble_eq_true rfl) dX3_init_17 (fun q H hq9 hz9 hH hS => ?_)
  have hq := hP.apart hq9
  have hP := hP.side hq (some (.inl (dA 0, (828, .inl (fun j => iI 0)))))
  refine z_putF C hH hS hP.1 in_X3 (T := TX3) (N := 42) tyX3_ok nmX3 rfl 2 (by decide) q2187 (fun x h => h) rfl hname rfl rfl rfl (by rw [cF_len]; decide) dX3_init_19 (fun H locs hH hS => ?_)
  have hP := hP.link (k := 2) (f := (fun _ => 0)) hq (by decide) (by decide) rfl (by exact va_up_self _ _ _)
  have hZ := hZ.z 2
  refine z_aload_n C dX3_init_22 hl 0 rfl ?_
  refine z_sipush C dX3_init_23 (by decide +kernel) ?_
  refine z_newa C hH hS (atype := .int) (ty := .int) 0 rfl rfl (fun U cA h => h) q271 (N := 8280) (a0 := (8280, .inl (fun j => iI 0))) (fun cA => by rw [vp_cell_i, c0_int]) rfl (by decide) (Nat.le_of_ble_eq_true rfl) (Nat.le_of_ble_eq_true rfl) (Nat.le_of_ble_eq_true rfl) dX3_init_26 (fun q H hq9 hz9 hH hS => ?_)
  have hq := hP.apart hq9
  have hP := hP.side hq (some (.inl (dA 0, (8280, .inl (fun j => iI 0)))))
  refine z_putF C hH hS hP.1 in_X3 (T := TX3) (N := 42) tyX3_ok nmX3 rfl 3 (by decide) q2188 (fun x h => h) rfl hname rfl rfl rfl (by rw [cF_len]; decide) dX3_init_28 (fun H locs hH hS => ?_)
  have hP := hP.link (k := 3) (f := (fun _ => 0)) hq (by decide) (by decide) rfl (by exact va_up_self _ _ _)
  have hZ := hZ.z 3
  refine z_aload_n C dX3_init_31 hl 0 rfl ?_
  refine z_sipush C dX3_init_32 (by decide +kernel) ?_
  refine z_newa C hH hS (atype := .int) (ty := .int) 0 rfl rfl (fun U cA h => h) q271 (N := 1656) (a0 := (1656, .inl (fun j => iI 0))) (fun cA => by rw [vp_cell_i, c0_int]) rfl (by decide) (Nat.le_of_ble_eq_true rfl) (Nat.le_of_ble_eq_true rfl) (Nat.le_of_ble_eq_true rfl) dX3_init_35 (fun q H hq9 hz9 hH hS => ?_)
  have hq := hP.apart hq9
  have hP := hP.side hq (some (.inl (dA 0, (1656, .inl (fun j => iI 0)))))
  refine z_putF C hH hS hP.1 in_X3 (T := TX3) (N := 42) tyX3_ok nmX3 rfl 5 (by decide) q2190 (fun x h => h) rfl hname rfl rfl rfl (by rw [cF_len]; decide) dX3_init_37 (fun H locs hH hS => ?_)
  have hP := hP.link (k := 5) (f := (fun _ => 0)) hq (by decide) (by decide) rfl (by exact va_up_self _ _ _)
  have hZ := hZ.z 5
  refine z_aload_n C dX3_init_40 hl 0 rfl ?_
  refine z_iconst C dX3_init_41 ?_
  refine z_newa C hH hS (atype := .boolean) (ty := .boolean) 3 rfl rfl (fun U cA h => h) q2312 (N := 2) (a0 := (2, .inl (fun j => iI 0))) (fun cA => by rw [vp_cell_i, c0_boolean]) rfl (by decide) (Nat.le_of_ble_eq_true rfl) (Nat.le_of_ble_eq_true rfl) (Nat.le_of_ble_eq_true rfl) dX3_init_42 (fun q H hq9 hz9 hH hS => ?_)
  have hq := hP.apart hq9
  have hP := hP.side hq (some (.inl (dA 3, (2, .inl (fun j => iI 0)))))
  refine z_putF C hH hS hP.1 in_X3 (T := TX3) (N := 42) tyX3_ok nmX3 rfl 6 (by decide) q2191 (fun x h => h) rfl hname rfl rfl rfl (by rw [cF_len]; decide) dX3_init_44 (fun H locs hH hS => ?_)
  have hP := hP.link (k := 6) (f := (fun _ => 0)) hq (by decide) (by decide) rfl (by exact va_up_self _ _ _)
  have hZ := hZ.z 6
  refine z_aload_n C dX3_init_47 hl 0 rfl ?_
  refine z_bipush C dX3_init_48 (by decide +kernel) ?_
  refine z_newa C hH hS (atype := .int) (ty := .int) 0 rfl rfl (fun U cA h => h) q271 (N := 40) (a0 := (40, .inl (fun j => iI 0))) (fun cA => by rw [vp_cell_i, c0_int]) rfl (by decide) (Nat.le_of_ble_eq_true rfl) (Nat.le_of_ble_eq_true rfl) (Nat.le_of_ble_eq_true rfl) dX3_init_50 (fun q H hq9 hz9 hH hS => ?_)
  have hq := hP.apart hq9
  have hP := hP.side hq (some (.inl (dA 0, (40, .inl (fun j => iI 0)))))
  refine z_putF C hH hS hP.1 in_X3 (T := TX3) (N := 42) tyX3_ok nmX3 rfl 7 (by decide) q2192 (fun x h => h) rfl hname rfl rfl rfl (by rw [cF_len]; decide) dX3_init_52 (fun H locs hH hS => ?_)
  have hP := hP.link (k := 7) (f := (fun _ => 0)) hq (by decide) (by decide) rfl (by exact va_up_self _ _ _)
  have hZ := hZ.z 7
  refine z_aload_n C dX3_init_55 hl 0 rfl ?_
  refine z_bipush C dX3_init_56 (by decide +kernel) ?_
  refine z_newa C hH hS (atype := .int) (ty := .int) 0 rfl rfl (fun U cA h => h) q271 (N := 40) (a0 := (40, .inl (fun j => iI 0))) (fun cA => by rw [vp_cell_i, c0_int]) rfl (by decide) (Nat.le_of_ble_eq_true rfl) (Nat.le_of_ble_eq_true rfl) (Nat.le_of_ble_eq_true rfl) dX3_init_58 (fun q H hq9 hz9 hH hS => ?_)
  have hq := hP.apart hq9
  have hP := hP.side hq (some (.inl (dA 0, (40, .inl (fun j => iI 0)))))
  refine z_putF C hH hS hP.1 in_X3 (T := TX3) (N := 42) tyX3_ok nmX3 rfl 8 (by decide) q2193 (fun x h => h) rfl hname rfl rfl rfl (by rw [cF_len]; decide) dX3_init_60 (fun H locs hH hS => ?_)
  have hP := hP.link (k := 8) (f := (fun _ => 0)) hq (by decide) (by decide) rfl (by exact va_up_self _ _ _)
  have hZ := hZ.z 8
  refine z_aload_n C dX3_init_63 hl 0 rfl ?_
  refine z_bipush C dX3_init_64 (by decide +kernel) ?_
  refine z_newa C hH hS (atype := .int) (ty := .int) 0 rfl rfl (fun U cA h => h) q271 (N := 48) (a0 := (48, .inl (fun j => iI 0))) (fun cA => by rw [vp_cell_i, c0_int]) rfl (by decide) (Nat.le_of_ble_eq_true rfl) (Nat.le_of_ble_eq_true rfl) (Nat.le_of_ble_eq_true rfl) dX3_init_66 (fun q H hq9 hz9 hH hS => ?_)
  have hq := hP.apart hq9
  have hP := hP.side hq (some (.inl (dA 0, (48, .inl (fun j => iI 0)))))
  refine z_putF C hH hS hP.1 in_X3 (T := TX3) (N := 42) tyX3_ok nmX3 rfl 10 (by decide) q2195 (fun x h => h) rfl hname rfl rfl rfl (by rw [cF_len]; decide) dX3_init_68 (fun H locs hH hS => ?_)
  have hP := hP.link (k := 10) (f := (fun _ => 0)) hq (by decide) (by decide) rfl (by exact va_up_self _ _ _)
  have hZ := hZ.z 10
  refine z_aload_n C dX3_init_71 hl 0 rfl ?_
  refine z_bipush C dX3_init_72 (by decide +kernel) ?_
  refine z_newa C hH hS (atype := .int) (ty := .int) 0 rfl rfl (fun U cA h => h) q271 (N := 48) (a0 := (48, .inl (fun j => iI 0))) (fun cA => by rw [vp_cell_i, c0_int]) rfl (by decide) (Nat.le_of_ble_eq_true rfl) (Nat.le_of_ble_eq_true rfl) (Nat.le_of_ble_eq_true rfl) dX3_init_74 (fun q H hq9 hz9 hH hS => ?_)
  have hq := hP.apart hq9
  have hP := hP.side hq (some (.inl (dA 0, (48, .inl (fun j => iI 0)))))
  refine z_putF C hH hS hP.1 in_X3 (T := TX3) (N := 42) tyX3_ok nmX3 rfl 11 (by decide) q2196 (fun x h => h) rfl hname rfl rfl rfl (by rw [cF_len]; decide) dX3_init_76 (fun H locs hH hS => ?_)
  have hP := hP.link (k := 11) (f := (fun _ => 0)) hq (by decide) (by decide) rfl (by exact va_up_self _ _ _)
  have hZ := hZ.z 11
  refine z_aload_n C dX3_init_79 hl 0 rfl ?_
  refine z_bipush C dX3_init_80 (by decide +kernel) ?_
  refine z_newa C hH hS (atype := .int) (ty := .int) 0 rfl rfl (fun U cA h => h) q271 (N := 48) (a0 := (48, .inl (fun j => iI 0))) (fun cA => by rw [vp_cell_i, c0_int]) rfl (by decide) (Nat.le_of_ble_eq_true rfl) (Nat.le_of_ble_eq_true rfl) (Nat.le_of_ble_eq_true rfl) dX3_init_82 (fun q H hq9 hz9 hH hS => ?_)
  have hq := hP.apart hq9
  have hP := hP.side hq (some (.inl (dA 0, (48, .inl (fun j => iI 0)))))
  refine z_putF C hH hS hP.1 in_X3 (T := TX3) (N := 42) tyX3_ok nmX3 rfl 12 (by decide) q2197 (fun x h => h) rfl hname rfl rfl rfl (by rw [cF_len]; decide) dX3_init_84 (fun H locs hH hS => ?_)
  have hP := hP.link (k := 12) (f := (fun _ => 0)) hq (by decide) (by decide) rfl (by exact va_up_self _ _ _)
  have hZ := hZ.z 12
  refine z_aload_n C dX3_init_87 hl 0 rfl ?_
  refine z_bipush C dX3_init_88 (by decide +kernel) ?_
  refine z_newa C hH hS (atype := .int) (ty := .int) 0 rfl rfl (fun U cA h => h) q271 (N := 48) (a0 := (48, .inl (fun j => iI 0))) (fun cA => by rw [vp_cell_i, c0_int]) rfl (by decide) (Nat.le_of_ble_eq_true rfl) (Nat.le_of_ble_eq_true rfl) (Nat.le_of_ble_eq_true rfl) dX3_init_90 (fun q H hq9 hz9 hH hS => ?_)
  have hq := hP.apart hq9
  have hP := hP.side hq (some (.inl (dA 0, (48, .inl (fun j => iI 0)))))
  refine z_putF C hH hS hP.1 in_X3 (T := TX3) (N := 42) tyX3_ok nmX3 rfl 13 (by decide) q2198 (fun x h => h) rfl hname rfl rfl rfl (by rw [cF_len]; decide) dX3_init_92 (fun H locs hH hS => ?_)
  have hP := hP.link (k := 13) (f := (fun _ => 0)) hq (by decide) (by decide) rfl (by exact va_up_self _ _ _)
  have hZ := hZ.z 13
  refine z_aload_n C dX3_init_95 hl 0 rfl ?_
  refine z_bipush C dX3_init_96 (by decide +kernel) ?_
  refine z_newa C hH hS (atype := .int) (ty := .int) 0 rfl rfl (fun U cA h => h) q271 (N := 40) (a0 := (40, .inl (fun j => iI 0))) (fun cA => by rw [vp_cell_i, c0_int]) rfl (by decide) (Nat.le_of_ble_eq_true rfl) (Nat.le_of_ble_eq_true rfl) (Nat.le_of_ble_eq_true rfl) dX3_init_98 (fun q H hq9 hz9 hH hS => ?_)
  have hq := hP.apart hq9
  have hP := hP.side hq (some (.inl (dA 0, (40, .inl (fun j => iI 0)))))
  refine z_putF C hH hS hP.1 in_X3 (T := TX3) (N := 42) tyX3_ok nmX3 rfl 15 (by decide) q2200 (fun x h => h) rfl hname rfl rfl rfl (by rw [cF_len]; decide) dX3_init_100 (fun H locs hH hS => ?_)
  have hP := hP.link (k := 15) (f := (fun _ => 0)) hq (by decide) (by decide) rfl (by exact va_up_self _ _ _)
  have hZ := hZ.z 15
  refine z_aload_n C dX3_init_103 hl 0 rfl ?_
  refine z_bipush C dX3_init_104 (by decide +kernel) ?_
  refine z_newa C hH hS (atype := .int) (ty := .int) 0 rfl rfl (fun U cA h => h) q271 (N := 44) (a0 := (44, .inl (fun j => iI 0))) (fun cA => by rw [vp_cell_i, c0_int]) rfl (by decide) (Nat.le_of_ble_eq_true rfl) (Nat.le_of_ble_eq_true rfl) (Nat.le_of_ble_eq_true rfl) dX3_init_106 (fun q H hq9 hz9 hH hS => ?_)
  have hq := hP.apart hq9
  have hP := hP.side hq (some (.inl (dA 0, (44, .inl (fun j => iI 0)))))
  refine z_putF C hH hS hP.1 in_X3 (T := TX3) (N := 42) tyX3_ok nmX3 rfl 18 (by decide) q2203 (fun x h => h) rfl hname rfl rfl rfl (by rw [cF_len]; decide) dX3_init_108 (fun H locs hH hS => ?_)
  have hP := hP.link (k := 18) (f := (fun _ => 0)) hq (by decide) (by decide) rfl (by exact va_up_self _ _ _)
  have hZ := hZ.z 18
  refine z_aload_n C dX3_init_111 hl 0 rfl ?_
  refine z_sipush C dX3_init_112 (by decide +kernel) ?_
  refine z_newa C hH hS (atype := .int) (ty := .int) 0 rfl rfl (fun U cA h => h) q271 (N := 800) (a0 := (800, .inl (fun j => iI 0))) (fun cA => by rw [vp_cell_i, c0_int]) rfl (by decide) (Nat.le_of_ble_eq_true rfl) (Nat.le_of_ble_eq_true rfl) (Nat.le_of_ble_eq_true rfl) dX3_init_115 (fun q H hq9 hz9 hH hS => ?_)
  have hq := hP.apart hq9
  have hP := hP.side hq (some (.inl (dA 0, (800, .inl (fun j => iI 0)))))
  refine z_putF C hH hS hP.1 in_X3 (T := TX3) (N := 42) tyX3_ok nmX3 rfl 20 (by decide) q2205 (fun x h => h) rfl hname rfl rfl rfl (by rw [cF_len]; decide) dX3_init_117 (fun H locs hH hS => ?_)
  have hP := hP.link (k := 20) (f := (fun _ => 0)) hq (by decide) (by decide) rfl (by exact va_up_self _ _ _)
  have hZ := hZ.z 20
  refine z_aload_n C dX3_init_120 hl 0 rfl ?_
  refine z_bipush C dX3_init_121 (by decide +kernel) ?_
  refine z_newa C hH hS (atype := .int) (ty := .int) 0 rfl rfl (fun U cA h => h) q271 (N := 20) (a0 := (20, .inl (fun j => iI 0))) (fun cA => by rw [vp_cell_i, c0_int]) rfl (by decide) (Nat.le_of_ble_eq_true rfl) (Nat.le_of_ble_eq_true rfl) (Nat.le_of_ble_eq_true rfl) dX3_init_123 (fun q H hq9 hz9 hH hS => ?_)
  have hq := hP.apart hq9
  have hP := hP.side hq (some (.inl (dA 0, (20, .inl (fun j => iI 0)))))
  refine z_putF C hH hS hP.1 in_X3 (T := TX3) (N := 42) tyX3_ok nmX3 rfl 21 (by decide) q2206 (fun x h => h) rfl hname rfl rfl rfl (by rw [cF_len]; decide) dX3_init_125 (fun H locs hH hS => ?_)
  have hP := hP.link (k := 21) (f := (fun _ => 0)) hq (by decide) (by decide) rfl (by exact va_up_self _ _ _)
  have hZ := hZ.z 21
  refine z_aload_n C dX3_init_128 hl 0 rfl ?_
  refine z_bipush C dX3_init_129 (by decide +kernel) ?_
  refine z_newa C hH hS (atype := .int) (ty := .int) 0 rfl rfl (fun U cA h => h) q271 (N := 20) (a0 := (20, .inl (fun j => iI 0))) (fun cA => by rw [vp_cell_i, c0_int]) rfl (by decide) (Nat.le_of_ble_eq_true rfl) (Nat.le_of_ble_eq_true rfl) (Nat.le_of_ble_eq_true rfl) dX3_init_131 (fun q H hq9 hz9 hH hS => ?_)
  have hq := hP.apart hq9
  have hP := hP.side hq (some (.inl (dA 0, (20, .inl (fun j => iI 0)))))
  refine z_putF C hH hS hP.1 in_X3 (T := TX3) (N := 42) tyX3_ok nmX3 rfl 22 (by decide) q2207 (fun x h => h) rfl hname rfl rfl rfl (by rw [cF_len]; decide) dX3_init_133 (fun H locs hH hS => ?_)
  have hP := hP.link (k := 22) (f := (fun _ => 0)) hq (by decide) (by decide) rfl (by exact va_up_self _ _ _)
  have hZ := hZ.z 22
  refine z_aload_n C dX3_init_136 hl 0 rfl ?_
  refine z_bipush C dX3_init_137 (by decide +kernel) ?_
  refine z_newa C hH hS (atype := .int) (ty := .int) 0 rfl rfl (fun U cA h => h) q271 (N := 20) (a0 := (20, .inl (fun j => iI 0))) (fun cA => by rw [vp_cell_i, c0_int]) rfl (by decide) (Nat.le_of_ble_eq_true rfl) (Nat.le_of_ble_eq_true rfl) (Nat.le_of_ble_eq_true rfl) dX3_init_139 (fun q H hq9 hz9 hH hS => ?_)
  have hq := hP.apart hq9
  have hP := hP.side hq (some (.inl (dA 0, (20, .inl (fun j => iI 0)))))
  refine z_putF C hH hS hP.1 in_X3 (T := TX3) (N := 42) tyX3_ok nmX3 rfl 23 (by decide) q2208 (fun x h => h) rfl hname rfl rfl rfl (by rw [cF_len]; decide) dX3_init_141 (fun H locs hH hS => ?_)
  have hP := hP.link (k := 23) (f := (fun _ => 0)) hq (by decide) (by decide) rfl (by exact va_up_self _ _ _)
  have hZ := hZ.z 23
  refine z_aload_n C dX3_init_144 hl 0 rfl ?_
  refine z_bipush C dX3_init_145 (by decide +kernel) ?_
  refine z_newa C hH hS (atype := .int) (ty := .int) 0 rfl rfl (fun U cA h => h) q271 (N := 20) (a0 := (20, .inl (fun j => iI 0))) (fun cA => by rw [vp_cell_i, c0_int]) rfl (by decide) (Nat.le_of_ble_eq_true rfl) (Nat.le_of_ble_eq_true rfl) (Nat.le_of_ble_eq_true rfl) dX3_init_147 (fun q H hq9 hz9 hH hS => ?_)
  have hq := hP.apart hq9
  have hP := hP.side hq (some (.inl (dA 0, (20, .inl (fun j => iI 0)))))
  refine z_putF C hH hS hP.1 in_X3 (T := TX3) (N := 42) tyX3_ok nmX3 rfl 24 (by decide) q2209 (fun x h => h) rfl hname rfl rfl rfl (by rw [cF_len]; decide) dX3_init_149 (fun H locs hH hS => ?_)
  have hP := hP.link (k := 24) (f := (fun _ => 0)) hq (by decide) (by decide) rfl (by exact va_up_self _ _ _)
  have hZ := hZ.z 24
  refine z_aload_n C dX3_init_152 hl 0 rfl ?_
  refine z_bipush C dX3_init_153 (by decide +kernel) ?_
  refine z_newa C hH hS (atype := .int) (ty := .int) 0 rfl rfl (fun U cA h => h) q271 (N := 20) (a0 := (20, .inl (fun j => iI 0))) (fun cA => by rw [vp_cell_i, c0_int]) rfl (by decide) (Nat.le_of_ble_eq_true rfl) (Nat.le_of_ble_eq_true rfl) (Nat.le_of_ble_eq_true rfl) dX3_init_155 (fun q H hq9 hz9 hH hS => ?_)
  have hq := hP.apart hq9
  have hP := hP.side hq (some (.inl (dA 0, (20, .inl (fun j => iI 0)))))
  refine z_putF C hH hS hP.1 in_X3 (T := TX3) (N := 42) tyX3_ok nmX3 rfl 25 (by decide) q2210 (fun x h => h) rfl hname rfl rfl rfl (by rw [cF_len]; decide) dX3_init_157 (fun H locs hH hS => ?_)
  have hP := hP.link (k := 25) (f := (fun _ => 0)) hq (by decide) (by decide) rfl (by exact va_up_self _ _ _)
  have hZ := hZ.z 25
  refine z_aload_n C dX3_init_160 hl 0 rfl ?_
  refine z_sipush C dX3_init_161 (by decide +kernel) ?_
  refine z_newa C hH hS (atype := .byte) (ty := .byte) 2 rfl rfl (fun U cA h => h) q272 (N := 900) (a0 := (900, .inl (fun j => iI 0))) (fun cA => by rw [vp_cell_i, c0_byte]) rfl (by decide) (Nat.le_of_ble_eq_true rfl) (Nat.le_of_ble_eq_true rfl) (Nat.le_of_ble_eq_true rfl) dX3_init_164 (fun q H hq9 hz9 hH hS => ?_)
  have hq := hP.apart hq9
  have hP := hP.side hq (some (.inl (dA 2, (900, .inl (fun j => iI 0)))))
  refine z_putF C hH hS hP.1 in_X3 (T := TX3) (N := 42) tyX3_ok nmX3 rfl 31 (by decide) q2216 (fun x h => h) rfl hname rfl rfl rfl (by rw [cF_len]; decide) dX3_init_166 (fun H locs hH hS => ?_)
  have hP := hP.link (k := 31) (f := (fun _ => 0)) hq (by decide) (by decide) rfl (by exact va_up_self _ _ _)
  have hZ := hZ.z 31
  refine z_aload_n C dX3_init_169 hl 0 rfl ?_
  refine z_iconst C dX3_init_170 ?_
  refine z_put C hH hS hP.1 in_X3 (T := TX3) (N := 42) tyX3_ok nmX3 rfl 38 (by decide) q2223 (fun x h => h) rfl rfl rfl (by rw [cF_len]; decide) dX3_init_171 (fun H locs hH hS => ?_)
  have hP := hP.num (k := 38) rfl (-1)
  have hZ := hZ.n (-1)
  refine z_aload_n C dX3_init_174 hl 0 rfl ?_
  refine z_bipush C dX3_init_175 (by decide +kernel) ?_
  refine z_newa C hH hS (atype := .byte) (ty := .byte) 2 rfl rfl (fun U cA h => h) q272 (N := 37) (a0 := (37, .inl (fun j => iI 0))) (fun cA => by rw [vp_cell_i, c0_byte]) rfl (by decide) (Nat.le_of_ble_eq_true rfl) (Nat.le_of_ble_eq_true rfl) (Nat.le_of_ble_eq_true rfl) dX3_init_177 (fun q H hq9 hz9 hH hS => ?_)
  have hq := hP.apart hq9
  have hP := hP.side hq (some (.inl (dA 2, (37, .inl (fun j => iI 0)))))
  refine z_dup C dX3_init_179 rfl ?_
  refine z_iconst C dX3_init_180 ?_
  refine z_bipush C dX3_init_181 (by decide +kernel) ?_
  refine z_bast C hH hS (a := q) (n := 37) (f := (fun _ => 0)) (by exact va_up_self _ _ _) ⟨by decide, by decide⟩ (by decide) ⟨by decide, by decide⟩ dX3_init_183 (fun H locs hH hS => ?_)
  have hP := hP.side hq (some (aI (dA 2) 37 (uZ (fun _ => 0) 0 108)))
  refine z_dup C dX3_init_184 rfl ?_
  refine z_iconst C dX3_init_185 ?_
  refine z_bipush C dX3_init_186 (by decide +kernel) ?_
  refine z_bast C hH hS (a := q) (n := 37) (f := (uZ (fun _ => 0) 0 108)) (by exact va_up_self _ _ _) ⟨by decide, by decide⟩ (by decide) ⟨by decide, by decide⟩ dX3_init_188 (fun H locs hH hS => ?_)
  have hP := hP.side hq (some (aI (dA 2) 37 (uZ (uZ (fun _ => 0) 0 108) 1 105)))
  refine z_dup C dX3_init_189 rfl ?_
  refine z_iconst C dX3_init_190 ?_
  refine z_bipush C dX3_init_191 (by decide +kernel) ?_
  refine z_bast C hH hS (a := q) (n := 37) (f := (uZ (uZ (fun _ => 0) 0 108) 1 105)) (by exact va_up_self _ _ _) ⟨by decide, by decide⟩ (by decide) ⟨by decide, by decide⟩ dX3_init_193 (fun H locs hH hS => ?_)
  have hP := hP.side hq (some (aI (dA 2) 37 (uZ (uZ (uZ (fun _ => 0) 0 108) 1 105) 2 110)))
  refine z_dup C dX3_init_194 rfl ?_
  refine z_iconst C dX3_init_195 ?_
  refine z_bipush C dX3_init_196 (by decide +kernel) ?_
  refine z_bast C hH hS (a := q) (n := 37) (f := (uZ (uZ (uZ (fun _ => 0) 0 108) 1 105) 2 110)) (by exact va_up_self _ _ _) ⟨by decide, by decide⟩ (by decide) ⟨by decide, by decide⟩ dX3_init_198 (fun H locs hH hS => ?_)
  have hP := hP.side hq (some (aI (dA 2) 37 (uZ (uZ (uZ (uZ (fun _ => 0) 0 108) 1 105) 2 110) 3 101)))
  refine z_dup C dX3_init_199 rfl ?_
  refine z_iconst C dX3_init_200 ?_
  refine z_bipush C dX3_init_201 (by decide +kernel) ?_
  refine z_bast C hH hS (a := q) (n := 37) (f := (uZ (uZ (uZ (uZ (fun _ => 0) 0 108) 1 105) 2 110) 3 101)) (by exact va_up_self _ _ _) ⟨by decide, by decide⟩ (by decide) ⟨by decide, by decide⟩ dX3_init_203 (fun H locs hH hS => ?_)
  have hP := hP.side hq (some (aI (dA 2) 37 (uZ (uZ (uZ (uZ (uZ (fun _ => 0) 0 108) 1 105) 2 110) 3 101) 4 32)))
  refine z_dup C dX3_init_204 rfl ?_
  refine z_iconst C dX3_init_205 ?_
  refine z_bipush C dX3_init_206 (by decide +kernel) ?_
  refine z_bast C hH hS (a := q) (n := 37) (f := (uZ (uZ (uZ (uZ (uZ (fun _ => 0) 0 108) 1 105) 2 110) 3 101) 4 32)) (by exact va_up_self _ _ _) ⟨by decide, by decide⟩ (by decide) ⟨by decide, by decide⟩ dX3_init_208 (fun H locs hH hS => ?_)
  have hP := hP.side hq (some (aI (dA 2) 37 (uZ (uZ (uZ (uZ (uZ (uZ (fun _ => 0) 0 108) 1 105) 2 110) 3 101) 4 32) 5 97)))
  refine z_dup C dX3_init_209 rfl ?_
  refine z_bipush C dX3_init_210 (by decide +kernel) ?_
  refine z_bipush C dX3_init_212 (by decide +kernel) ?_
  refine z_bast C hH hS (a := q) (n := 37) (f := (uZ (uZ (uZ (uZ (uZ (uZ (fun _ => 0) 0 108) 1 105) 2 110) 3 101) 4 32) 5 97)) (by exact va_up_self _ _ _) ⟨by decide, by decide⟩ (by decide) ⟨by decide, by decide⟩ dX3_init_214 (fun H locs hH hS => ?_)
  have hP := hP.side hq (some (aI (dA 2) 37 (uZ (uZ (uZ (uZ (uZ (uZ (uZ (fun _ => 0) 0 108) 1 105) 2 110) 3 101) 4 32) 5 97) 6 108)))
  refine z_dup C dX3_init_215 rfl ?_
  refine z_bipush C dX3_init_216 (by decide +kernel) ?_
  refine z_bipush C dX3_init_218 (by decide +kernel) ?_
  refine z_bast C hH hS (a := q) (n := 37) (f := (uZ (uZ (uZ (uZ (uZ (uZ (uZ (fun _ => 0) 0 108) 1 105) 2 110) 3 101) 4 32) 5 97) 6 108)) (by exact va_up_self _ _ _) ⟨by decide, by decide⟩ (by decide) ⟨by decide, by decide⟩ dX3_init_220 (fun H locs hH hS => ?_)
  have hP := hP.side hq (some (aI (dA 2) 37 (uZ (uZ (uZ (uZ (uZ (uZ (uZ (uZ (fun _ => 0) 0 108) 1 105) 2 110) 3 101) 4 32) 5 97) 6 108) 7 111)))
  refine z_dup C dX3_init_221 rfl ?_
  refine z_bipush C dX3_init_222 (by decide +kernel) ?_
  refine z_bipush C dX3_init_224 (by decide +kernel) ?_
  refine z_bast C hH hS (a := q) (n := 37) (f := (uZ (uZ (uZ (uZ (uZ (uZ (uZ (uZ (fun _ => 0) 0 108) 1 105) 2 110) 3 101) 4 32) 5 97) 6 108) 7 111)) (by exact va_up_self _ _ _) ⟨by decide, by decide⟩ (by decide) ⟨by decide, by decide⟩ dX3_init_226 (fun H locs hH hS => ?_)
  have hP := hP.side hq (some (aI (dA 2) 37 (uZ (uZ (uZ (uZ (uZ (uZ (uZ (uZ (uZ (fun _ => 0) 0 108) 1 105) 2 110) 3 101) 4 32) 5 97) 6 108) 7 111) 8 110)))
  refine z_dup C dX3_init_227 rfl ?_
  refine z_bipush C dX3_init_228 (by decide +kernel) ?_
  refine z_bipush C dX3_init_230 (by decide +kernel) ?_
  refine z_bast C hH hS (a := q) (n := 37) (f := (uZ (uZ (uZ (uZ (uZ (uZ (uZ (uZ (uZ (fun _ => 0) 0 108) 1 105) 2 110) 3 101) 4 32) 5 97) 6 108) 7 111) 8 110)) (by exact va_up_self _ _ _) ⟨by decide, by decide⟩ (by decide) ⟨by decide, by decide⟩ dX3_init_232 (fun H locs hH hS => ?_)
  have hP := hP.side hq (some (aI (dA 2) 37 (uZ (uZ (uZ (uZ (uZ (uZ (uZ (uZ (uZ (uZ (fun _ => 0) 0 108) 1 105) 2 110) 3 101) 4 32) 5 97) 6 108) 7 111) 8 110) 9 101)))
  refine z_dup C dX3_init_233 rfl ?_
  refine z_bipush C dX3_init_234 (by decide +kernel) ?_
  refine z_bipush C dX3_init_236 (by decide +kernel) ?_
  refine z_bast C hH hS (a := q) (n := 37) (f := (uZ (uZ (uZ (uZ (uZ (uZ (uZ (uZ (uZ (uZ (fun _ => 0) 0 108) 1 105) 2 110) 3 101) 4 32) 5 97) 6 108) 7 111) 8 110) 9 101)) (by exact va_up_self _ _ _) ⟨by decide, by decide⟩ (by decide) ⟨by decide, by decide⟩ dX3_init_238 (fun H locs hH hS => ?_)
  have hP := hP.side hq (some (aI (dA 2) 37 (uZ (uZ (uZ (uZ (uZ (uZ (uZ (uZ (uZ (uZ (uZ (fun _ => 0) 0 108) 1 105) 2 110) 3 101) 4 32) 5 97) 6 108) 7 111) 8 110) 9 101) 10 32)))
  refine z_dup C dX3_init_239 rfl ?_
  refine z_bipush C dX3_init_240 (by decide +kernel) ?_
  refine z_bipush C dX3_init_242 (by decide +kernel) ?_
  refine z_bast C hH hS (a := q) (n := 37) (f := (uZ (uZ (uZ (uZ (uZ (uZ (uZ (uZ (uZ (uZ (uZ (fun _ => 0) 0 108) 1 105) 2 110) 3 101) 4 32) 5 97) 6 108) 7 111) 8 110) 9 101) 10 32)) (by exact va_up_self _ _ _) ⟨by decide, by decide⟩ (by decide) ⟨by decide, by decide⟩ dX3_init_244 (fun H locs hH hS => ?_)
  have hP := hP.side hq (some (aI (dA 2) 37 (uZ (uZ (uZ (uZ (uZ (uZ (uZ (uZ (uZ (uZ (uZ (uZ (fun _ => 0) 0 108) 1 105) 2 110) 3 101) 4 32) 5 97) 6 108) 7 111) 8 110) 9 101) 10 32) 11 97)))
  refine z_dup C dX3_init_245 rfl ?_
  refine z_bipush C dX3_init_246 (by decide +kernel) ?_
  refine z_bipush C dX3_init_248 (by decide +kernel) ?_
  refine z_bast C hH hS (a := q) (n := 37) (f := (uZ (uZ (uZ (uZ (uZ (uZ (uZ (uZ (uZ (uZ (uZ (uZ (fun _ => 0) 0 108) 1 105) 2 110) 3 101) 4 32) 5 97) 6 108) 7 111) 8 110) 9 101) 10 32) 11 97)) (by exact va_up_self _ _ _) ⟨by decide, by decide⟩ (by decide) ⟨by decide, by decide⟩ dX3_init_250 (fun H locs hH hS => ?_)
  have hP := hP.side hq (some (aI (dA 2) 37 (uZ (uZ (uZ (uZ (uZ (uZ (uZ (uZ (uZ (uZ (uZ (uZ (uZ (fun _ => 0) 0 108) 1 105) 2 110) 3 101) 4 32) 5 97) 6 108) 7 111) 8 110) 9 101) 10 32) 11 97) 12 98)))
  refine z_dup C dX3_init_251 rfl ?_
  refine z_bipush C dX3_init_252 (by decide +kernel) ?_
  refine z_bipush C dX3_init_254 (by decide +kernel) ?_
  refine z_bast C hH hS (a := q) (n := 37) (f := (uZ (uZ (uZ (uZ (uZ (uZ (uZ (uZ (uZ (uZ (uZ (uZ (uZ (fun _ => 0) 0 108) 1 105) 2 110) 3 101) 4 32) 5 97) 6 108) 7 111) 8 110) 9 101) 10 32) 11 97) 12 98)) (by exact va_up_self _ _ _) ⟨by decide, by decide⟩ (by decide) ⟨by decide, by decide⟩ dX3_init_256 (fun H locs hH hS => ?_)
  have hP := hP.side hq (some (aI (dA 2) 37 (uZ (uZ (uZ (uZ (uZ (uZ (uZ (uZ (uZ (uZ (uZ (uZ (uZ (uZ (fun _ => 0) 0 108) 1 105) 2 110) 3 101) 4 32) 5 97) 6 108) 7 111) 8 110) 9 101) 10 32) 11 97) 12 98) 13 111)))
  refine z_dup C dX3_init_257 rfl ?_
  refine z_bipush C dX3_init_258 (by decide +kernel) ?_
  refine z_bipush C dX3_init_260 (by decide +kernel) ?_
  refine z_bast C hH hS (a := q) (n := 37) (f := (uZ (uZ (uZ (uZ (uZ (uZ (uZ (uZ (uZ (uZ (uZ (uZ (uZ (uZ (fun _ => 0) 0 108) 1 105) 2 110) 3 101) 4 32) 5 97) 6 108) 7 111) 8 110) 9 101) 10 32) 11 97) 12 98) 13 111)) (by exact va_up_self _ _ _) ⟨by decide, by decide⟩ (by decide) ⟨by decide, by decide⟩ dX3_init_262 (fun H locs hH hS => ?_)
  have hP := hP.side hq (some (aI (dA 2) 37 (uZ (uZ (uZ (uZ (uZ (uZ (uZ (uZ (uZ (uZ (uZ (uZ (uZ (uZ (uZ (fun _ => 0) 0 108) 1 105) 2 110) 3 101) 4 32) 5 97) 6 108) 7 111) 8 110) 9 101) 10 32) 11 97) 12 98) 13 111) 14 118)))
  refine z_dup C dX3_init_263 rfl ?_
  refine z_bipush C dX3_init_264 (by decide +kernel) ?_
  refine z_bipush C dX3_init_266 (by decide +kernel) ?_
  refine z_bast C hH hS (a := q) (n := 37) (f := (uZ (uZ (uZ (uZ (uZ (uZ (uZ (uZ (uZ (uZ (uZ (uZ (uZ (uZ (uZ (fun _ => 0) 0 108) 1 105) 2 110) 3 101) 4 32) 5 97) 6 108) 7 111) 8 110) 9 101) 10 32) 11 97) 12 98) 13 111) 14 118)) (by exact va_up_self _ _ _) ⟨by decide, by decide⟩ (by decide) ⟨by decide, by decide⟩ dX3_init_268 (fun H locs hH hS => ?_)
  have hP := hP.side hq (some (aI (dA 2) 37 (uZ (uZ (uZ (uZ (uZ (uZ (uZ (uZ (uZ (uZ (uZ (uZ (uZ (uZ (uZ (uZ (fun _ => 0) 0 108) 1 105) 2 110) 3 101) 4 32) 5 97) 6 108) 7 111) 8 110) 9 101) 10 32) 11 97) 12 98) 13 111) 14 118) 15 101)))
  refine z_dup C dX3_init_269 rfl ?_
  refine z_bipush C dX3_init_270 (by decide +kernel) ?_
  refine z_bipush C dX3_init_272 (by decide +kernel) ?_
  refine z_bast C hH hS (a := q) (n := 37) (f := (uZ (uZ (uZ (uZ (uZ (uZ (uZ (uZ (uZ (uZ (uZ (uZ (uZ (uZ (uZ (uZ (fun _ => 0) 0 108) 1 105) 2 110) 3 101) 4 32) 5 97) 6 108) 7 111) 8 110) 9 101) 10 32) 11 97) 12 98) 13 111) 14 118) 15 101)) (by exact va_up_self _ _ _) ⟨by decide, by decide⟩ (by decide) ⟨by decide, by decide⟩ dX3_init_274 (fun H locs hH hS => ?_)
  have hP := hP.side hq (some (aI (dA 2) 37 (uZ (uZ (uZ (uZ (uZ (uZ (uZ (uZ (uZ (uZ (uZ (uZ (uZ (uZ (uZ (uZ (uZ (fun _ => 0) 0 108) 1 105) 2 110) 3 101) 4 32) 5 97) 6 108) 7 111) 8 110) 9 101) 10 32) 11 97) 12 98) 13 111) 14 118) 15 101) 16 32)))
  refine z_dup C dX3_init_275 rfl ?_
  refine z_bipush C dX3_init_276 (by decide +kernel) ?_
  refine z_bipush C dX3_init_278 (by decide +kernel) ?_
  refine z_bast C hH hS (a := q) (n := 37) (f := (uZ (uZ (uZ (uZ (uZ (uZ (uZ (uZ (uZ (uZ (uZ (uZ (uZ (uZ (uZ (uZ (uZ (fun _ => 0) 0 108) 1 105) 2 110) 3 101) 4 32) 5 97) 6 108) 7 111) 8 110) 9 101) 10 32) 11 97) 12 98) 13 111) 14 118) 15 101) 16 32)) (by exact va_up_self _ _ _) ⟨by decide, by decide⟩ (by decide) ⟨by decide, by decide⟩ dX3_init_280 (fun H locs hH hS => ?_)
  have hP := hP.side hq (some (aI (dA 2) 37 (uZ (uZ (uZ (uZ (uZ (uZ (uZ (uZ (uZ (uZ (uZ (uZ (uZ (uZ (uZ (uZ (uZ (uZ (fun _ => 0) 0 108) 1 105) 2 110) 3 101) 4 32) 5 97) 6 108) 7 111) 8 110) 9 101) 10 32) 11 97) 12 98) 13 111) 14 118) 15 101) 16 32) 17 115)))
  refine z_dup C dX3_init_281 rfl ?_
  refine z_bipush C dX3_init_282 (by decide +kernel) ?_
  refine z_bipush C dX3_init_284 (by decide +kernel) ?_
  refine z_bast C hH hS (a := q) (n := 37) (f := (uZ (uZ (uZ (uZ (uZ (uZ (uZ (uZ (uZ (uZ (uZ (uZ (uZ (uZ (uZ (uZ (uZ (uZ (fun _ => 0) 0 108) 1 105) 2 110) 3 101) 4 32) 5 97) 6 108) 7 111) 8 110) 9 101) 10 32) 11 97) 12 98) 13 111) 14 118) 15 101) 16 32) 17 115)) (by exact va_up_self _ _ _) ⟨by decide, by decide⟩ (by decide) ⟨by decide, by decide⟩ dX3_init_286 (fun H locs hH hS => ?_)
  have hP := hP.side hq (some (aI (dA 2) 37 (uZ (uZ (uZ (uZ (uZ (uZ (uZ (uZ (uZ (uZ (uZ (uZ (uZ (uZ (uZ (uZ (uZ (uZ (uZ (fun _ => 0) 0 108) 1 105) 2 110) 3 101) 4 32) 5 97) 6 108) 7 111) 8 110) 9 101) 10 32) 11 97) 12 98) 13 111) 14 118) 15 101) 16 32) 17 115) 18 101)))
  refine z_dup C dX3_init_287 rfl ?_
  refine z_bipush C dX3_init_288 (by decide +kernel) ?_
  refine z_bipush C dX3_init_290 (by decide +kernel) ?_
  refine z_bast C hH hS (a := q) (n := 37) (f := (uZ (uZ (uZ (uZ (uZ (uZ (uZ (uZ (uZ (uZ (uZ (uZ (uZ (uZ (uZ (uZ (uZ (uZ (uZ (fun _ => 0) 0 108) 1 105) 2 110) 3 101) 4 32) 5 97) 6 108) 7 111) 8 110) 9 101) 10 32) 11 97) 12 98) 13 111) 14 118) 15 101) 16 32) 17 115) 18 101)) (by exact va_up_self _ _ _) ⟨by decide, by decide⟩ (by decide) ⟨by decide, by decide⟩ dX3_init_292 (fun H locs hH hS => ?_)
  have hP := hP.side hq (some (aI (dA 2) 37 (uZ (uZ (uZ (uZ (uZ (uZ (uZ (uZ (uZ (uZ (uZ (uZ (uZ (uZ (uZ (uZ (uZ (uZ (uZ (uZ (fun _ => 0) 0 108) 1 105) 2 110) 3 101) 4 32) 5 97) 6 108) 7 111) 8 110) 9 101) 10 32) 11 97) 12 98) 13 111) 14 118) 15 101) 16 32) 17 115) 18 101) 19 116)))
  refine z_dup C dX3_init_293 rfl ?_
  refine z_bipush C dX3_init_294 (by decide +kernel) ?_
  refine z_bipush C dX3_init_296 (by decide +kernel) ?_
  refine z_bast C hH hS (a := q) (n := 37) (f := (uZ (uZ (uZ (uZ (uZ (uZ (uZ (uZ (uZ (uZ (uZ (uZ (uZ (uZ (uZ (uZ (uZ (uZ (uZ (uZ (fun _ => 0) 0 108) 1 105) 2 110) 3 101) 4 32) 5 97) 6 108) 7 111) 8 110) 9 101) 10 32) 11 97) 12 98) 13 111) 14 118) 15 101) 16 32) 17 115) 18 101) 19 116)) (by exact va_up_self _ _ _) ⟨by decide, by decide⟩ (by decide) ⟨by decide, by decide⟩ dX3_init_298 (fun H locs hH hS => ?_)
  have hP := hP.side hq (some (aI (dA 2) 37 (uZ (uZ (uZ (uZ (uZ (uZ (uZ (uZ (uZ (uZ (uZ (uZ (uZ (uZ (uZ (uZ (uZ (uZ (uZ (uZ (uZ (fun _ => 0) 0 108) 1 105) 2 110) 3 101) 4 32) 5 97) 6 108) 7 111) 8 110) 9 101) 10 32) 11 97) 12 98) 13 111) 14 118) 15 101) 16 32) 17 115) 18 101) 19 116) 20 32)))
  refine z_dup C dX3_init_299 rfl ?_
  refine z_bipush C dX3_init_300 (by decide +kernel) ?_
  refine z_bipush C dX3_init_302 (by decide +kernel) ?_
  refine z_bast C hH hS (a := q) (n := 37) (f := (uZ (uZ (uZ (uZ (uZ (uZ (uZ (uZ (uZ (uZ (uZ (uZ (uZ (uZ (uZ (uZ (uZ (uZ (uZ (uZ (uZ (fun _ => 0) 0 108) 1 105) 2 110) 3 101) 4 32) 5 97) 6 108) 7 111) 8 110) 9 101) 10 32) 11 97) 12 98) 13 111) 14 118) 15 101) 16 32) 17 115) 18 101) 19 116) 20 32)) (by exact va_up_self _ _ _) ⟨by decide, by decide⟩ (by decide) ⟨by decide, by decide⟩ dX3_init_304 (fun H locs hH hS => ?_)
  have hP := hP.side hq (some (aI (dA 2) 37 (uZ (uZ (uZ (uZ (uZ (uZ (uZ (uZ (uZ (uZ (uZ (uZ (uZ (uZ (uZ (uZ (uZ (uZ (uZ (uZ (uZ (uZ (fun _ => 0) 0 108) 1 105) 2 110) 3 101) 4 32) 5 97) 6 108) 7 111) 8 110) 9 101) 10 32) 11 97) 12 98) 13 111) 14 118) 15 101) 16 32) 17 115) 18 101) 19 116) 20 32) 21 108)))
  refine z_dup C dX3_init_305 rfl ?_
  refine z_bipush C dX3_init_306 (by decide +kernel) ?_
  refine z_bipush C dX3_init_308 (by decide +kernel) ?_
  refine z_bast C hH hS (a := q) (n := 37) (f := (uZ (uZ (uZ (uZ (uZ (uZ (uZ (uZ (uZ (uZ (uZ (uZ (uZ (uZ (uZ (uZ (uZ (uZ (uZ (uZ (uZ (uZ (fun _ => 0) 0 108) 1 105) 2 110) 3 101) 4 32) 5 97) 6 108) 7 111) 8 110) 9 101) 10 32) 11 97) 12 98) 13 111) 14 118) 15 101) 16 32) 17 115) 18 101) 19 116) 20 32) 21 108)) (by exact va_up_self _ _ _) ⟨by decide, by decide⟩ (by decide) ⟨by decide, by decide⟩ dX3_init_310 (fun H locs hH hS => ?_)
  have hP := hP.side hq (some (aI (dA 2) 37 (uZ (uZ (uZ (uZ (uZ (uZ (uZ (uZ (uZ (uZ (uZ (uZ (uZ (uZ (uZ (uZ (uZ (uZ (uZ (uZ (uZ (uZ (uZ (fun _ => 0) 0 108) 1 105) 2 110) 3 101) 4 32) 5 97) 6 108) 7 111) 8 110) 9 101) 10 32) 11 97) 12 98) 13 111) 14 118) 15 101) 16 32) 17 115) 18 101) 19 116) 20 32) 21 108) 22 111)))
  refine z_dup C dX3_init_311 rfl ?_
  refine z_bipush C dX3_init_312 (by decide +kernel) ?_
  refine z_bipush C dX3_init_314 (by decide +kernel) ?_
  refine z_bast C hH hS (a := q) (n := 37) (f := (uZ (uZ (uZ (uZ (uZ (uZ (uZ (uZ (uZ (uZ (uZ (uZ (uZ (uZ (uZ (uZ (uZ (uZ (uZ (uZ (uZ (uZ (uZ (fun _ => 0) 0 108) 1 105) 2 110) 3 101) 4 32) 5 97) 6 108) 7 111) 8 110) 9 101) 10 32) 11 97) 12 98) 13 111) 14 118) 15 101) 16 32) 17 115) 18 101) 19 116) 20 32) 21 108) 22 111)) (by exact va_up_self _ _ _) ⟨by decide, by decide⟩ (by decide) ⟨by decide, by decide⟩ dX3_init_316 (fun H locs hH hS => ?_)
  have hP := hP.side hq (some (aI (dA 2) 37 (uZ (uZ (uZ (uZ (uZ (uZ (uZ (uZ (uZ (uZ (uZ (uZ (uZ (uZ (uZ (uZ (uZ (uZ (uZ (uZ (uZ (uZ (uZ (uZ (fun _ => 0) 0 108) 1 105) 2 110) 3 101) 4 32) 5 97) 6 108) 7 111) 8 110) 9 101) 10 32) 11 97) 12 98) 13 111) 14 118) 15 101) 16 32) 17 115) 18 101) 19 116) 20 32) 21 108) 22 111) 23 115)))
  refine z_dup C dX3_init_317 rfl ?_
  refine z_bipush C dX3_init_318 (by decide +kernel) ?_
  refine z_bipush C dX3_init_320 (by decide +kernel) ?_
  refine z_bast C hH hS (a := q) (n := 37) (f := (uZ (uZ (uZ (uZ (uZ (uZ (uZ (uZ (uZ (uZ (uZ (uZ (uZ (uZ (uZ (uZ (uZ (uZ (uZ (uZ (uZ (uZ (uZ (uZ (fun _ => 0) 0 108) 1 105) 2 110) 3 101) 4 32) 5 97) 6 108) 7 111) 8 110) 9 101) 10 32) 11 97) 12 98) 13 111) 14 118) 15 101) 16 32) 17 115) 18 101) 19 116) 20 32) 21 108) 22 111) 23 115)) (by exact va_up_self _ _ _) ⟨by decide, by decide⟩ (by decide) ⟨by decide, by decide⟩ dX3_init_322 (fun H locs hH hS => ?_)
  have hP := hP.side hq (some (aI (dA 2) 37 (uZ (uZ (uZ (uZ (uZ (uZ (uZ (uZ (uZ (uZ (uZ (uZ (uZ (uZ (uZ (uZ (uZ (uZ (uZ (uZ (uZ (uZ (uZ (uZ (uZ (fun _ => 0) 0 108) 1 105) 2 110) 3 101) 4 32) 5 97) 6 108) 7 111) 8 110) 9 101) 10 32) 11 97) 12 98) 13 111) 14 118) 15 101) 16 32) 17 115) 18 101) 19 116) 20 32) 21 108) 22 111) 23 115) 24 115)))
  refine z_dup C dX3_init_323 rfl ?_
  refine z_bipush C dX3_init_324 (by decide +kernel) ?_
  refine z_bipush C dX3_init_326 (by decide +kernel) ?_
  refine z_bast C hH hS (a := q) (n := 37) (f := (uZ (uZ (uZ (uZ (uZ (uZ (uZ (uZ (uZ (uZ (uZ (uZ (uZ (uZ (uZ (uZ (uZ (uZ (uZ (uZ (uZ (uZ (uZ (uZ (uZ (fun _ => 0) 0 108) 1 105) 2 110) 3 101) 4 32) 5 97) 6 108) 7 111) 8 110) 9 101) 10 32) 11 97) 12 98) 13 111) 14 118) 15 101) 16 32) 17 115) 18 101) 19 116) 20 32) 21 108) 22 111) 23 115) 24 115)) (by exact va_up_self _ _ _) ⟨by decide, by decide⟩ (by decide) ⟨by decide, by decide⟩ dX3_init_328 (fun H locs hH hS => ?_)
  have hP := hP.side hq (some (aI (dA 2) 37 (uZ (uZ (uZ (uZ (uZ (uZ (uZ (uZ (uZ (uZ (uZ (uZ (uZ (uZ (uZ (uZ (uZ (uZ (uZ (uZ (uZ (uZ (uZ (uZ (uZ (uZ (fun _ => 0) 0 108) 1 105) 2 110) 3 101) 4 32) 5 97) 6 108) 7 111) 8 110) 9 101) 10 32) 11 97) 12 98) 13 111) 14 118) 15 101) 16 32) 17 115) 18 101) 19 116) 20 32) 21 108) 22 111) 23 115) 24 115) 25 32)))
  refine z_dup C dX3_init_329 rfl ?_
  refine z_bipush C dX3_init_330 (by decide +kernel) ?_
  refine z_bipush C dX3_init_332 (by decide +kernel) ?_
  refine z_bast C hH hS (a := q) (n := 37) (f := (uZ (uZ (uZ (uZ (uZ (uZ (uZ (uZ (uZ (uZ (uZ (uZ (uZ (uZ (uZ (uZ (uZ (uZ (uZ (uZ (uZ (uZ (uZ (uZ (uZ (uZ (fun _ => 0) 0 108) 1 105) 2 110) 3 101) 4 32) 5 97) 6 108) 7 111) 8 110) 9 101) 10 32) 11 97) 12 98) 13 111) 14 118) 15 101) 16 32) 17 115) 18 101) 19 116) 20 32) 21 108) 22 111) 23 115) 24 115) 25 32)) (by exact va_up_self _ _ _) ⟨by decide, by decide⟩ (by decide) ⟨by decide, by decide⟩ dX3_init_334 (fun H locs hH hS => ?_)
  have hP := hP.side hq (some (aI (dA 2) 37 (uZ (uZ (uZ (uZ (uZ (uZ (uZ (uZ (uZ (uZ (uZ (uZ (uZ (uZ (uZ (uZ (uZ (uZ (uZ (uZ (uZ (uZ (uZ (uZ (uZ (uZ (uZ (fun _ => 0) 0 108) 1 105) 2 110) 3 101) 4 32) 5 97) 6 108) 7 111) 8 110) 9 101) 10 32) 11 97) 12 98) 13 111) 14 118) 15 101) 16 32) 17 115) 18 101) 19 116) 20 32) 21 108) 22 111) 23 115) 24 115) 25 32) 26 119)))
  refine z_dup C dX3_init_335 rfl ?_
  refine z_bipush C dX3_init_336 (by decide +kernel) ?_
  refine z_bipush C dX3_init_338 (by decide +kernel) ?_
  refine z_bast C hH hS (a := q) (n := 37) (f := (uZ (uZ (uZ (uZ (uZ (uZ (uZ (uZ (uZ (uZ (uZ (uZ (uZ (uZ (uZ (uZ (uZ (uZ (uZ (uZ (uZ (uZ (uZ (uZ (uZ (uZ (uZ (fun _ => 0) 0 108) 1 105) 2 110) 3 101) 4 32) 5 97) 6 108) 7 111) 8 110) 9 101) 10 32) 11 97) 12 98) 13 111) 14 118) 15 101) 16 32) 17 115) 18 101) 19 116) 20 32) 21 108) 22 111) 23 115) 24 115) 25 32) 26 119)) (by exact va_up_self _ _ _) ⟨by decide, by decide⟩ (by decide) ⟨by decide, by decide⟩ dX3_init_340 (fun H locs hH hS => ?_)
  have hP := hP.side hq (some (aI (dA 2) 37 (uZ (uZ (uZ (uZ (uZ (uZ (uZ (uZ (uZ (uZ (uZ (uZ (uZ (uZ (uZ (uZ (uZ (uZ (uZ (uZ (uZ (uZ (uZ (uZ (uZ (uZ (uZ (uZ (fun _ => 0) 0 108) 1 105) 2 110) 3 101) 4 32) 5 97) 6 108) 7 111) 8 110) 9 101) 10 32) 11 97) 12 98) 13 111) 14 118) 15 101) 16 32) 17 115) 18 101) 19 116) 20 32) 21 108) 22 111) 23 115) 24 115) 25 32) 26 119) 27 105)))
  refine z_dup C dX3_init_341 rfl ?_
  refine z_bipush C dX3_init_342 (by decide +kernel) ?_
  refine z_bipush C dX3_init_344 (by decide +kernel) ?_
  refine z_bast C hH hS (a := q) (n := 37) (f := (uZ (uZ (uZ (uZ (uZ (uZ (uZ (uZ (uZ (uZ (uZ (uZ (uZ (uZ (uZ (uZ (uZ (uZ (uZ (uZ (uZ (uZ (uZ (uZ (uZ (uZ (uZ (uZ (fun _ => 0) 0 108) 1 105) 2 110) 3 101) 4 32) 5 97) 6 108) 7 111) 8 110) 9 101) 10 32) 11 97) 12 98) 13 111) 14 118) 15 101) 16 32) 17 115) 18 101) 19 116) 20 32) 21 108) 22 111) 23 115) 24 115) 25 32) 26 119) 27 105)) (by exact va_up_self _ _ _) ⟨by decide, by decide⟩ (by decide) ⟨by decide, by decide⟩ dX3_init_346 (fun H locs hH hS => ?_)
  have hP := hP.side hq (some (aI (dA 2) 37 (uZ (uZ (uZ (uZ (uZ (uZ (uZ (uZ (uZ (uZ (uZ (uZ (uZ (uZ (uZ (uZ (uZ (uZ (uZ (uZ (uZ (uZ (uZ (uZ (uZ (uZ (uZ (uZ (uZ (fun _ => 0) 0 108) 1 105) 2 110) 3 101) 4 32) 5 97) 6 108) 7 111) 8 110) 9 101) 10 32) 11 97) 12 98) 13 111) 14 118) 15 101) 16 32) 17 115) 18 101) 19 116) 20 32) 21 108) 22 111) 23 115) 24 115) 25 32) 26 119) 27 105) 28 100)))
  refine z_dup C dX3_init_347 rfl ?_
  refine z_bipush C dX3_init_348 (by decide +kernel) ?_
  refine z_bipush C dX3_init_350 (by decide +kernel) ?_
  refine z_bast C hH hS (a := q) (n := 37) (f := (uZ (uZ (uZ (uZ (uZ (uZ (uZ (uZ (uZ (uZ (uZ (uZ (uZ (uZ (uZ (uZ (uZ (uZ (uZ (uZ (uZ (uZ (uZ (uZ (uZ (uZ (uZ (uZ (uZ (fun _ => 0) 0 108) 1 105) 2 110) 3 101) 4 32) 5 97) 6 108) 7 111) 8 110) 9 101) 10 32) 11 97) 12 98) 13 111) 14 118) 15 101) 16 32) 17 115) 18 101) 19 116) 20 32) 21 108) 22 111) 23 115) 24 115) 25 32) 26 119) 27 105) 28 100)) (by exact va_up_self _ _ _) ⟨by decide, by decide⟩ (by decide) ⟨by decide, by decide⟩ dX3_init_352 (fun H locs hH hS => ?_)
  have hP := hP.side hq (some (aI (dA 2) 37 (uZ (uZ (uZ (uZ (uZ (uZ (uZ (uZ (uZ (uZ (uZ (uZ (uZ (uZ (uZ (uZ (uZ (uZ (uZ (uZ (uZ (uZ (uZ (uZ (uZ (uZ (uZ (uZ (uZ (uZ (fun _ => 0) 0 108) 1 105) 2 110) 3 101) 4 32) 5 97) 6 108) 7 111) 8 110) 9 101) 10 32) 11 97) 12 98) 13 111) 14 118) 15 101) 16 32) 17 115) 18 101) 19 116) 20 32) 21 108) 22 111) 23 115) 24 115) 25 32) 26 119) 27 105) 28 100) 29 101)))
  refine z_dup C dX3_init_353 rfl ?_
  refine z_bipush C dX3_init_354 (by decide +kernel) ?_
  refine z_bipush C dX3_init_356 (by decide +kernel) ?_
  refine z_bast C hH hS (a := q) (n := 37) (f := (uZ (uZ (uZ (uZ (uZ (uZ (uZ (uZ (uZ (uZ (uZ (uZ (uZ (uZ (uZ (uZ (uZ (uZ (uZ (uZ (uZ (uZ (uZ (uZ (uZ (uZ (uZ (uZ (uZ (uZ (fun _ => 0) 0 108) 1 105) 2 110) 3 101) 4 32) 5 97) 6 108) 7 111) 8 110) 9 101) 10 32) 11 97) 12 98) 13 111) 14 118) 15 101) 16 32) 17 115) 18 101) 19 116) 20 32) 21 108) 22 111) 23 115) 24 115) 25 32) 26 119) 27 105) 28 100) 29 101)) (by exact va_up_self _ _ _) ⟨by decide, by decide⟩ (by decide) ⟨by decide, by decide⟩ dX3_init_358 (fun H locs hH hS => ?_)
  have hP := hP.side hq (some (aI (dA 2) 37 (uZ (uZ (uZ (uZ (uZ (uZ (uZ (uZ (uZ (uZ (uZ (uZ (uZ (uZ (uZ (uZ (uZ (uZ (uZ (uZ (uZ (uZ (uZ (uZ (uZ (uZ (uZ (uZ (uZ (uZ (uZ (fun _ => 0) 0 108) 1 105) 2 110) 3 101) 4 32) 5 97) 6 108) 7 111) 8 110) 9 101) 10 32) 11 97) 12 98) 13 111) 14 118) 15 101) 16 32) 17 115) 18 101) 19 116) 20 32) 21 108) 22 111) 23 115) 24 115) 25 32) 26 119) 27 105) 28 100) 29 101) 30 32)))
  refine z_dup C dX3_init_359 rfl ?_
  refine z_bipush C dX3_init_360 (by decide +kernel) ?_
  refine z_bipush C dX3_init_362 (by decide +kernel) ?_
  refine z_bast C hH hS (a := q) (n := 37) (f := (uZ (uZ (uZ (uZ (uZ (uZ (uZ (uZ (uZ (uZ (uZ (uZ (uZ (uZ (uZ (uZ (uZ (uZ (uZ (uZ (uZ (uZ (uZ (uZ (uZ (uZ (uZ (uZ (uZ (uZ (uZ (fun _ => 0) 0 108) 1 105) 2 110) 3 101) 4 32) 5 97) 6 108) 7 111) 8 110) 9 101) 10 32) 11 97) 12 98) 13 111) 14 118) 15 101) 16 32) 17 115) 18 101) 19 116) 20 32) 21 108) 22 111) 23 115) 24 115) 25 32) 26 119) 27 105) 28 100) 29 101) 30 32)) (by exact va_up_self _ _ _) ⟨by decide, by decide⟩ (by decide) ⟨by decide, by decide⟩ dX3_init_364 (fun H locs hH hS => ?_)
  have hP := hP.side hq (some (aI (dA 2) 37 (uZ (uZ (uZ (uZ (uZ (uZ (uZ (uZ (uZ (uZ (uZ (uZ (uZ (uZ (uZ (uZ (uZ (uZ (uZ (uZ (uZ (uZ (uZ (uZ (uZ (uZ (uZ (uZ (uZ (uZ (uZ (uZ (fun _ => 0) 0 108) 1 105) 2 110) 3 101) 4 32) 5 97) 6 108) 7 111) 8 110) 9 101) 10 32) 11 97) 12 98) 13 111) 14 118) 15 101) 16 32) 17 115) 18 101) 19 116) 20 32) 21 108) 22 111) 23 115) 24 115) 25 32) 26 119) 27 105) 28 100) 29 101) 30 32) 31 112)))
  refine z_dup C dX3_init_365 rfl ?_
  refine z_bipush C dX3_init_366 (by decide +kernel) ?_
  refine z_bipush C dX3_init_368 (by decide +kernel) ?_
  refine z_bast C hH hS (a := q) (n := 37) (f := (uZ (uZ (uZ (uZ (uZ (uZ (uZ (uZ (uZ (uZ (uZ (uZ (uZ (uZ (uZ (uZ (uZ (uZ (uZ (uZ (uZ (uZ (uZ (uZ (uZ (uZ (uZ (uZ (uZ (uZ (uZ (uZ (fun _ => 0) 0 108) 1 105) 2 110) 3 101) 4 32) 5 97) 6 108) 7 111) 8 110) 9 101) 10 32) 11 97) 12 98) 13 111) 14 118) 15 101) 16 32) 17 115) 18 101) 19 116) 20 32) 21 108) 22 111) 23 115) 24 115) 25 32) 26 119) 27 105) 28 100) 29 101) 30 32) 31 112)) (by exact va_up_self _ _ _) ⟨by decide, by decide⟩ (by decide) ⟨by decide, by decide⟩ dX3_init_370 (fun H locs hH hS => ?_)
  have hP := hP.side hq (some (aI (dA 2) 37 (uZ (uZ (uZ (uZ (uZ (uZ (uZ (uZ (uZ (uZ (uZ (uZ (uZ (uZ (uZ (uZ (uZ (uZ (uZ (uZ (uZ (uZ (uZ (uZ (uZ (uZ (uZ (uZ (uZ (uZ (uZ (uZ (uZ (fun _ => 0) 0 108) 1 105) 2 110) 3 101) 4 32) 5 97) 6 108) 7 111) 8 110) 9 101) 10 32) 11 97) 12 98) 13 111) 14 118) 15 101) 16 32) 17 115) 18 101) 19 116) 20 32) 21 108) 22 111) 23 115) 24 115) 25 32) 26 119) 27 105) 28 100) 29 101) 30 32) 31 112) 32 32)))
  refine z_dup C dX3_init_371 rfl ?_
  refine z_bipush C dX3_init_372 (by decide +kernel) ?_
  refine z_bipush C dX3_init_374 (by decide +kernel) ?_
  refine z_bast C hH hS (a := q) (n := 37) (f := (uZ (uZ (uZ (uZ (uZ (uZ (uZ (uZ (uZ (uZ (uZ (uZ (uZ (uZ (uZ (uZ (uZ (uZ (uZ (uZ (uZ (uZ (uZ (uZ (uZ (uZ (uZ (uZ (uZ (uZ (uZ (uZ (uZ (fun _ => 0) 0 108) 1 105) 2 110) 3 101) 4 32) 5 97) 6 108) 7 111) 8 110) 9 101) 10 32) 11 97) 12 98) 13 111) 14 118) 15 101) 16 32) 17 115) 18 101) 19 116) 20 32) 21 108) 22 111) 23 115) 24 115) 25 32) 26 119) 27 105) 28 100) 29 101) 30 32) 31 112) 32 32)) (by exact va_up_self _ _ _) ⟨by decide, by decide⟩ (by decide) ⟨by decide, by decide⟩ dX3_init_376 (fun H locs hH hS => ?_)
  have hP := hP.side hq (some (aI (dA 2) 37 (uZ (uZ (uZ (uZ (uZ (uZ (uZ (uZ (uZ (uZ (uZ (uZ (uZ (uZ (uZ (uZ (uZ (uZ (uZ (uZ (uZ (uZ (uZ (uZ (uZ (uZ (uZ (uZ (uZ (uZ (uZ (uZ (uZ (uZ (fun _ => 0) 0 108) 1 105) 2 110) 3 101) 4 32) 5 97) 6 108) 7 111) 8 110) 9 101) 10 32) 11 97) 12 98) 13 111) 14 118) 15 101) 16 32) 17 115) 18 101) 19 116) 20 32) 21 108) 22 111) 23 115) 24 115) 25 32) 26 119) 27 105) 28 100) 29 101) 30 32) 31 112) 32 32) 33 118)))
  refine z_dup C dX3_init_377 rfl ?_
  refine z_bipush C dX3_init_378 (by decide +kernel) ?_
  refine z_bipush C dX3_init_380 (by decide +kernel) ?_
  refine z_bast C hH hS (a := q) (n := 37) (f := (uZ (uZ (uZ (uZ (uZ (uZ (uZ (uZ (uZ (uZ (uZ (uZ (uZ (uZ (uZ (uZ (uZ (uZ (uZ (uZ (uZ (uZ (uZ (uZ (uZ (uZ (uZ (uZ (uZ (uZ (uZ (uZ (uZ (uZ (fun _ => 0) 0 108) 1 105) 2 110) 3 101) 4 32) 5 97) 6 108) 7 111) 8 110) 9 101) 10 32) 11 97) 12 98) 13 111) 14 118) 15 101) 16 32) 17 115) 18 101) 19 116) 20 32) 21 108) 22 111) 23 115) 24 115) 25 32) 26 119) 27 105) 28 100) 29 101) 30 32) 31 112) 32 32) 33 118)) (by exact va_up_self _ _ _) ⟨by decide, by decide⟩ (by decide) ⟨by decide, by decide⟩ dX3_init_382 (fun H locs hH hS => ?_)
  have hP := hP.side hq (some (aI (dA 2) 37 (uZ (uZ (uZ (uZ (uZ (uZ (uZ (uZ (uZ (uZ (uZ (uZ (uZ (uZ (uZ (uZ (uZ (uZ (uZ (uZ (uZ (uZ (uZ (uZ (uZ (uZ (uZ (uZ (uZ (uZ (uZ (uZ (uZ (uZ (uZ (fun _ => 0) 0 108) 1 105) 2 110) 3 101) 4 32) 5 97) 6 108) 7 111) 8 110) 9 101) 10 32) 11 97) 12 98) 13 111) 14 118) 15 101) 16 32) 17 115) 18 101) 19 116) 20 32) 21 108) 22 111) 23 115) 24 115) 25 32) 26 119) 27 105) 28 100) 29 101) 30 32) 31 112) 32 32) 33 118) 34 32)))
  refine z_dup C dX3_init_383 rfl ?_
  refine z_bipush C dX3_init_384 (by decide +kernel) ?_
  refine z_bipush C dX3_init_386 (by decide +kernel) ?_
  refine z_bast C hH hS (a := q) (n := 37) (f := (uZ (uZ (uZ (uZ (uZ (uZ (uZ (uZ (uZ (uZ (uZ (uZ (uZ (uZ (uZ (uZ (uZ (uZ (uZ (uZ (uZ (uZ (uZ (uZ (uZ (uZ (uZ (uZ (uZ (uZ (uZ (uZ (uZ (uZ (uZ (fun _ => 0) 0 108) 1 105) 2 110) 3 101) 4 32) 5 97) 6 108) 7 111) 8 110) 9 101) 10 32) 11 97) 12 98) 13 111) 14 118) 15 101) 16 32) 17 115) 18 101) 19 116) 20 32) 21 108) 22 111) 23 115) 24 115) 25 32) 26 119) 27 105) 28 100) 29 101) 30 32) 31 112) 32 32) 33 118) 34 32)) (by exact va_up_self _ _ _) ⟨by decide, by decide⟩ (by decide) ⟨by decide, by decide⟩ dX3_init_388 (fun H locs hH hS => ?_)
  have hP := hP.side hq (some (aI (dA 2) 37 (uZ (uZ (uZ (uZ (uZ (uZ (uZ (uZ (uZ (uZ (uZ (uZ (uZ (uZ (uZ (uZ (uZ (uZ (uZ (uZ (uZ (uZ (uZ (uZ (uZ (uZ (uZ (uZ (uZ (uZ (uZ (uZ (uZ (uZ (uZ (uZ (fun _ => 0) 0 108) 1 105) 2 110) 3 101) 4 32) 5 97) 6 108) 7 111) 8 110) 9 101) 10 32) 11 97) 12 98) 13 111) 14 118) 15 101) 16 32) 17 115) 18 101) 19 116) 20 32) 21 108) 22 111) 23 115) 24 115) 25 32) 26 119) 27 105) 28 100) 29 101) 30 32) 31 112) 32 32) 33 118) 34 32) 35 104)))
  refine z_dup C dX3_init_389 rfl ?_
  refine z_bipush C dX3_init_390 (by decide +kernel) ?_
  refine z_bipush C dX3_init_392 (by decide +kernel) ?_
  refine z_bast C hH hS (a := q) (n := 37) (f := (uZ (uZ (uZ (uZ (uZ (uZ (uZ (uZ (uZ (uZ (uZ (uZ (uZ (uZ (uZ (uZ (uZ (uZ (uZ (uZ (uZ (uZ (uZ (uZ (uZ (uZ (uZ (uZ (uZ (uZ (uZ (uZ (uZ (uZ (uZ (uZ (fun _ => 0) 0 108) 1 105) 2 110) 3 101) 4 32) 5 97) 6 108) 7 111) 8 110) 9 101) 10 32) 11 97) 12 98) 13 111) 14 118) 15 101) 16 32) 17 115) 18 101) 19 116) 20 32) 21 108) 22 111) 23 115) 24 115) 25 32) 26 119) 27 105) 28 100) 29 101) 30 32) 31 112) 32 32) 33 118) 34 32) 35 104)) (by exact va_up_self _ _ _) ⟨by decide, by decide⟩ (by decide) ⟨by decide, by decide⟩ dX3_init_394 (fun H locs hH hS => ?_)
  have hP := hP.side hq (some (aI (dA 2) 37 (uZ (uZ (uZ (uZ (uZ (uZ (uZ (uZ (uZ (uZ (uZ (uZ (uZ (uZ (uZ (uZ (uZ (uZ (uZ (uZ (uZ (uZ (uZ (uZ (uZ (uZ (uZ (uZ (uZ (uZ (uZ (uZ (uZ (uZ (uZ (uZ (uZ (fun _ => 0) 0 108) 1 105) 2 110) 3 101) 4 32) 5 97) 6 108) 7 111) 8 110) 9 101) 10 32) 11 97) 12 98) 13 111) 14 118) 15 101) 16 32) 17 115) 18 101) 19 116) 20 32) 21 108) 22 111) 23 115) 24 115) 25 32) 26 119) 27 105) 28 100) 29 101) 30 32) 31 112) 32 32) 33 118) 34 32) 35 104) 36 32)))
  refine z_putF C hH hS hP.1 in_X3 (T := TX3) (N := 42) tyX3_ok nmX3 rfl 39 (by decide) q2224 (fun x h => h) rfl hname rfl rfl rfl (by rw [cF_len]; decide) dX3_init_395 (fun H locs hH hS => ?_)
  have hP := hP.link (k := 39) (f := (uZ (uZ (uZ (uZ (uZ (uZ (uZ (uZ (uZ (uZ (uZ (uZ (uZ (uZ (uZ (uZ (uZ (uZ (uZ (uZ (uZ (uZ (uZ (uZ (uZ (uZ (uZ (uZ (uZ (uZ (uZ (uZ (uZ (uZ (uZ (uZ (uZ (fun _ => 0) 0 108) 1 105) 2 110) 3 101) 4 32) 5 97) 6 108) 7 111) 8 110) 9 101) 10 32) 11 97) 12 98) 13 111) 14 118) 15 101) 16 32) 17 115) 18 101) 19 116) 20 32) 21 108) 22 111) 23 115) 24 115) 25 32) 26 119) 27 105) 28 100) 29 101) 30 32) 31 112) 32 32) 33 118) 34 32) 35 104) 36 32)) hq (by decide) (by decide) rfl (by exact va_up_self _ _ _)
  have hZ := hZ.w (uZ (uZ (uZ (uZ (uZ (uZ (uZ (uZ (uZ (uZ (uZ (uZ (uZ (uZ (uZ (uZ (uZ (uZ (uZ (uZ (uZ (uZ (uZ (uZ (uZ (uZ (uZ (uZ (uZ (uZ (uZ (uZ (uZ (uZ (uZ (uZ (uZ (fun _ => 0) 0 108) 1 105) 2 110) 3 101) 4 32) 5 97) 6 108) 7 111) 8 110) 9 101) 10 32) 11 97) 12 98) 13 111) 14 118) 15 101) 16 32) 17 115) 18 101) 19 116) 20 32) 21 108) 22 111) 23 115) 24 115) 25 32) 26 119) 27 105) 28 100) 29 101) 30 32) 31 112) 32 32) 33 118) 34 32) 35 104) 36 32)
  refine z_aload_n C dX3_init_398 hl 0 rfl ?_
  refine z_sipush C dX3_init_399 (by decide +kernel) ?_
  refine z_newa C hH hS (atype := .byte) (ty := .byte) 2 rfl rfl (fun U cA h => h) q272 (N := 600) (a0 := (600, .inl (fun j => iI 0))) (fun cA => by rw [vp_cell_i, c0_byte]) rfl (by decide) (Nat.le_of_ble_eq_true rfl) (Nat.le_of_ble_eq_true rfl) (Nat.le_of_ble_eq_true rfl) dX3_init_402 (fun q H hq9 hz9 hH hS => ?_)
  have hq := hP.apart hq9
  have hP := hP.side hq (some (.inl (dA 2, (600, .inl (fun j => iI 0)))))
  refine z_putF C hH hS hP.1 in_X3 (T := TX3) (N := 42) tyX3_ok nmX3 rfl 40 (by decide) q2225 (fun x h => h) rfl hname rfl rfl rfl (by rw [cF_len]; decide) dX3_init_404 (fun H locs hH hS => ?_)
  have hP := hP.link (k := 40) (f := (fun _ => 0)) hq (by decide) (by decide) rfl (by exact va_up_self _ _ _)
  have hZ := hZ.z 40
  refine z_aload_n C dX3_init_407 hl 0 rfl ?_
  refine z_bipush C dX3_init_408 (by decide +kernel) ?_
  have hd := hP.done (by decide +kernel)
  have key : ∀ j : Fin 37, (uZ (uZ (uZ (uZ (uZ (uZ (uZ (uZ (uZ (uZ (uZ (uZ (uZ (uZ (uZ (uZ (uZ (uZ (uZ (uZ (uZ (uZ (uZ (uZ (uZ (uZ (uZ (uZ (uZ (uZ (uZ (uZ (uZ (uZ (uZ (uZ (uZ (fun _ => 0) 0 108) 1 105) 2 110) 3 101) 4 32) 5 97) 6 108) 7 111) 8 110) 9 101) 10 32) 11 97) 12 98) 13 111) 14 118) 15 101) 16 32) 17 115) 18 101) 19 116) 20 32) 21 108) 22 111) 23 115) 24 115) 25 32) 26 119) 27 105) 28 100) 29 101) 30 32) 31 112) 32 32) 33 118) 34 32) 35 104) 36 32) j.val = wds j.val := by decide +kernel
  obtain ⟨ad, σ, hOk, hH, hZ, h38, hW⟩ : ∃ (ad : Nat → Nat) (σ : Sg), mOk o ad ∧ HP D clM A (mG dA o ad σ) H ∧ Z0 σ ∧ σ 38 0 = -1 ∧ WdAt σ := ⟨_, _, hd.1, hH.sub hd.2, hZ, rfl, fun j a b => by
    have := key ⟨j.toNat, by omega⟩
    dsimp only at this
    rw [Int.toNat_of_nonneg a] at this; exact this⟩
  refine m_VvF C hH hS (mm_begins hOk σ 16) (cwV 1 C.1.2.2.2.2 (lw_V q2178 q2180 qs43 q133 q2181) rfl rfl rfl (by decide +kernel) ⟨Nat.le_of_ble_eq_true rfl, Nat.le_of_ble_eq_true rfl⟩) rfl hl rfl (Nat.le_of_ble_eq_true rfl) dX3_init_410 ⟨Nat.le_of_ble_eq_true rfl, Nat.le_of_ble_eq_true rfl⟩ (fun H locs hH hS => ?_)
  refine z_aload_n C dX3_init_413 hl 0 rfl ?_
  refine m_geta C hH 2 ⟨by decide, by decide⟩ q2187 rfl dX3_init_414 ?_
  refine z_iconst C dX3_init_417 ?_
  refine z_aload_n C dX3_init_418 hl 0 rfl ?_
  refine m_geta C hH 1 ⟨by decide, by decide⟩ q2186 rfl dX3_init_419 ?_
  refine z_iconst C dX3_init_422 ?_
  refine m_SvF C hH hS (mm_copies hOk _ 2 0 1 0 (⟨by decide, by decide⟩) (⟨by decide, by decide⟩) (by decide) (show 0 ≤ (0 : Int) ∧ (0 : Int) + 828 ≤ (828 : Int) by omega) (show 0 ≤ (0 : Int) ∧ (0 : Int) + 828 ≤ (828 : Int) by omega)) (va_cwS 4 C.1.2.2.2.2 (lw_S q2182 q2183 q133 q2184) rfl rfl rfl (by decide +kernel) ⟨Nat.le_of_ble_eq_true rfl, Nat.le_of_ble_eq_true rfl⟩) rfl hl rfl (Nat.le_of_ble_eq_true rfl) dX3_init_423 ⟨Nat.le_of_ble_eq_true rfl, Nat.le_of_ble_eq_true rfl⟩ (fun H locs hH hS => ?_)
  refine z_vret C hret hH hS dX3_init_426 (Nat.le_of_ble_eq_true rfl) (Nat.le_of_ble_eq_true rfl) ⟨ad, _, hOk, rfl, ?_⟩
  have hbg : PgAt (uZ (uZ (uZ (uZ (wr (fun _ => 0) (σ 2) 0 828) 0 16) 2 4) 6 8) 7 16) (bgP 16) := bgP_at _ _ ⟨rfl, rfl, rfl, rfl⟩ (fun j a b c d e => by rw [uZ_ne _ _ e, uZ_ne _ _ d, uZ_ne _ _ c, uZ_ne _ _ (by omega), wr_in _ _ (by omega) (by omega)])
  refine ⟨⟨PgAt.congr (bgP_ok (by decide)) hbg (fun j a b => ?_), bgP_ok (by decide), (fun i Q h => by cases h), hZ 4 0 (by decide) (by decide), by decide, (fun Q h => by cases h)⟩, fun i a b => hZ 6 i (by decide) (by decide), ⟨hZ 32 0 (by decide) (by decide), by decide, (fun j a b => by omega), fun _ => (by decide : (-128 : Int) ≤ 0 ∧ (0 : Int) < 128)⟩, ⟨hZ 41 0 (by decide) (by decide), (fun j h => absurd h (Nat.not_lt_zero _)), by decide⟩, hW, hZ 37 0 (by decide) (by decide), h38⟩
  show wr (fun j => uZ (uZ (uZ (uZ (wr (fun _ => 0) (σ 2) 0 828) 0 16) 2 4) 6 8) 7 16 (0 + (j - 0))) (σ 1) 0 (0 + 828) j = _
  rw [wr_in _ _ a (by omega)]; congr 1; omega
