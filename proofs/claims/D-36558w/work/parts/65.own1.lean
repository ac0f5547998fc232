set_option maxRecDepth 100000
theorem nI_ti {n : Nat} (h : n < 2 ^ 31) : (nI n).toInt = n := by
  show (Int32.ofNat n).toInt = n
  exact Int32.toInt_ofNat_of_lt h
theorem hi_ti {n : Nat} (h : n < 2 ^ 31) : (nI n - nI 1).toInt = (n : Int) - 1 := by
  rcases Nat.eq_zero_or_pos n with rfl | h0
  · rfl
  · rw [pk_sub (by omega), nI_ti (by omega)]; omega
theorem in_lo {v : Int32} : v < nI 0 ↔ v.toInt < 0 := Int32.lt_iff_toInt_lt
theorem in_hi {v : Int32} {n : Nat} (h : n < 2 ^ 31) : nI n - nI 1 < v ↔ ¬ v.toInt < n := by rw [Int32.lt_iff_toInt_lt, hi_ti h]; omega
theorem inR_t {v : Int32} {n : Nat} (h : inR v n = true) : ∃ k : Nat, k < n ∧ v = nI k := by
  unfold inR at h
  rw [Bool.and_eq_true, decide_eq_true_iff, decide_eq_true_iff] at h
  refine ⟨v.toInt.toNat, by omega, ?_⟩
  have h2 : v.toInt < 2 ^ 31 := v.toInt_lt
  refine Int32.toInt_inj.mp ?_
  rw [nI_ti (by omega)]; omega
theorem inR_k {k n : Nat} (hk : k < 2 ^ 31) : inR (nI k) n = decide (k < n) := by
  unfold inR
  rw [nI_ti hk, Bool.eq_iff_iff, Bool.and_eq_true, decide_eq_true_iff, decide_eq_true_iff, decide_eq_true_iff]; omega
theorem ct_X1_in (g : Gv) (J : Jd g) {v : Int32} {n : Nat} (hn : n < 2 ^ 31) : Ct g yX1_in (ws_ yX1_in cX1_in 3 (some .boolean)) 0 0 0 [.int v, .int (nI 0), .int (nI n - nI 1)] [] (fun (rv_ : Option Value) (rL_ : List va_W) => rv_ = some (.int (nI (if inR v n = true then 1 else 0))) ∧ rL_ = []) noX := by
  refine Ct.of "Keygrove" [some (.int v), some (.int (nI 0)), some (.int (nI n - nI 1))] rfl (by decide) rfl (Nat.le_of_ble_eq_true rfl) rfl ?_
  intro κ B E tb
  refine g_iload_n (q := 1) B dX1_in_0 rfl rfl ?_
  refine g_iload_n (q := 2) B dX1_in_1 rfl rfl ?_
  refine g_icmp_lt (tgt := 14) (q := 5) B dX1_in_2 rfl (by decide) (in_lo) (fun c2 => ?_) (fun c2 => ?_)
  · skip
    refine g_iconst (v := nI 0) (q := 15) B dX1_in_14 rfl (by decide) ?_
    exact g_zret B E dX1_in_15 (by decide) (⟨by rw [if_neg (by unfold inR; rw [Bool.and_eq_true, decide_eq_true_iff, decide_eq_true_iff]; omega)], rfl⟩)
  · skip
    refine g_iload_n (q := 6) B dX1_in_5 rfl rfl ?_
    refine g_iload_n (q := 7) B dX1_in_6 rfl rfl ?_
    refine g_icmp_gt (tgt := 14) (q := 10) B dX1_in_7 rfl (by decide) (in_hi hn) (fun c7 => ?_) (fun c7 => ?_)
    · skip
      refine g_iconst (v := nI 0) (q := 15) B dX1_in_14 rfl (by decide) ?_
      exact g_zret B E dX1_in_15 (by decide) (⟨by rw [if_neg (by unfold inR; rw [Bool.and_eq_true, decide_eq_true_iff, decide_eq_true_iff]; omega)], rfl⟩)
    · skip
      refine g_iconst (v := nI 1) (q := 11) B dX1_in_10 rfl (by decide) ?_
      refine g_goto (tgt := 15) B dX1_in_11 (by decide) ?_
      exact g_zret B E dX1_in_15 (by decide) (⟨by rw [if_pos (by unfold inR; rw [Bool.and_eq_true, decide_eq_true_iff, decide_eq_true_iff]; omega)], rfl⟩)
theorem ct_X3_isBetween (g : Gv) (J : Jd g) {v : Int32} {n : Nat} (hn : n < 2 ^ 31) : Ct g yX3_isBetween (ws_ yX3_isBetween cX3_isBetween 3 (some .boolean)) 0 0 0 [.int v, .int (nI 0), .int (nI n - nI 1)] [] (fun (rv_ : Option Value) (rL_ : List va_W) => rv_ = some (.int (nI (if inR v n = true then 1 else 0))) ∧ rL_ = []) noX := by
  refine Ct.of "KeygroveModel" [some (.int v), some (.int (nI 0)), some (.int (nI n - nI 1))] rfl (by decide) rfl (Nat.le_of_ble_eq_true rfl) rfl ?_
  intro κ B E tb
  refine g_iload_n (q := 1) B dX3_isBetween_0 rfl rfl ?_
  refine g_iload_n (q := 2) B dX3_isBetween_1 rfl rfl ?_
  refine g_icmp_gt (tgt := 14) (q := 5) B dX3_isBetween_2 rfl (by decide) (in_lo) (fun c2 => ?_) (fun c2 => ?_)
  · skip
    refine g_iconst (v := nI 0) (q := 15) B dX3_isBetween_14 rfl (by decide) ?_
    exact g_zret B E dX3_isBetween_15 (by decide) (⟨by rw [if_neg (by unfold inR; rw [Bool.and_eq_true, decide_eq_true_iff, decide_eq_true_iff]; omega)], rfl⟩)
  · skip
    refine g_iload_n (q := 6) B dX3_isBetween_5 rfl rfl ?_
    refine g_iload_n (q := 7) B dX3_isBetween_6 rfl rfl ?_
    refine g_icmp_gt (tgt := 14) (q := 10) B dX3_isBetween_7 rfl (by decide) (in_hi hn) (fun c7 => ?_) (fun c7 => ?_)
    · skip
      refine g_iconst (v := nI 0) (q := 15) B dX3_isBetween_14 rfl (by decide) ?_
      exact g_zret B E dX3_isBetween_15 (by decide) (⟨by rw [if_neg (by unfold inR; rw [Bool.and_eq_true, decide_eq_true_iff, decide_eq_true_iff]; omega)], rfl⟩)
    · skip
      refine g_iconst (v := nI 1) (q := 11) B dX3_isBetween_10 rfl (by decide) ?_
      refine g_goto (tgt := 15) B dX3_isBetween_11 (by decide) ?_
      exact g_zret B E dX3_isBetween_15 (by decide) (⟨by rw [if_pos (by unfold inR; rw [Bool.and_eq_true, decide_eq_true_iff, decide_eq_true_iff]; omega)], rfl⟩)
theorem ct_X3_mix (g : Gv) (J : Jd g) {a : Int32} {b : Int32} : Ct g yX3_mix (ws_ yX3_mix cX3_mix 3 (some .int)) 0 0 0 [.int a, .int b] [] (fun (rv_ : Option Value) (rL_ : List va_W) => rv_ = some (.int (mixI a b)) ∧ rL_ = []) noX := by
  refine Ct.of "KeygroveModel" [some (.int a), some (.int b), none] rfl (by decide) rfl (Nat.le_of_ble_eq_true rfl) rfl ?_
  intro κ B E tb
  refine g_iload_n (q := 1) B dX3_mix_0 rfl rfl ?_
  refine g_ldc (v := -1640531527) (q := 3) B dX3_mix_1 rfl q3168 ?_
  refine g_iload_n (q := 4) B dX3_mix_3 rfl rfl ?_
  refine g_iconst (v := nI 1) (q := 5) B dX3_mix_4 rfl (by decide) ?_
  refine g_iadd (v := b + (nI 1)) (q := 6) B dX3_mix_5 rfl rfl ?_
  refine g_imul (v := (-1640531527) * (b + (nI 1))) (q := 7) B dX3_mix_6 rfl rfl ?_
  refine g_iadd (v := mx1 a b) (q := 8) B dX3_mix_7 rfl rfl ?_
  refine g_istore_n (q := 9) (lv2 := [some (.int a), some (.int b), some (.int (mx1 a b))]) B dX3_mix_8 rfl (Nat.le_of_ble_eq_true rfl) rfl ?_
  refine g_iload_n (q := 10) B dX3_mix_9 rfl rfl ?_
  refine g_iload_n (q := 11) B dX3_mix_10 rfl rfl ?_
  refine g_bipush (v := nI 16) (q := 13) B dX3_mix_11 rfl (by decide) ?_
  refine g_iushr (v := usI (mx1 a b) 16) (q := 14) B dX3_mix_13 rfl rfl ?_
  refine g_ixor (v := (mx1 a b) ^^^ (usI (mx1 a b) 16)) (q := 15) B dX3_mix_14 rfl rfl ?_
  refine g_istore_n (q := 16) (lv2 := [some (.int a), some (.int b), some (.int ((mx1 a b) ^^^ (usI (mx1 a b) 16)))]) B dX3_mix_15 rfl (Nat.le_of_ble_eq_true rfl) rfl ?_
  refine g_iload_n (q := 17) B dX3_mix_16 rfl rfl ?_
  refine g_ldc (v := -2048144789) (q := 19) B dX3_mix_17 rfl q3169 ?_
  refine g_imul (v := mx2 a b) (q := 20) B dX3_mix_19 rfl rfl ?_
  refine g_istore_n (q := 21) (lv2 := [some (.int a), some (.int b), some (.int (mx2 a b))]) B dX3_mix_20 rfl (Nat.le_of_ble_eq_true rfl) rfl ?_
  refine g_iload_n (q := 22) B dX3_mix_21 rfl rfl ?_
  refine g_iload_n (q := 23) B dX3_mix_22 rfl rfl ?_
  refine g_bipush (v := nI 13) (q := 25) B dX3_mix_23 rfl (by decide) ?_
  refine g_iushr (v := usI (mx2 a b) 13) (q := 26) B dX3_mix_25 rfl rfl ?_
  refine g_ixor (v := (mx2 a b) ^^^ (usI (mx2 a b) 13)) (q := 27) B dX3_mix_26 rfl rfl ?_
  refine g_istore_n (q := 28) (lv2 := [some (.int a), some (.int b), some (.int ((mx2 a b) ^^^ (usI (mx2 a b) 13)))]) B dX3_mix_27 rfl (Nat.le_of_ble_eq_true rfl) rfl ?_
  refine g_iload_n (q := 29) B dX3_mix_28 rfl rfl ?_
  refine g_ldc (v := -1028477387) (q := 31) B dX3_mix_29 rfl q3170 ?_
  refine g_imul (v := mx3 a b) (q := 32) B dX3_mix_31 rfl rfl ?_
  refine g_istore_n (q := 33) (lv2 := [some (.int a), some (.int b), some (.int (mx3 a b))]) B dX3_mix_32 rfl (Nat.le_of_ble_eq_true rfl) rfl ?_
  refine g_iload_n (q := 34) B dX3_mix_33 rfl rfl ?_
  refine g_iload_n (q := 35) B dX3_mix_34 rfl rfl ?_
  refine g_bipush (v := nI 16) (q := 37) B dX3_mix_35 rfl (by decide) ?_
  refine g_iushr (v := usI (mx3 a b) 16) (q := 38) B dX3_mix_37 rfl rfl ?_
  refine g_ixor (v := mixI a b) (q := 39) B dX3_mix_38 rfl rfl ?_
  exact g_iret B E dX3_mix_39 (⟨rfl, rfl⟩)
theorem ct_X3_level (g : Gv) (J : Jd g) {n : Nat} (hn : n < 31) : Ct g yX3_level (ws_ yX3_level cX3_level 1 (some .int)) 1 0 0 [.int (nI n)] [] (fun (rv_ : Option Value) (rL_ : List va_W) => rv_ = some (.int (nI (lev n))) ∧ rL_ = []) noX := by
  refine Ct.of "KeygroveModel" [some (.int (nI n))] rfl (by decide) rfl (Nat.le_of_ble_eq_true rfl) rfl ?_
  intro κ B E tb
  refine g_iload_n (q := 1) B dX3_level_0 rfl rfl ?_
  refine g_iconst (v := nI 1) (q := 2) B dX3_level_1 rfl (by decide) ?_
  refine g_iadd (v := nI (n + 1)) (q := 3) B dX3_level_2 rfl (nI_add _ _) ?_
  refine g_callS (q := 6) (is := []) (kc2 := 0) (ks2 := 0) B [.int (nI (n + 1))] (ct_J26_numberOfTrailingZeros g (i0 := nI (n + 1))  ) dX3_level_3 rfl q3444 q682 q111 q683 rfl rfl moJ26_numberOfTrailingZeros rfl rfl (by decide) (by decide) (Nat.le_of_ble_eq_true rfl) (Nat.le_of_ble_eq_true rfl) (Nat.le_of_ble_eq_true rfl) (fun _ _ hx => noX_x hx) (fun v3 L1 hp3 => ?_)
  obtain ⟨rfl, rfl⟩ := hp3
  refine (show Go g κ 6 [some (.int (nI n))] [.int (ntzI (nI (n + 1)))] [] 0 0 from ?_)
  rw [lev_I n hn]
  exact g_iret B E dX3_level_6 (⟨rfl, rfl⟩)
