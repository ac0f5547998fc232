set_option maxRecDepth 100000
def ntz1 (i : Int32) : Int32 := (i ^^^ (-1)) &&& (i - nI 1)
def ushr (i c : Int32) : Int32 := (i.toUInt32 >>> (c.toUInt32 &&& Int32.toUInt32 31)).toInt32
def ntzS (b : Int32) (c : Int32) (p : Int32 × Int32) : Int32 × Int32 := if b < p.2 then (p.1 + c, ushr p.2 c) else p
theorem ntzS_n {b c n i : Int32} (h : ¬ b < i) : ntzS b c (n, i) = (n, i) := if_neg h
theorem ntzS_y {b c n i : Int32} (h : b < i) : ntzS b c (n, i) = (n + c, ushr i c) := if_pos h
def ntzE (p : Int32 × Int32) : Int32 := p.1 + ushr p.2 (nI 1)
def ntzI (i : Int32) : Int32 :=
  if ntz1 i ≤ 0 then ntz1 i &&& nI 32 else ntzE (ntzS (nI 4) (nI 2) (ntzS (nI 16) (nI 4) (ntzS (nI 256) (nI 8) (ntzS 65536 (nI 16) (nI 1, ntz1 i)))))
def ctz (n : Nat) : Nat := (ntzI (nI n)).toNatClampNeg
theorem ct_J26_numberOfTrailingZeros (g : Gv) {i0 : Int32} : Ct g yJ26_numberOfTrailingZeros (ws_ yJ26_numberOfTrailingZeros cJ26_numberOfTrailingZeros 2 (some .int)) 0 0 0 [.int i0] [] (fun (v : Option Value) (L : List va_W) => v = some (.int (ntzI i0)) ∧ L = []) noX := by
  refine Ct.of "java/lang/Integer" [some (.int i0), none] rfl (by decide) rfl (Nat.le_of_ble_eq_true rfl) rfl ?_
  intro κ B E tb
  refine g_iload_n (q := 1) B dJ26_numberOfTrailingZeros_0 rfl rfl ?_
  refine g_iconst (v := -1) (q := 2) B dJ26_numberOfTrailingZeros_1 rfl (by decide) ?_
  refine g_ixor (v := i0 ^^^ (-1)) (q := 3) B dJ26_numberOfTrailingZeros_2 rfl rfl ?_
  refine g_iload_n (q := 4) B dJ26_numberOfTrailingZeros_3 rfl rfl ?_
  refine g_iconst (v := nI 1) (q := 5) B dJ26_numberOfTrailingZeros_4 rfl (by decide) ?_
  refine g_isub (v := i0 - nI 1) (q := 6) B dJ26_numberOfTrailingZeros_5 rfl rfl ?_
  refine g_iand (v := ntz1 i0) (q := 7) B dJ26_numberOfTrailingZeros_6 rfl rfl ?_
  refine g_istore_n (q := 8) (lv2 := [some (.int (ntz1 i0)), none]) B dJ26_numberOfTrailingZeros_7 rfl (Nat.le_of_ble_eq_true rfl) rfl ?_
  refine g_iload_n (q := 9) B dJ26_numberOfTrailingZeros_8 rfl rfl ?_
  refine g_if_gt (tgt := 17) (q := 12) B dJ26_numberOfTrailingZeros_9 rfl (by decide) (Iff.rfl) (fun c9 => ?_) (fun c9 => ?_)
  · skip
    refine g_iconst (v := nI 1) (q := 18) B dJ26_numberOfTrailingZeros_17 rfl (by decide) ?_
    refine g_istore_n (q := 19) (lv2 := [some (.int (ntz1 i0)), some (.int (nI 1))]) B dJ26_numberOfTrailingZeros_18 rfl (Nat.le_of_ble_eq_true rfl) rfl ?_
    have hn : ntzE (ntzS (nI 4) (nI 2) (ntzS (nI 16) (nI 4) (ntzS (nI 256) (nI 8) (ntzS 65536 (nI 16) (nI 1, ntz1 i0))))) = ntzI i0 := (if_neg (fun h => absurd h (Int32.not_le.mpr c9))).symm
    have ct74 : ∀ (n : Int32) (i : Int32) , ntzE (n, i) = ntzI i0 → Go g κ 74 [some (.int i), some (.int n)] [] [] 0 0 := by
      intro n i hn
      refine g_iload_n (q := 75) B dJ26_numberOfTrailingZeros_74 rfl rfl ?_
      refine g_iload_n (q := 76) B dJ26_numberOfTrailingZeros_75 rfl rfl ?_
      refine g_iconst (v := nI 1) (q := 77) B dJ26_numberOfTrailingZeros_76 rfl (by decide) ?_
      refine g_iushr (v := ushr i (nI 1)) (q := 78) B dJ26_numberOfTrailingZeros_77 rfl rfl ?_
      refine g_iadd (v := ntzI i0) (q := 79) B dJ26_numberOfTrailingZeros_78 rfl hn ?_
      exact g_iret B E dJ26_numberOfTrailingZeros_79 (⟨rfl, rfl⟩)
    have ct62 : ∀ (n : Int32) (i : Int32) , ntzE (ntzS (nI 4) (nI 2) (n, i)) = ntzI i0 → Go g κ 62 [some (.int i), some (.int n)] [] [] 0 0 := by
      intro n i hn
      refine g_iload_n (q := 63) B dJ26_numberOfTrailingZeros_62 rfl rfl ?_
      refine g_iconst (v := nI 4) (q := 64) B dJ26_numberOfTrailingZeros_63 rfl (by decide) ?_
      refine g_icmp_le (tgt := 74) (q := 67) B dJ26_numberOfTrailingZeros_64 rfl (by decide) (Int32.not_lt.symm) (fun c64 => ?_) (fun c64 => ?_)
      · skip
        exact ct74 n i (by first | (rw [ntzS_n c64] at hn; exact hn) | (rw [ntzS_y (Classical.not_not.mp c64)] at hn; exact hn))
      · skip
        refine g_iinc (v := n + nI 2) (q := 70) (lv2 := [some (.int i), some (.int (n + nI 2))]) B dJ26_numberOfTrailingZeros_67 rfl rfl rfl (Nat.le_of_ble_eq_true rfl) rfl ?_
        refine g_iload_n (q := 71) B dJ26_numberOfTrailingZeros_70 rfl rfl ?_
        refine g_iconst (v := nI 2) (q := 72) B dJ26_numberOfTrailingZeros_71 rfl (by decide) ?_
        refine g_iushr (v := ushr i (nI 2)) (q := 73) B dJ26_numberOfTrailingZeros_72 rfl rfl ?_
        refine g_istore_n (q := 74) (lv2 := [some (.int (ushr i (nI 2))), some (.int (n + nI 2))]) B dJ26_numberOfTrailingZeros_73 rfl (Nat.le_of_ble_eq_true rfl) rfl ?_
        exact ct74 (n + nI 2) (ushr i (nI 2)) (by first | (rw [ntzS_n c64] at hn; exact hn) | (rw [ntzS_y (Classical.not_not.mp c64)] at hn; exact hn))
    have ct49 : ∀ (n : Int32) (i : Int32) , ntzE (ntzS (nI 4) (nI 2) (ntzS (nI 16) (nI 4) (n, i))) = ntzI i0 → Go g κ 49 [some (.int i), some (.int n)] [] [] 0 0 := by
      intro n i hn
      refine g_iload_n (q := 50) B dJ26_numberOfTrailingZeros_49 rfl rfl ?_
      refine g_bipush (v := nI 16) (q := 52) B dJ26_numberOfTrailingZeros_50 rfl (by decide) ?_
      refine g_icmp_le (tgt := 62) (q := 55) B dJ26_numberOfTrailingZeros_52 rfl (by decide) (Int32.not_lt.symm) (fun c52 => ?_) (fun c52 => ?_)
      · skip
        exact ct62 n i (by first | (rw [ntzS_n c52] at hn; exact hn) | (rw [ntzS_y (Classical.not_not.mp c52)] at hn; exact hn))
      · skip
        refine g_iinc (v := n + nI 4) (q := 58) (lv2 := [some (.int i), some (.int (n + nI 4))]) B dJ26_numberOfTrailingZeros_55 rfl rfl rfl (Nat.le_of_ble_eq_true rfl) rfl ?_
        refine g_iload_n (q := 59) B dJ26_numberOfTrailingZeros_58 rfl rfl ?_
        refine g_iconst (v := nI 4) (q := 60) B dJ26_numberOfTrailingZeros_59 rfl (by decide) ?_
        refine g_iushr (v := ushr i (nI 4)) (q := 61) B dJ26_numberOfTrailingZeros_60 rfl rfl ?_
        refine g_istore_n (q := 62) (lv2 := [some (.int (ushr i (nI 4))), some (.int (n + nI 4))]) B dJ26_numberOfTrailingZeros_61 rfl (Nat.le_of_ble_eq_true rfl) rfl ?_
        exact ct62 (n + nI 4) (ushr i (nI 4)) (by first | (rw [ntzS_n c52] at hn; exact hn) | (rw [ntzS_y (Classical.not_not.mp c52)] at hn; exact hn))
    have ct34 : ∀ (n : Int32) (i : Int32) , ntzE (ntzS (nI 4) (nI 2) (ntzS (nI 16) (nI 4) (ntzS (nI 256) (nI 8) (n, i)))) = ntzI i0 → Go g κ 34 [some (.int i), some (.int n)] [] [] 0 0 := by
      intro n i hn
      refine g_iload_n (q := 35) B dJ26_numberOfTrailingZeros_34 rfl rfl ?_
      refine g_sipush (v := nI 256) (q := 38) B dJ26_numberOfTrailingZeros_35 rfl (by decide) ?_
      refine g_icmp_le (tgt := 49) (q := 41) B dJ26_numberOfTrailingZeros_38 rfl (by decide) (Int32.not_lt.symm) (fun c38 => ?_) (fun c38 => ?_)
      · skip
        exact ct49 n i (by first | (rw [ntzS_n c38] at hn; exact hn) | (rw [ntzS_y (Classical.not_not.mp c38)] at hn; exact hn))
      · skip
        refine g_iinc (v := n + nI 8) (q := 44) (lv2 := [some (.int i), some (.int (n + nI 8))]) B dJ26_numberOfTrailingZeros_41 rfl rfl rfl (Nat.le_of_ble_eq_true rfl) rfl ?_
        refine g_iload_n (q := 45) B dJ26_numberOfTrailingZeros_44 rfl rfl ?_
        refine g_bipush (v := nI 8) (q := 47) B dJ26_numberOfTrailingZeros_45 rfl (by decide) ?_
        refine g_iushr (v := ushr i (nI 8)) (q := 48) B dJ26_numberOfTrailingZeros_47 rfl rfl ?_
        refine g_istore_n (q := 49) (lv2 := [some (.int (ushr i (nI 8))), some (.int (n + nI 8))]) B dJ26_numberOfTrailingZeros_48 rfl (Nat.le_of_ble_eq_true rfl) rfl ?_
        exact ct49 (n + nI 8) (ushr i (nI 8)) (by first | (rw [ntzS_n c38] at hn; exact hn) | (rw [ntzS_y (Classical.not_not.mp c38)] at hn; exact hn))
    refine g_iload_n (q := 20) B dJ26_numberOfTrailingZeros_19 rfl rfl ?_
    refine g_ldcw (v := 65536) (q := 23) B dJ26_numberOfTrailingZeros_20 rfl q684 ?_
    refine g_icmp_le (tgt := 34) (q := 26) B dJ26_numberOfTrailingZeros_23 rfl (by decide) (Int32.not_lt.symm) (fun c23 => ?_) (fun c23 => ?_)
    · skip
      exact ct34 (nI 1) (ntz1 i0) (by first | (rw [ntzS_n c23] at hn; exact hn) | (rw [ntzS_y (Classical.not_not.mp c23)] at hn; exact hn))
    · skip
      refine g_iinc (v := nI 1 + nI 16) (q := 29) (lv2 := [some (.int (ntz1 i0)), some (.int (nI 1 + nI 16))]) B dJ26_numberOfTrailingZeros_26 rfl rfl rfl (Nat.le_of_ble_eq_true rfl) rfl ?_
      refine g_iload_n (q := 30) B dJ26_numberOfTrailingZeros_29 rfl rfl ?_
      refine g_bipush (v := nI 16) (q := 32) B dJ26_numberOfTrailingZeros_30 rfl (by decide) ?_
      refine g_iushr (v := ushr (ntz1 i0) (nI 16)) (q := 33) B dJ26_numberOfTrailingZeros_32 rfl rfl ?_
      refine g_istore_n (q := 34) (lv2 := [some (.int (ushr (ntz1 i0) (nI 16))), some (.int (nI 1 + nI 16))]) B dJ26_numberOfTrailingZeros_33 rfl (Nat.le_of_ble_eq_true rfl) rfl ?_
      exact ct34 (nI 1 + nI 16) (ushr (ntz1 i0) (nI 16)) (by first | (rw [ntzS_n c23] at hn; exact hn) | (rw [ntzS_y (Classical.not_not.mp c23)] at hn; exact hn))
  · skip
    refine g_iload_n (q := 13) B dJ26_numberOfTrailingZeros_12 rfl rfl ?_
    refine g_bipush (v := nI 32) (q := 15) B dJ26_numberOfTrailingZeros_13 rfl (by decide) ?_
    refine g_iand (v := (ntz1 i0) &&& (nI 32)) (q := 16) B dJ26_numberOfTrailingZeros_15 rfl rfl ?_
    exact g_iret B E dJ26_numberOfTrailingZeros_16 (⟨by rw [show ntzI i0 = ntz1 i0 &&& nI 32 from if_pos (Int32.not_lt.mp c9)], rfl⟩)
theorem ctz_le : ∀ n, n < 64 → ntzI (nI n) = nI (ctz n) := by decide +kernel
