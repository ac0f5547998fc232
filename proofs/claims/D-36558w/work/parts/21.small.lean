set_option maxRecDepth 100000
theorem ct_J18_checkIndex (g : Gv) (J : Jd g) {i : Nat} {n : Nat} (hi : i < n) (hn : n < 2 ^ 31) : Ct g yJ18_checkIndex (ws_ yJ18_checkIndex cJ18_checkIndex 3 (some .int)) 0 0 0 [.int (nI i), .int (nI n), .null] [] (fun (v : Option Value) (L : List va_W) => v = some (.int (nI i)) ∧ L = []) noX := by
  refine Ct.of "jdk/internal/util/Preconditions" [some (.int (nI i)), some (.int (nI n)), some (.null)] rfl (by decide) rfl (Nat.le_of_ble_eq_true rfl) rfl ?_
  intro κ B E tb
  refine g_iload_n (q := 1) B dJ18_checkIndex_0 rfl rfl ?_
  refine g_if_lt (tgt := 9) (q := 4) B dJ18_checkIndex_1 rfl (by decide) (iff_false_intro (nI_pos (by omega))) (fun z => z.elim) (fun _ => ?_)
  refine g_iload_n (q := 5) B dJ18_checkIndex_4 rfl rfl ?_
  refine g_iload_n (q := 6) B dJ18_checkIndex_5 rfl rfl ?_
  refine g_icmp_lt (tgt := 16) (q := 9) B dJ18_checkIndex_6 rfl (by decide) (iff_true_intro ((nI_ltI (by omega) hn).mpr hi)) (fun _ => ?_) (fun z => absurd trivial z)
  refine g_iload_n (q := 17) B dJ18_checkIndex_16 rfl rfl ?_
  exact g_iret B E dJ18_checkIndex_17 (⟨rfl, rfl⟩)
theorem moJ18_checkIndex : Mo yJ18_checkIndex 3 := by
  refine ⟨by decide, by decide, by decide +kernel⟩
theorem ct_J17_checkIndex (g : Gv) (J : Jd g) {i : Nat} {n : Nat} (hi : i < n) (hn : n < 2 ^ 31) : Ct g yJ17_checkIndex (ws_ yJ17_checkIndex cJ17_checkIndex 2 (some .int)) 1 0 0 [.int (nI i), .int (nI n)] [] (fun (v : Option Value) (L : List va_W) => v = some (.int (nI i)) ∧ L = []) noX := by
  refine Ct.of "java/util/Objects" [some (.int (nI i)), some (.int (nI n))] rfl (by decide) rfl (Nat.le_of_ble_eq_true rfl) rfl ?_
  intro κ B E tb
  refine g_iload_n (q := 1) B dJ17_checkIndex_0 rfl rfl ?_
  refine g_iload_n (q := 2) B dJ17_checkIndex_1 rfl rfl ?_
  refine g_aconst_null (q := 3) B dJ17_checkIndex_2 rfl ?_
  refine g_callS (q := 6) (is := []) (kc2 := 0) (ks2 := 0) B [.int (nI i), .int (nI n), .null] (ct_J18_checkIndex g J (i := i) (n := n)  (by first | assumption | omega | rfl) (by first | assumption | omega | rfl)) dJ17_checkIndex_3 rfl q1101 q1102 q101 q1103 rfl rfl moJ18_checkIndex rfl rfl (by decide) (by decide) (Nat.le_of_ble_eq_true rfl) (Nat.le_of_ble_eq_true rfl) (Nat.le_of_ble_eq_true rfl) (fun _ _ hx => noX_x hx) (fun v3 L1 hp3 => ?_)
  obtain ⟨rfl, rfl⟩ := hp3
  refine (show Go g κ 6 [some (.int (nI i)), some (.int (nI n))] [.int (nI i)] [] 0 0 from ?_)
  exact g_iret B E dJ17_checkIndex_6 (⟨rfl, rfl⟩)
theorem ct_J11_newLength (g : Gv) (J : Jd g) {a : Nat} {b : Nat} {c : Nat} (ha : a < 2 ^ 28) (hb : b < 2 ^ 28) (hc : c < 2 ^ 28) (h0 : 0 < b) : Ct g yJ11_newLength (ws_ yJ11_newLength cJ11_newLength 4 (some .int)) 1 0 0 [.int (nI a), .int (nI b), .int (nI c)] [] (fun (v : Option Value) (L : List va_W) => v = some (.int (nI (a + max b c))) ∧ L = []) noX := by
  refine Ct.of "jdk/internal/util/ArraysSupport" [some (.int (nI a)), some (.int (nI b)), some (.int (nI c)), none] rfl (by decide) rfl (Nat.le_of_ble_eq_true rfl) rfl ?_
  intro κ B E tb
  refine g_iload_n (q := 1) B dJ11_newLength_0 rfl rfl ?_
  refine g_iload_n (q := 2) B dJ11_newLength_1 rfl rfl ?_
  refine g_iload_n (q := 3) B dJ11_newLength_2 rfl rfl ?_
  refine g_mmax (q := 6) B q440 dJ11_newLength_3 rfl rfl (Nat.le_of_ble_eq_true rfl) (by omega) (by omega) ?_
  refine g_iadd (v := nI (a + (max b c))) (q := 7) B dJ11_newLength_6 rfl (nI_add _ _) ?_
  refine g_istore_n (q := 8) (lv2 := [some (.int (nI a)), some (.int (nI b)), some (.int (nI c)), some (.int (nI (a + (max b c))))]) B dJ11_newLength_7 rfl (Nat.le_of_ble_eq_true rfl) rfl ?_
  refine g_iconst (v := nI 0) (q := 9) B dJ11_newLength_8 rfl (by decide) ?_
  refine g_iload_n (q := 10) B dJ11_newLength_9 rfl rfl ?_
  refine g_icmp_ge (tgt := 21) (q := 13) B dJ11_newLength_10 rfl (by decide) (iff_false_intro (fun h => absurd ((nI_leI (by omega) (by decide)).mp h) (by omega))) (fun z => z.elim) (fun _ => ?_)
  refine g_iload_n (q := 14) B dJ11_newLength_13 rfl rfl ?_
  refine g_ldc (v := nI 2147483639) (q := 16) B dJ11_newLength_14 rfl q443 ?_
  refine g_icmp_gt (tgt := 21) (q := 19) B dJ11_newLength_16 rfl (by decide) (iff_false_intro (fun h => absurd ((nI_ltI (by decide) (by omega)).mp h) (by omega))) (fun z => z.elim) (fun _ => ?_)
  refine g_iload_n (q := 20) B dJ11_newLength_19 rfl rfl ?_
  exact g_iret B E dJ11_newLength_20 (⟨rfl, rfl⟩)
