set_option maxRecDepth 100000
/-- own classes: arithmetic -/
def usI (x : Int32) (k : Nat) : Int32 := (x.toUInt32 >>> ((nI k).toUInt32 &&& Int32.toUInt32 31)).toInt32
def mx1 (a b : Int32) : Int32 := a + -1640531527 * (b + nI 1)
def mx2 (a b : Int32) : Int32 := (mx1 a b ^^^ usI (mx1 a b) 16) * -2048144789
def mx3 (a b : Int32) : Int32 := (mx2 a b ^^^ usI (mx2 a b) 13) * -1028477387
def mixI (a b : Int32) : Int32 := mx3 a b ^^^ usI (mx3 a b) 16
def lev (n : Nat) : Nat := ctz (n + 1)
def lft (n : Nat) : Nat := n - 2 ^ (lev n - 1)
def rgt (n : Nat) : Nat := n + 2 ^ (lev n - 1)
def ndA (l k : Nat) : Nat := (2 * k + 1) * 2 ^ l - 1
def abv (n : Nat) : Nat := ndA (lev n + 1) ((n + 1) / 2 ^ (lev n + 2))
def cvr (n l : Nat) : Bool := l / 2 ^ lev n == (n + 1) / 2 ^ (lev n + 1)
def hsB (s l : Nat) : Bool := s / 2 ^ l % 2 == 1
/-- an int is a number below n -/
def inR (v : Int32) (n : Nat) : Bool := decide (0 ≤ v.toInt) && decide (v.toInt < n)
theorem lev_4 : ∀ n, n < 31 → lev n ≤ 4 := by decide +kernel
theorem lev_I : ∀ n, n < 31 → ntzI (nI (n + 1)) = nI (lev n) := by decide +kernel
theorem shl_I : ∀ k, k < 6 → nI 1 <<< (nI k &&& 31) = nI (2 ^ k) := by decide +kernel
theorem shr_I : ∀ n, n < 64 → ∀ k, k < 8 → nI n >>> (nI k &&& 31) = nI (n / 2 ^ k) := by decide +kernel
theorem lft_le : ∀ n, n < 31 → 0 < lev n → 2 ^ (lev n - 1) ≤ n := by decide +kernel
theorem cvr_n {n l : Nat} (hn : n < 31) (hl : l < 16) : (nI (l / 2 ^ lev n) ≠ nI ((n + 1) / 2 ^ (lev n + 1))) ↔ ¬ cvr n l = true := by
  have h1 : l / 2 ^ lev n ≤ l := Nat.div_le_self _ _
  have h2 : (n + 1) / 2 ^ (lev n + 1) ≤ n + 1 := Nat.div_le_self _ _
  rw [Ne, nI_eq (by omega) (by omega)]
  unfold cvr; simp
theorem ct_X1_mix (g : Gv) (J : Jd g) {a : Int32} {b : Int32} : Ct g yX1_mix (ws_ yX1_mix cX1_mix 3 (some .int)) 0 0 0 [.int a, .int b] [] (fun (rv_ : Option Value) (rL_ : List va_W) => rv_ = some (.int (mixI a b)) ∧ rL_ = []) noX := by
  refine Ct.of "Keygrove" [some (.int a), some (.int b), none] rfl (by decide) rfl (Nat.le_of_ble_eq_true rfl) rfl ?_
  intro κ B E tb
  refine g_iload_n (q := 1) B dX1_mix_0 rfl rfl ?_
  refine g_ldc (v := -1640531527) (q := 3) B dX1_mix_1 rfl q1243 ?_
  refine g_iload_n (q := 4) B dX1_mix_3 rfl rfl ?_
  refine g_iconst (v := nI 1) (q := 5) B dX1_mix_4 rfl (by decide) ?_
  refine g_iadd (v := b + (nI 1)) (q := 6) B dX1_mix_5 rfl rfl ?_
  refine g_imul (v := (-1640531527) * (b + (nI 1))) (q := 7) B dX1_mix_6 rfl rfl ?_
  refine g_iadd (v := mx1 a b) (q := 8) B dX1_mix_7 rfl rfl ?_
  refine g_istore_n (q := 9) (lv2 := [some (.int a), some (.int b), some (.int (mx1 a b))]) B dX1_mix_8 rfl (Nat.le_of_ble_eq_true rfl) rfl ?_
  refine g_iload_n (q := 10) B dX1_mix_9 rfl rfl ?_
  refine g_iload_n (q := 11) B dX1_mix_10 rfl rfl ?_
  refine g_bipush (v := nI 16) (q := 13) B dX1_mix_11 rfl (by decide) ?_
  refine g_iushr (v := usI (mx1 a b) 16) (q := 14) B dX1_mix_13 rfl rfl ?_
  refine g_ixor (v := (mx1 a b) ^^^ (usI (mx1 a b) 16)) (q := 15) B dX1_mix_14 rfl rfl ?_
  refine g_ldc (v := -2048144789) (q := 17) B dX1_mix_15 rfl q1244 ?_
  refine g_imul (v := mx2 a b) (q := 18) B dX1_mix_17 rfl rfl ?_
  refine g_istore_n (q := 19) (lv2 := [some (.int a), some (.int b), some (.int (mx2 a b))]) B dX1_mix_18 rfl (Nat.le_of_ble_eq_true rfl) rfl ?_
  refine g_iload_n (q := 20) B dX1_mix_19 rfl rfl ?_
  refine g_iload_n (q := 21) B dX1_mix_20 rfl rfl ?_
  refine g_bipush (v := nI 13) (q := 23) B dX1_mix_21 rfl (by decide) ?_
  refine g_iushr (v := usI (mx2 a b) 13) (q := 24) B dX1_mix_23 rfl rfl ?_
  refine g_ixor (v := (mx2 a b) ^^^ (usI (mx2 a b) 13)) (q := 25) B dX1_mix_24 rfl rfl ?_
  refine g_ldc (v := -1028477387) (q := 27) B dX1_mix_25 rfl q1245 ?_
  refine g_imul (v := mx3 a b) (q := 28) B dX1_mix_27 rfl rfl ?_
  refine g_istore_n (q := 29) (lv2 := [some (.int a), some (.int b), some (.int (mx3 a b))]) B dX1_mix_28 rfl (Nat.le_of_ble_eq_true rfl) rfl ?_
  refine g_iload_n (q := 30) B dX1_mix_29 rfl rfl ?_
  refine g_iload_n (q := 31) B dX1_mix_30 rfl rfl ?_
  refine g_bipush (v := nI 16) (q := 33) B dX1_mix_31 rfl (by decide) ?_
  refine g_iushr (v := usI (mx3 a b) 16) (q := 34) B dX1_mix_33 rfl rfl ?_
  refine g_ixor (v := mixI a b) (q := 35) B dX1_mix_34 rfl rfl ?_
  exact g_iret B E dX1_mix_35 (⟨rfl, rfl⟩)
theorem ct_X10_level (g : Gv) (J : Jd g) {n : Nat} (hn : n < 31) : Ct g yX10_level (ws_ yX10_level cX10_level 1 (some .int)) 1 0 0 [.int (nI n)] [] (fun (rv_ : Option Value) (rL_ : List va_W) => rv_ = some (.int (nI (lev n))) ∧ rL_ = []) noX := by
  refine Ct.of "Keygrove$Tree" [some (.int (nI n))] rfl (by decide) rfl (Nat.le_of_ble_eq_true rfl) rfl ?_
  intro κ B E tb
  refine g_iload_n (q := 1) B dX10_level_0 rfl rfl ?_
  refine g_iconst (v := nI 1) (q := 2) B dX10_level_1 rfl (by decide) ?_
  refine g_iadd (v := nI (n + 1)) (q := 3) B dX10_level_2 rfl (nI_add _ _) ?_
  refine g_callS (q := 6) (is := []) (kc2 := 0) (ks2 := 0) B [.int (nI (n + 1))] (ct_J26_numberOfTrailingZeros g (i0 := nI (n + 1))  ) dX10_level_3 rfl q1799 q682 q111 q683 rfl rfl moJ26_numberOfTrailingZeros rfl rfl (by decide) (by decide) (Nat.le_of_ble_eq_true rfl) (Nat.le_of_ble_eq_true rfl) (Nat.le_of_ble_eq_true rfl) (fun _ _ hx => noX_x hx) (fun v3 L1 hp3 => ?_)
  obtain ⟨rfl, rfl⟩ := hp3
  refine (show Go g κ 6 [some (.int (nI n))] [.int (ntzI (nI (n + 1)))] [] 0 0 from ?_)
  rw [lev_I n hn]
  exact g_iret B E dX10_level_6 (⟨rfl, rfl⟩)
theorem ct_X10_node (g : Gv) (J : Jd g) {l : Nat} {k : Nat} (hl : l < 6) : Ct g yX10_node (ws_ yX10_node cX10_node 2 (some .int)) 0 0 0 [.int (nI l), .int (nI k)] [] (fun (rv_ : Option Value) (rL_ : List va_W) => rv_ = some (.int (nI (ndA l k))) ∧ rL_ = []) noX := by
  refine Ct.of "Keygrove$Tree" [some (.int (nI l)), some (.int (nI k))] rfl (by decide) rfl (Nat.le_of_ble_eq_true rfl) rfl ?_
  intro κ B E tb
  refine g_iconst (v := nI 2) (q := 1) B dX10_node_0 rfl (by decide) ?_
  refine g_iload_n (q := 2) B dX10_node_1 rfl rfl ?_
  refine g_imul (v := nI (2 * k)) (q := 3) B dX10_node_2 rfl (pk_mul _ _) ?_
  refine g_iconst (v := nI 1) (q := 4) B dX10_node_3 rfl (by decide) ?_
  refine g_iadd (v := nI ((2 * k) + 1)) (q := 5) B dX10_node_4 rfl (nI_add _ _) ?_
  refine g_iconst (v := nI 1) (q := 6) B dX10_node_5 rfl (by decide) ?_
  refine g_iload_n (q := 7) B dX10_node_6 rfl rfl ?_
  refine g_ishl (v := nI (2 ^ l)) (q := 8) B dX10_node_7 rfl (shl_I l hl) ?_
  refine g_imul (v := nI (((2 * k) + 1) * (2 ^ l))) (q := 9) B dX10_node_8 rfl (pk_mul _ _) ?_
  refine g_iconst (v := nI 1) (q := 10) B dX10_node_9 rfl (by decide) ?_
  refine g_isub (v := nI (ndA l k)) (q := 11) B dX10_node_10 rfl (pk_sub (Nat.succ_le_of_lt (Nat.mul_pos (by omega) (Nat.two_pow_pos l)))) ?_
  exact g_iret B E dX10_node_11 (⟨rfl, rfl⟩)
theorem moX10_level : Mo yX10_level 1 := by
  refine ⟨by decide, by decide, by decide +kernel⟩
theorem ct_X10_left (g : Gv) (J : Jd g) {n : Nat} (hn : n < 31) (hl : 0 < lev n) : Ct g yX10_left (ws_ yX10_left cX10_left 1 (some .int)) 2 0 0 [.int (nI n)] [] (fun (rv_ : Option Value) (rL_ : List va_W) => rv_ = some (.int (nI (lft n))) ∧ rL_ = []) noX := by
  refine Ct.of "Keygrove$Tree" [some (.int (nI n))] rfl (by decide) rfl (Nat.le_of_ble_eq_true rfl) rfl ?_
  intro κ B E tb
  have h4 := lev_4 n hn
  refine g_iload_n (q := 1) B dX10_left_0 rfl rfl ?_
  refine g_iconst (v := nI 1) (q := 2) B dX10_left_1 rfl (by decide) ?_
  refine g_iload_n (q := 3) B dX10_left_2 rfl rfl ?_
  refine g_callS (q := 6) (is := []) (kc2 := 0) (ks2 := 0) B [.int (nI n)] (ct_X10_level g J (n := n)  (by first | assumption | omega | rfl)) dX10_left_3 rfl q1796 q1797 q123 q1798 rfl rfl moX10_level rfl rfl (by decide) (by decide) (Nat.le_of_ble_eq_true rfl) (Nat.le_of_ble_eq_true rfl) (Nat.le_of_ble_eq_true rfl) (fun _ _ hx => noX_x hx) (fun v3 L1 hp3 => ?_)
  obtain ⟨rfl, rfl⟩ := hp3
  refine (show Go g κ 6 [some (.int (nI n))] [.int (nI (lev n)), .int (nI 1), .int (nI n)] [] 0 0 from ?_)
  refine g_iconst (v := nI 1) (q := 7) B dX10_left_6 rfl (by decide) ?_
  refine g_isub (v := nI ((lev n) - 1)) (q := 8) B dX10_left_7 rfl (pk_sub (by omega)) ?_
  refine g_ishl (v := nI (2 ^ (lev n - 1))) (q := 9) B dX10_left_8 rfl (shl_I _ (by omega)) ?_
  refine g_isub (v := nI (lft n)) (q := 10) B dX10_left_9 rfl (pk_sub (lft_le n hn hl)) ?_
  exact g_iret B E dX10_left_10 (⟨rfl, rfl⟩)
theorem ct_X10_right (g : Gv) (J : Jd g) {n : Nat} (hn : n < 31) (hl : 0 < lev n) : Ct g yX10_right (ws_ yX10_right cX10_right 1 (some .int)) 2 0 0 [.int (nI n)] [] (fun (rv_ : Option Value) (rL_ : List va_W) => rv_ = some (.int (nI (rgt n))) ∧ rL_ = []) noX := by
  refine Ct.of "Keygrove$Tree" [some (.int (nI n))] rfl (by decide) rfl (Nat.le_of_ble_eq_true rfl) rfl ?_
  intro κ B E tb
  have h4 := lev_4 n hn
  refine g_iload_n (q := 1) B dX10_right_0 rfl rfl ?_
  refine g_iconst (v := nI 1) (q := 2) B dX10_right_1 rfl (by decide) ?_
  refine g_iload_n (q := 3) B dX10_right_2 rfl rfl ?_
  refine g_callS (q := 6) (is := []) (kc2 := 0) (ks2 := 0) B [.int (nI n)] (ct_X10_level g J (n := n)  (by first | assumption | omega | rfl)) dX10_right_3 rfl q1796 q1797 q123 q1798 rfl rfl moX10_level rfl rfl (by decide) (by decide) (Nat.le_of_ble_eq_true rfl) (Nat.le_of_ble_eq_true rfl) (Nat.le_of_ble_eq_true rfl) (fun _ _ hx => noX_x hx) (fun v3 L1 hp3 => ?_)
  obtain ⟨rfl, rfl⟩ := hp3
  refine (show Go g κ 6 [some (.int (nI n))] [.int (nI (lev n)), .int (nI 1), .int (nI n)] [] 0 0 from ?_)
  refine g_iconst (v := nI 1) (q := 7) B dX10_right_6 rfl (by decide) ?_
  refine g_isub (v := nI ((lev n) - 1)) (q := 8) B dX10_right_7 rfl (pk_sub (by omega)) ?_
  refine g_ishl (v := nI (2 ^ (lev n - 1))) (q := 9) B dX10_right_8 rfl (shl_I _ (by omega)) ?_
  refine g_iadd (v := nI (rgt n)) (q := 10) B dX10_right_9 rfl (nI_add _ _) ?_
  exact g_iret B E dX10_right_10 (⟨rfl, rfl⟩)
theorem moX10_node : Mo yX10_node 2 := by
  refine ⟨by decide, by decide, by decide +kernel⟩
theorem ct_X10_above (g : Gv) (J : Jd g) {n : Nat} (hn : n < 31) : Ct g yX10_above (ws_ yX10_above cX10_above 2 (some .int)) 2 0 0 [.int (nI n)] [] (fun (rv_ : Option Value) (rL_ : List va_W) => rv_ = some (.int (nI (abv n))) ∧ rL_ = []) noX := by
  refine Ct.of "Keygrove$Tree" [some (.int (nI n)), none] rfl (by decide) rfl (Nat.le_of_ble_eq_true rfl) rfl ?_
  intro κ B E tb
  have h4 := lev_4 n hn
  refine g_iload_n (q := 1) B dX10_above_0 rfl rfl ?_
  refine g_callS (q := 4) (is := []) (kc2 := 0) (ks2 := 0) B [.int (nI n)] (ct_X10_level g J (n := n)  (by first | assumption | omega | rfl)) dX10_above_1 rfl q1796 q1797 q123 q1798 rfl rfl moX10_level rfl rfl (by decide) (by decide) (Nat.le_of_ble_eq_true rfl) (Nat.le_of_ble_eq_true rfl) (Nat.le_of_ble_eq_true rfl) (fun _ _ hx => noX_x hx) (fun v1 L1 hp1 => ?_)
  obtain ⟨rfl, rfl⟩ := hp1
  refine (show Go g κ 4 [some (.int (nI n)), none] [.int (nI (lev n))] [] 0 0 from ?_)
  refine g_istore_n (q := 5) (lv2 := [some (.int (nI n)), some (.int (nI (lev n)))]) B dX10_above_4 rfl (Nat.le_of_ble_eq_true rfl) rfl ?_
  refine g_iload_n (q := 6) B dX10_above_5 rfl rfl ?_
  refine g_iconst (v := nI 1) (q := 7) B dX10_above_6 rfl (by decide) ?_
  refine g_iadd (v := nI ((lev n) + 1)) (q := 8) B dX10_above_7 rfl (nI_add _ _) ?_
  refine g_iload_n (q := 9) B dX10_above_8 rfl rfl ?_
  refine g_iconst (v := nI 1) (q := 10) B dX10_above_9 rfl (by decide) ?_
  refine g_iadd (v := nI (n + 1)) (q := 11) B dX10_above_10 rfl (nI_add _ _) ?_
  refine g_iload_n (q := 12) B dX10_above_11 rfl rfl ?_
  refine g_iconst (v := nI 2) (q := 13) B dX10_above_12 rfl (by decide) ?_
  refine g_iadd (v := nI ((lev n) + 2)) (q := 14) B dX10_above_13 rfl (nI_add _ _) ?_
  refine g_ishr (v := nI ((n + 1) / 2 ^ (lev n + 2))) (q := 15) B dX10_above_14 rfl (shr_I _ (by omega) _ (by omega)) ?_
  refine g_callS (q := 18) (is := []) (kc2 := 0) (ks2 := 0) B [.int (nI ((lev n) + 1)), .int (nI ((n + 1) / 2 ^ (lev n + 2)))] (ct_X10_node g J (l := (lev n) + 1) (k := (n + 1) / 2 ^ (lev n + 2))  (by first | assumption | omega | rfl)) dX10_above_15 rfl q2507 q2508 q123 q2509 rfl rfl moX10_node rfl rfl (by decide) (by decide) (Nat.le_of_ble_eq_true rfl) (Nat.le_of_ble_eq_true rfl) (Nat.le_of_ble_eq_true rfl) (fun _ _ hx => noX_x hx) (fun v15 L1 hp15 => ?_)
  obtain ⟨rfl, rfl⟩ := hp15
  refine (show Go g κ 18 [some (.int (nI n)), some (.int (nI (lev n)))] [.int (nI (ndA ((lev n) + 1) ((n + 1) / 2 ^ (lev n + 2))))] [] 0 0 from ?_)
  exact g_iret B E dX10_above_18 (⟨rfl, rfl⟩)
theorem ct_X10_covers (g : Gv) (J : Jd g) {n : Nat} {l : Nat} (hn : n < 31) (hl : l < 16) : Ct g yX10_covers (ws_ yX10_covers cX10_covers 3 (some .boolean)) 2 0 0 [.int (nI n), .int (nI l)] [] (fun (rv_ : Option Value) (rL_ : List va_W) => rv_ = some (.int (nI (if cvr n l = true then 1 else 0))) ∧ rL_ = []) noX := by
  refine Ct.of "Keygrove$Tree" [some (.int (nI n)), some (.int (nI l)), none] rfl (by decide) rfl (Nat.le_of_ble_eq_true rfl) rfl ?_
  intro κ B E tb
  have h4 := lev_4 n hn
  refine g_iload_n (q := 1) B dX10_covers_0 rfl rfl ?_
  refine g_callS (q := 4) (is := []) (kc2 := 0) (ks2 := 0) B [.int (nI n)] (ct_X10_level g J (n := n)  (by first | assumption | omega | rfl)) dX10_covers_1 rfl q1796 q1797 q123 q1798 rfl rfl moX10_level rfl rfl (by decide) (by decide) (Nat.le_of_ble_eq_true rfl) (Nat.le_of_ble_eq_true rfl) (Nat.le_of_ble_eq_true rfl) (fun _ _ hx => noX_x hx) (fun v1 L1 hp1 => ?_)
  obtain ⟨rfl, rfl⟩ := hp1
  refine (show Go g κ 4 [some (.int (nI n)), some (.int (nI l)), none] [.int (nI (lev n))] [] 0 0 from ?_)
  refine g_istore_n (q := 5) (lv2 := [some (.int (nI n)), some (.int (nI l)), some (.int (nI (lev n)))]) B dX10_covers_4 rfl (Nat.le_of_ble_eq_true rfl) rfl ?_
  refine g_iload_n (q := 6) B dX10_covers_5 rfl rfl ?_
  refine g_iload_n (q := 7) B dX10_covers_6 rfl rfl ?_
  refine g_ishr (v := nI (l / 2 ^ lev n)) (q := 8) B dX10_covers_7 rfl (shr_I _ (by omega) _ (by omega)) ?_
  refine g_iload_n (q := 9) B dX10_covers_8 rfl rfl ?_
  refine g_iconst (v := nI 1) (q := 10) B dX10_covers_9 rfl (by decide) ?_
  refine g_iadd (v := nI (n + 1)) (q := 11) B dX10_covers_10 rfl (nI_add _ _) ?_
  refine g_iload_n (q := 12) B dX10_covers_11 rfl rfl ?_
  refine g_iconst (v := nI 1) (q := 13) B dX10_covers_12 rfl (by decide) ?_
  refine g_iadd (v := nI ((lev n) + 1)) (q := 14) B dX10_covers_13 rfl (nI_add _ _) ?_
  refine g_ishr (v := nI ((n + 1) / 2 ^ (lev n + 1))) (q := 15) B dX10_covers_14 rfl (shr_I _ (by omega) _ (by omega)) ?_
  refine g_icmp_ne (tgt := 22) (q := 18) B dX10_covers_15 rfl (by decide) (cvr_n hn hl) (fun c15 => ?_) (fun c15 => ?_)
  · skip
    refine g_iconst (v := nI 0) (q := 23) B dX10_covers_22 rfl (by decide) ?_
    exact g_zret B E dX10_covers_23 (by decide) (⟨bo0 (by first | assumption | omega | (simp_all; done)), rfl⟩)
  · skip
    refine g_iconst (v := nI 1) (q := 19) B dX10_covers_18 rfl (by decide) ?_
    refine g_goto (tgt := 23) B dX10_covers_19 (by decide) ?_
    exact g_zret B E dX10_covers_23 (by decide) (⟨bo1 (by first | assumption | omega | (simp_all; done)), rfl⟩)
