set_option maxRecDepth 100000
theorem m1_eq (x : Int32) : x + Int32.ofInt (-1) = x - nI 1 := by rw [Int32.sub_eq_add_neg]; rfl
theorem m1_p1 (x : Int32) : x - nI 1 + nI 1 = x := Int32.sub_add_cancel x (nI 1)
theorem m1_s (k : Nat) : nI (k + 1) - nI 1 = nI k := by rw [← nI_add]; exact Int32.add_sub_cancel _ _
theorem m1_lt {k : Nat} (hk : k < 2 ^ 31) : nI k - nI 1 < 0 ↔ k = 0 := by
  constructor
  · intro h
    refine Classical.byContradiction fun hc => ?_
    obtain ⟨j, rfl⟩ : ∃ j, k = j + 1 := ⟨k - 1, by omega⟩
    rw [m1_s] at h
    exact nI_pos (by omega) h
  · rintro rfl; decide
theorem an_w (S T : Nat → Bool) (k : Nat) : lN (wd S k) &&& (lN (wd T k) ^^^ (-1)) = lN (wd (fun j => S j && !T j) k) := by
  apply wb_inj
  rw [Int64.toBitVec_and, Int64.toBitVec_xor, wb_tb, wb_tb, wb_tb, show (-1 : Int64).toBitVec = BitVec.allOnes 64 from rfl]
  apply BitVec.eq_of_toNat_eq
  rw [BitVec.toNat_and, BitVec.toNat_xor, BitVec.toNat_ofNat, BitVec.toNat_ofNat, BitVec.toNat_ofNat, BitVec.toNat_allOnes, Nat.mod_eq_of_lt (wd_lt _ _), Nat.mod_eq_of_lt (wd_lt _ _), Nat.mod_eq_of_lt (wd_lt _ _)]
  apply Nat.eq_of_testBit_eq
  intro i
  rw [Nat.testBit_and, Nat.testBit_xor, wd_bit, wd_bit, wd_bit, Nat.testBit_two_pow_sub_one]
  by_cases hi : i < 64 <;> simp [hi]
theorem ct_J5_recalculateWordsInUse (g : Gv) (J : Jd g) {b : Nat} {arr : Nat} {S : Nat → Bool} {n : Nat} {cap : Nat} (hS : ∀ i, 64 * n ≤ i → S i = false) (hn : n ≤ cap) (hc : cap < 65536) : Ct g yJ5_recalculateWordsInUse (ws_ yJ5_recalculateWordsInUse cJ5_recalculateWordsInUse 2 none) 0 0 0 [.ref b] [[(b, .inr (26, [.ref arr, .int (nI n), .int (nI 0)]))], [(arr, .inl (g.2.1 3, cap, .inr (.inl (fun k => lN (wd S k)))))]] (fun (rv_ : Option Value) (rL_ : List va_W) => ∃ (n2 : Nat), rv_ = none ∧ rL_ = [[(b, .inr (26, [.ref arr, .int (nI n2), .int (nI 0)]))], [(arr, .inl (g.2.1 3, cap, .inr (.inl (fun k => lN (wd S k)))))]] ∧ n2 ≤ n ∧ ∀ i, 64 * n2 ≤ i → S i = false) noX := by
  refine Ct.of "java/util/BitSet" [some (.ref b), none] rfl (by decide) rfl (Nat.le_of_ble_eq_true rfl) rfl ?_
  intro κ B E tb
  refine g_aload_n (q := 1) B dJ5_recalculateWordsInUse_0 rfl rfl (rv_r _) ?_
  refine g_get (q := 4) B (ci := 26) (k := 0) (j := 1) in_J5 rfl dJ5_recalculateWordsInUse_1 rfl rfl (Nat.le_of_ble_eq_true rfl) q266 rfl rfl ?_
  refine g_iconst (v := nI 1) (q := 5) B dJ5_recalculateWordsInUse_4 rfl (by decide) ?_
  refine g_isub (v := nI n - nI 1) (q := 6) B dJ5_recalculateWordsInUse_5 rfl rfl ?_
  refine g_istore_n (q := 7) (lv2 := [some (.ref b), some (.int (nI n - nI 1))]) B dJ5_recalculateWordsInUse_6 rfl (Nat.le_of_ble_eq_true rfl) rfl ?_
  have lp7 : ∀ (n7 : Nat) (k : Nat) , (k ≤ n) → (∀ i, 64 * k ≤ i → S i = false) → k = n7 → Go g κ 7 [some (.ref b), some (.int (nI k - nI 1))] [] [[(b, .inr (26, [.ref arr, .int (nI n), .int (nI 0)]))], [(arr, .inl (g.2.1 3, cap, .inr (.inl (fun k => lN (wd S k)))))]] 0 0 := by
    intro n7
    induction n7 using Nat.strongRecOn with
    | _ n7 ih7 =>
    intro k  hk hz hmu7
    refine g_iload_n (q := 8) B dJ5_recalculateWordsInUse_7 rfl rfl ?_
    refine g_if_lt (tgt := 31) (q := 11) B dJ5_recalculateWordsInUse_8 rfl (by decide) (m1_lt (by omega)) (fun c8 => ?_) (fun c8 => ?_)
    · skip
      refine g_aload_n (q := 32) B dJ5_recalculateWordsInUse_31 rfl rfl (rv_r _) ?_
      refine g_iload_n (q := 33) B dJ5_recalculateWordsInUse_32 rfl rfl ?_
      refine g_iconst (v := nI 1) (q := 34) B dJ5_recalculateWordsInUse_33 rfl (by decide) ?_
      refine g_iadd (v := nI k) (q := 35) B dJ5_recalculateWordsInUse_34 rfl (m1_p1 _) ?_
      refine g_put (q := 38) (L2 := [[(b, .inr (26, [.ref arr, .int (nI k), .int (nI 0)]))], [(arr, .inl (g.2.1 3, cap, .inr (.inl (fun k => lN (wd S k)))))]]) B (ci := 26) (k := 0) (j := 1) in_J5 tyJ5 tyJ5_ok nmJ5 rfl dJ5_recalculateWordsInUse_35 rfl rfl (Nat.le_of_ble_eq_true rfl) q266 rfl rfl rfl rfl (Nat.le_of_ble_eq_true rfl) rfl ?_
      exact g_vret B E dJ5_recalculateWordsInUse_38 (⟨k, rfl, rfl, by first | assumption | omega | rfl | simp_all, by assumption⟩)
    · skip
      obtain ⟨k', rfl⟩ : ∃ j, k = j + 1 := ⟨k - 1, by omega⟩
      rw [m1_s]
      have hk' : k' < n := by omega
      refine (show Go g κ 11 [some (.ref b), some (.int (nI k'))] [] [[(b, .inr (26, [.ref arr, .int (nI n), .int (nI 0)]))], [(arr, .inl (g.2.1 3, cap, .inr (.inl (fun k => lN (wd S k)))))]] 0 0 from ?_)
      refine g_aload_n (q := 12) B dJ5_recalculateWordsInUse_11 rfl rfl (rv_r _) ?_
      refine g_get (q := 15) B (ci := 26) (k := 0) (j := 0) in_J5 rfl dJ5_recalculateWordsInUse_12 rfl rfl (Nat.le_of_ble_eq_true rfl) q265 rfl rfl ?_
      refine g_iload_n (q := 16) B dJ5_recalculateWordsInUse_15 rfl rfl ?_
      refine g_lald (v := lN (wd S k')) (q := 17) B (k := 1) dJ5_recalculateWordsInUse_16 rfl rfl (vp_in_nI (by omega) (by omega)) (by rw [nI_clamp (by omega)]) ?_
      refine g_lconst (v := 0) (q := 18) B dJ5_recalculateWordsInUse_17 rfl (by decide) ?_
      refine g_lcmp (v := lg_cmp (lN (wd S k')) 0) (q := 19) B dJ5_recalculateWordsInUse_18 rfl rfl ?_
      refine g_if_eq (tgt := 25) (q := 22) B dJ5_recalculateWordsInUse_19 rfl (by decide) (lcmp0 (wd_lt _ _)) (fun c19 => ?_) (fun c19 => ?_)
      · skip
        refine g_iinc (v := nI k' - nI 1) (q := 28) (lv2 := [some (.ref b), some (.int (nI k' - nI 1))]) B dJ5_recalculateWordsInUse_25 rfl rfl (m1_eq _) (Nat.le_of_ble_eq_true rfl) rfl ?_
        refine g_goto (tgt := 7) B dJ5_recalculateWordsInUse_28 (by decide) ?_
        exact ih7 _ (by omega) k' (by first | assumption | omega | rfl) (fun i hi => by
          rcases Nat.lt_or_ge i (64 * (k' + 1)) with h | h
          · have := wd_ne.mp c19 (i - 64 * k') (by omega); rwa [show 64 * k' + (i - 64 * k') = i by omega] at this
          · exact hz i h) rfl
      · skip
        refine g_goto (tgt := 31) B dJ5_recalculateWordsInUse_22 (by decide) ?_
        refine g_aload_n (q := 32) B dJ5_recalculateWordsInUse_31 rfl rfl (rv_r _) ?_
        refine g_iload_n (q := 33) B dJ5_recalculateWordsInUse_32 rfl rfl ?_
        refine g_iconst (v := nI 1) (q := 34) B dJ5_recalculateWordsInUse_33 rfl (by decide) ?_
        refine g_iadd (v := nI (k' + 1)) (q := 35) B dJ5_recalculateWordsInUse_34 rfl (nI_add _ _) ?_
        refine g_put (q := 38) (L2 := [[(b, .inr (26, [.ref arr, .int (nI (k' + 1)), .int (nI 0)]))], [(arr, .inl (g.2.1 3, cap, .inr (.inl (fun k => lN (wd S k)))))]]) B (ci := 26) (k := 0) (j := 1) in_J5 tyJ5 tyJ5_ok nmJ5 rfl dJ5_recalculateWordsInUse_35 rfl rfl (Nat.le_of_ble_eq_true rfl) q266 rfl rfl rfl rfl (Nat.le_of_ble_eq_true rfl) rfl ?_
        exact g_vret B E dJ5_recalculateWordsInUse_38 (⟨k' + 1, rfl, rfl, by first | assumption | omega | rfl | simp_all, by assumption⟩)
  exact lp7 _ n (by first | assumption | omega | rfl) (hS) rfl
def anW (S T : Nat → Bool) (k j : Nat) : Nat := if k ≤ j then wd (fun j => S j && !T j) j else wd S j
theorem anW_n {S T : Nat → Bool} {n m : Nat} (h1 : ∀ i, 64 * n ≤ i → S i = false) (h2 : ∀ i, 64 * m ≤ i → T i = false) : (fun j => lN (wd S j)) = fun j => lN (anW S T (min n m) j) := by
  funext j
  unfold anW
  split
  · congr 1
    rename_i h
    apply wd_eq
    intro i
    rw [wd_bit]
    by_cases hi : i < 64
    · rcases Nat.lt_or_ge j n with h3 | h3
      · simp [h2 (64 * j + i) (by omega)]
      · simp [h1 (64 * j + i) (by omega)]
    · simp [hi]
  · rfl
theorem anW_0 (S T : Nat → Bool) : (fun j => lN (anW S T 0 j)) = fun j => lN (wd (fun j => S j && !T j) j) := by
  funext j; rw [anW, if_pos (Nat.zero_le _)]
theorem anW_lt {S T : Nat → Bool} {k j : Nat} (h : j < k) : anW S T k j = wd S j := if_neg (by omega)
theorem anW_up (S T : Nat → Bool) (k : Nat) : vp_updL (fun j => lN (anW S T (k + 1) j)) k (lN (wd (fun j => S j && !T j) k)) = fun j => lN (anW S T k j) := by
  funext j
  unfold vp_updL anW
  by_cases h : j = k
  · rw [if_pos h, h, if_pos (Nat.le_refl _)]
  · rw [if_neg h]
    dsimp only
    by_cases h2 : k + 1 ≤ j
    · rw [if_pos h2, if_pos (by omega)]
    · rw [if_neg h2, if_neg (by omega)]
def orW (S T : Nat → Bool) (k j : Nat) : Nat := if j < k then wd (fun j => S j || T j) j else wd S j
theorem orW_0 (S T : Nat → Bool) : (fun j => lN (wd S j)) = fun j => lN (orW S T 0 j) := by
  funext j; rw [orW, if_neg (Nat.not_lt_zero _)]
theorem wd_orl {S T : Nat → Bool} {j : Nat} (h : ∀ i, 64 * j ≤ i → T i = false) : wd (fun j => S j || T j) j = wd S j := by
  rw [← wd_or, (wd_0 (S := T) fun i _ => h _ (by omega)), Nat.or_zero]
theorem wd_orr {S T : Nat → Bool} {j : Nat} (h : ∀ i, 64 * j ≤ i → S i = false) : wd (fun j => S j || T j) j = wd T j := by
  rw [← wd_or, (wd_0 (S := S) fun i _ => h _ (by omega)), Nat.zero_or]
theorem orW_m {S T : Nat → Bool} {m : Nat} (h2 : ∀ i, 64 * m ≤ i → T i = false) : (fun j => lN (orW S T m j)) = fun j => lN (wd (fun j => S j || T j) j) := by
  funext j
  unfold orW
  split
  · rfl
  · rw [wd_orl fun i hi => h2 i (by omega)]
theorem orW_c {S T : Nat → Bool} {n m : Nat} (hnm : n < m) (h1 : ∀ i, 64 * n ≤ i → S i = false) (h2 : ∀ i, 64 * m ≤ i → T i = false) : va_cpy (fun j => lN (wd T j)) (fun j => lN (orW S T n j)) n n (m - n) = fun j => lN (wd (fun j => S j || T j) j) := by
  funext j
  unfold va_cpy orW
  by_cases h : n ≤ j ∧ j < n + (m - n)
  · rw [if_pos h, show n + (j - n) = j by omega, wd_orr fun i hi => h1 i (by omega)]
  · rw [if_neg h]
    dsimp only
    split
    · rfl
    · rw [wd_orl fun i hi => h2 i (by omega)]
theorem orW_ge {S T : Nat → Bool} {k j : Nat} (h : k ≤ j) : orW S T k j = wd S j := if_neg (by omega)
theorem orW_up (S T : Nat → Bool) (k : Nat) : vp_updL (fun j => lN (orW S T k j)) k (lN (wd (fun j => S j || T j) k)) = fun j => lN (orW S T (k + 1) j) := by
  funext j
  unfold vp_updL orW
  by_cases h : j = k
  · rw [if_pos h, h, if_pos (Nat.lt_succ_self _)]
  · rw [if_neg h]
    dsimp only
    by_cases h2 : j < k
    · rw [if_pos h2, if_pos (by omega)]
    · rw [if_neg h2, if_neg (by omega)]
theorem moJ5_recalculateWordsInUse : Mo yJ5_recalculateWordsInUse 0 := by
  refine ⟨by decide, by decide, by decide +kernel⟩
theorem ct_J5_andNot (g : Gv) (J : Jd g) {b : Nat} {S : Nat → Bool} {cap : Nat} {c : Nat} {T : Nat → Bool} {cap2 : Nat} {w0 : va_W} {w1 : va_W} (hw0 : SetP g b S cap w0) (hw1 : SetP g c T cap2 w1) : Ct g yJ5_andNot (ws_ yJ5_andNot cJ5_andNot 3 none) 1 0 0 [.ref b, .ref c] [w0, w1] (fun (rv_ : Option Value) (rL_ : List va_W) => ∃ (u0 : va_W), rv_ = none ∧ rL_ = [u0, w1] ∧ SetP g b (fun j => S j && !T j) cap u0) noX := by
  refine Ct.of "java/util/BitSet" [some (.ref b), some (.ref c), none] rfl (by decide) rfl (Nat.le_of_ble_eq_true rfl) rfl ?_
  intro κ B E tb
  obtain ⟨nc, arrc, hnc, hc0c, hc1c, hSc, hpbc, hpac⟩ := SetP.cell hw1
  obtain ⟨n, arr, hn, hc0, hc1, hS, rfl⟩ := hw0
  refine g_open 0 rfl rfl rfl ?_
  refine (show Go g κ 0 [some (.ref b), some (.ref c), none] [] [w1, [(b, .inr (26, [.ref arr, .int (nI n), .int (nI 0)]))], [(arr, .inl (g.2.1 3, cap, .inr (.inl (fun k => lN (wd S k)))))]] 0 0 from ?_)
  refine g_aload_n (q := 1) B dJ5_andNot_0 rfl rfl (rv_r _) ?_
  refine g_get (q := 4) B (ci := 26) (k := 1) (j := 1) in_J5 rfl dJ5_andNot_1 rfl rfl (Nat.le_of_ble_eq_true rfl) q266 rfl rfl ?_
  refine g_aload_n (q := 5) B dJ5_andNot_4 rfl rfl (rv_r _) ?_
  refine g_getM (q := 8) B (ci := 26) (k := 0) (j := 1) in_J5 rfl dJ5_andNot_5 rfl rfl (hpbc) (Nat.le_of_ble_eq_true rfl) q266 rfl rfl ?_
  refine g_mmin (q := 11) B q2021 dJ5_andNot_8 rfl rfl (Nat.le_of_ble_eq_true rfl) (by omega) (by omega) ?_
  refine g_iconst (v := nI 1) (q := 12) B dJ5_andNot_11 rfl (by decide) ?_
  refine g_isub (v := nI (min n nc) - nI 1) (q := 13) B dJ5_andNot_12 rfl rfl ?_
  refine g_istore_n (q := 14) (lv2 := [some (.ref b), some (.ref c), some (.int (nI (min n nc) - nI 1))]) B dJ5_andNot_13 rfl (Nat.le_of_ble_eq_true rfl) rfl ?_
  have lp14 : ∀ (n14 : Nat) (k : Nat) , (k ≤ min n nc) → k = n14 → Go g κ 14 [some (.ref b), some (.ref c), some (.int (nI k - nI 1))] [] [w1, [(b, .inr (26, [.ref arr, .int (nI n), .int (nI 0)]))], [(arr, .inl (g.2.1 3, cap, .inr (.inl (fun j => lN (anW S T k j)))))]] 0 0 := by
    intro n14
    induction n14 using Nat.strongRecOn with
    | _ n14 ih14 =>
    intro k  hk hmu14
    refine g_iload_n (q := 15) B dJ5_andNot_14 rfl rfl ?_
    refine g_if_lt (tgt := 43) (q := 18) B dJ5_andNot_15 rfl (by decide) (m1_lt (by omega)) (fun c15 => ?_) (fun c15 => ?_)
    · skip
      subst c15
      rw [anW_0]
      refine (show Go g κ 43 [some (.ref b), some (.ref c), some (.int (nI 0 - nI 1))] [] [w1, [(b, .inr (26, [.ref arr, .int (nI n), .int (nI 0)]))], [(arr, .inl (g.2.1 3, cap, .inr (.inl (fun k => lN (wd (fun j => S j && !T j) k)))))]] 0 0 from ?_)
      refine g_aload_n (q := 44) B dJ5_andNot_43 rfl rfl (rv_r _) ?_
      refine g_callV (q := 47) (is := [1, 1]) (kc2 := 0) (ks2 := 0) B [] (ct_J5_recalculateWordsInUse g J (b := b) (arr := arr) (S := fun j => S j && !T j) (n := n) (cap := cap)  (fun i hi => by simp [hS i hi]) (by first | assumption | omega | rfl) (by first | assumption | omega | rfl)) dJ5_andNot_44 rfl (rc_at B (ci := 26) rfl (k := 1) rfl) rfl q2983 q2985 qs48 q84 q2986 rfl rfl moJ5_recalculateWordsInUse rfl rfl (by decide) (by decide) (Nat.le_of_ble_eq_true rfl) (Nat.le_of_ble_eq_true rfl) (Nat.le_of_ble_eq_true rfl) (fun _ _ hx => noX_x hx) (fun v44 L1 hp44 => ?_)
      obtain ⟨n244, rfl, rfl, hn2_44, hS2_44⟩ := hp44
      refine (show Go g κ 47 [some (.ref b), some (.ref c), some (.int (nI 0 - nI 1))] [] [w1, [(b, .inr (26, [.ref arr, .int (nI n244), .int (nI 0)]))], [(arr, .inl (g.2.1 3, cap, .inr (.inl (fun k => lN (wd (fun j => S j && !T j) k)))))]] 0 0 from ?_)
      refine g_aload_n (q := 48) B dJ5_andNot_47 rfl rfl (rv_r _) ?_
      refine g_callV (q := 51) (is := []) (kc2 := 0) (ks2 := 0) B [] (ct_J5_checkInvariants g J (b := b)  ) dJ5_andNot_48 rfl (rc_at B (ci := 26) rfl (k := 1) rfl) rfl q671 q673 qs2 q84 q674 rfl rfl moJ5_checkInvariants rfl rfl (by decide) (by decide) (Nat.le_of_ble_eq_true rfl) (Nat.le_of_ble_eq_true rfl) (Nat.le_of_ble_eq_true rfl) (fun _ _ hx => noX_x hx) (fun v48 L1 hp48 => ?_)
      obtain ⟨rfl, rfl⟩ := hp48
      refine (show Go g κ 51 [some (.ref b), some (.ref c), some (.int (nI 0 - nI 1))] [] [w1, [(b, .inr (26, [.ref arr, .int (nI n244), .int (nI 0)]))], [(arr, .inl (g.2.1 3, cap, .inr (.inl (fun k => lN (wd (fun j => S j && !T j) k)))))]] 0 0 from ?_)
      obtain ⟨wc_1, ewc_1⟩ : ∃ w : va_W, w = ([[(b, .inr (26, [.ref arr, .int (nI n244), .int (nI 0)]))], [(arr, .inl (g.2.1 3, cap, .inr (.inl (fun k => lN (wd (fun j => S j && !T j) k)))))]] : List va_W).flatten := ⟨_, rfl⟩
      have hwc_1 : SetP g b (fun j => S j && !T j) cap wc_1 := by
        rw [ewc_1]
        exact ⟨n244, arr, by omega, by omega, by omega, hS2_44, rfl⟩
      refine g_close (w := wc_1) [1, 1] rfl ewc_1 rfl ?_
      refine (show Go g κ 51 [some (.ref b), some (.ref c), some (.int (nI 0 - nI 1))] [] [w1, wc_1] 0 0 from ?_)
      refine g_pk [1, 0] rfl rfl ?_
      refine (show Go g κ 51 [some (.ref b), some (.ref c), some (.int (nI 0 - nI 1))] [] [wc_1, w1] 0 0 from ?_)
      exact g_vret B E dJ5_andNot_51 (⟨wc_1, rfl, rfl, hwc_1⟩)
    · skip
      obtain ⟨k', rfl⟩ : ∃ j, k = j + 1 := ⟨k - 1, by omega⟩
      rw [m1_s]
      have hk' : k' < min n nc := by omega
      refine (show Go g κ 18 [some (.ref b), some (.ref c), some (.int (nI k'))] [] [w1, [(b, .inr (26, [.ref arr, .int (nI n), .int (nI 0)]))], [(arr, .inl (g.2.1 3, cap, .inr (.inl (fun j => lN (anW S T (k' + 1) j)))))]] 0 0 from ?_)
      refine g_aload_n (q := 19) B dJ5_andNot_18 rfl rfl (rv_r _) ?_
      refine g_get (q := 22) B (ci := 26) (k := 1) (j := 0) in_J5 rfl dJ5_andNot_19 rfl rfl (Nat.le_of_ble_eq_true rfl) q265 rfl rfl ?_
      refine g_iload_n (q := 23) B dJ5_andNot_22 rfl rfl ?_
      refine g_dup2_11 (q := 24) B dJ5_andNot_23 rfl rfl rfl ?_
      refine g_lald (v := lN (wd S k')) (q := 25) B (k := 2) dJ5_andNot_24 rfl rfl (vp_in_nI (by omega) (by omega)) (by rw [nI_clamp (by omega), anW_lt (Nat.lt_succ_self _)]) ?_
      refine g_aload_n (q := 26) B dJ5_andNot_25 rfl rfl (rv_r _) ?_
      refine g_getM (q := 29) B (ci := 26) (k := 0) (j := 0) in_J5 rfl dJ5_andNot_26 rfl rfl (hpbc) (Nat.le_of_ble_eq_true rfl) q265 rfl rfl ?_
      refine g_iload_n (q := 30) B dJ5_andNot_29 rfl rfl ?_
      refine g_laldM (v := lN (wd T k')) (q := 31) B (k := 0) dJ5_andNot_30 rfl rfl (hpac) (vp_in_nI (by omega) (by omega)) (by rw [nI_clamp (by omega)]) ?_
      refine g_ldc2 (v := -1) (q := 34) B dJ5_andNot_31 rfl q677 ?_
      refine g_lxor (v := lN (wd T k') ^^^ (-1)) (q := 35) B dJ5_andNot_34 rfl rfl ?_
      refine g_land (v := lN (wd (fun j => S j && !T j) k')) (q := 36) B dJ5_andNot_35 rfl (an_w _ _ _) ?_
      refine g_last (q := 37) (L2 := [w1, [(b, .inr (26, [.ref arr, .int (nI n), .int (nI 0)]))], [(arr, .inl (g.2.1 3, cap, .inr (.inl (fun j => lN (anW S T k' j)))))]]) B (k := 2) dJ5_andNot_36 rfl rfl (vp_in_nI (by omega) (by omega)) ?_ ?_
      · rw [nI_clamp (by omega), anW_up]
        rfl
      refine (show Go g κ 37 [some (.ref b), some (.ref c), some (.int (nI k'))] [] [w1, [(b, .inr (26, [.ref arr, .int (nI n), .int (nI 0)]))], [(arr, .inl (g.2.1 3, cap, .inr (.inl (fun j => lN (anW S T k' j)))))]] 0 0 from ?_)
      refine g_iinc (v := nI k' - nI 1) (q := 40) (lv2 := [some (.ref b), some (.ref c), some (.int (nI k' - nI 1))]) B dJ5_andNot_37 rfl rfl (m1_eq _) (Nat.le_of_ble_eq_true rfl) rfl ?_
      refine g_goto (tgt := 14) B dJ5_andNot_40 (by decide) ?_
      exact ih14 _ (by omega) k' (by first | assumption | omega | rfl) rfl
  rw [anW_n hS hSc]
  refine (show Go g κ 14 [some (.ref b), some (.ref c), some (.int (nI (min n nc) - nI 1))] [] [w1, [(b, .inr (26, [.ref arr, .int (nI n), .int (nI 0)]))], [(arr, .inl (g.2.1 3, cap, .inr (.inl (fun j => lN (anW S T (min n nc) j)))))]] 0 0 from ?_)
  exact lp14 _ (min n nc) (by first | assumption | omega | rfl) rfl
section
variable {g : Gv} {κ : Kx} {own : String} {cc : ByteArray} {nL : Nat} {ret : Option FieldType} {lvl : Nat} {pc q : Nat} {lv : List (Option Value)} {st : List Value} {L : List va_W} {kc ks : Nat}
theorem g_copyLM (B : Fx g κ own cc nL ret lvl) {k0 k1 a0 a n0 n1 index : Nat} {f h : Nat → Int64} {sp dp n : Int32} {L2 : List va_W} {w : va_W} (hw : CpW own index) (hL0 : L[k0]? = some w) (hm : (a0, .inl (g.2.1 3, n0, .inr (.inl f))) ∈ w) (hL1 : L[k1]? = some [(a, .inl (g.2.1 3, n1, .inr (.inl h)))]) (h1 : ¬ sp < 0) (h2 : ¬ dp < 0) (h3 : ¬ n < 0) (h4 : sp.toNatClampNeg + n.toNatClampNeg ≤ n0) (h5 : dp.toNatClampNeg + n.toNatClampNeg ≤ n1)
    (d : decode cc pc = .ok (.invokestatic index, 3)) (hq : pc + 3 = q) (hlen : lv.length = nL) (h8 : (st.map fun v => v.category).sum ≤ 8) (hL2 : L.set k1 [(a, .inl (g.2.1 3, n1, .inr (.inl (va_cpy f h sp.toNatClampNeg dp.toNatClampNeg n.toNatClampNeg))))] = L2) (kk : Go g κ q lv st L2 kc ks) : Go g κ pc lv (.int n :: .int dp :: .ref a :: .int sp :: .ref a0 :: st) L kc ks := by
  obtain ⟨p, l, e, R, s, m, args, below, meth, c, A, mc, ms, Q⟩ := κ
  obtain ⟨⟨hx, hb, hml, hown, hts⟩, ⟨-, hlk⟩, ⟨hst, hE, hA⟩, hR1, hR2, hR3, hR4⟩ := B
  obtain ⟨w1, w2, w3, w4⟩ := hw
  subst hq
  intro H locs cells slots ls z1 z2 z3 z4 z5
  obtain ⟨j0, hj0⟩ := List.mem_iff_getElem?.mp (List.mem_flatten.mpr ⟨w, List.mem_of_getElem? hL0, hm⟩)
  obtain ⟨j1, hj1, hi2⟩ := fl_at hL1
  exact va_copyl hx hb (by rw [hml, z1.1, hlen]) hown (hts _ w1) (hts _ w2) (hts _ w3) (hts _ w4) hE.1 z4.1 z4.2 z5 j0 j1 3 3 hj0 hj1 rfl rfl rfl h1 h2 h3 h4 h5 (fun _ _ => rfl) (by omega) (cp_room h8 hR2) d (fun H1 locs1 w1 w2 w3 => kk H1 locs1 cells slots ls z1 z2 z3 ⟨by rw [← hL2, ← hi2]; exact w1, by rw [← hL2, ← hi2]; exact w2⟩ w3)
end
theorem ct_J5_or (g : Gv) (J : Jd g) {b : Nat} {S : Nat → Bool} {cap : Nat} {c : Nat} {T : Nat → Bool} {cap2 : Nat} {mc : Nat} {ms : Nat} {w0 : va_W} {w1 : va_W} (hw0 : SetP g b S cap w0) (hw1 : SetP g c T cap2 w1) (hcb : cap < 32768) (hcb2 : cap2 < 32768) (hmc : cap < cap2 → 1 ≤ mc ∧ max (2 * cap) cap2 ≤ ms) : Ct g yJ5_or (ws_ yJ5_or cJ5_or 4 none) 3 mc ms [.ref b, .ref c] [w0, w1] (fun (rv_ : Option Value) (rL_ : List va_W) => ∃ (cap3 : Nat) (u0 : va_W), rv_ = none ∧ rL_ = [u0, w1] ∧ SetP g b (fun j => S j || T j) cap3 u0 ∧ cap ≤ cap3 ∧ (cap2 ≤ cap → cap3 = cap) ∧ (cap < cap2 → cap3 ≤ max (2 * cap) cap2)) noX := by
  refine Ct.of "java/util/BitSet" [some (.ref b), some (.ref c), none, none] rfl (by decide) rfl (Nat.le_of_ble_eq_true rfl) rfl ?_
  intro κ B E tb
  obtain ⟨n, arr, hn, hc0, hc1, hS, hpb, hpa⟩ := SetP.cell hw0
  obtain ⟨nc, arrc, hnc, hc0c, hc1c, hSc, hpbc, hpac⟩ := SetP.cell hw1
  refine g_ne (La := []) (Lb := []) 0 0 rfl hpb hpbc (fun hbc => ?_)
  clear hpb hpa
  clear hS hn hc0 hc1 arr n
  obtain ⟨n, arr, hn, hc0, hc1, hS, rfl⟩ := hw0
  refine g_open 0 rfl rfl rfl ?_
  refine (show Go g κ 0 [some (.ref b), some (.ref c), none, none] [] [w1, [(b, .inr (26, [.ref arr, .int (nI n), .int (nI 0)]))], [(arr, .inl (g.2.1 3, cap, .inr (.inl (fun k => lN (wd S k)))))]] mc ms from ?_)
  refine g_aload_n (q := 1) B dJ5_or_0 rfl rfl (rv_r _) ?_
  refine g_aload_n (q := 2) B dJ5_or_1 rfl rfl (rv_r _) ?_
  refine g_acmp_ne (rx := some b) (ry := some c) (tgt := 6) (q := 5) B dJ5_or_2 rfl (by decide) rfl rfl (iff_true_intro (fun e => hbc (Option.some.inj e))) (fun _ => ?_) (fun z => absurd trivial z)
  refine g_aload_n (q := 7) B dJ5_or_6 rfl rfl (rv_r _) ?_
  refine g_get (q := 10) B (ci := 26) (k := 1) (j := 1) in_J5 rfl dJ5_or_7 rfl rfl (Nat.le_of_ble_eq_true rfl) q266 rfl rfl ?_
  refine g_aload_n (q := 11) B dJ5_or_10 rfl rfl (rv_r _) ?_
  refine g_getM (q := 14) B (ci := 26) (k := 0) (j := 1) in_J5 rfl dJ5_or_11 rfl rfl (hpbc) (Nat.le_of_ble_eq_true rfl) q266 rfl rfl ?_
  refine g_mmin (q := 17) B q2021 dJ5_or_14 rfl rfl (Nat.le_of_ble_eq_true rfl) (by omega) (by omega) ?_
  refine g_istore_n (q := 18) (lv2 := [some (.ref b), some (.ref c), some (.int (nI (min n nc))), none]) B dJ5_or_17 rfl (Nat.le_of_ble_eq_true rfl) rfl ?_
  refine g_aload_n (q := 19) B dJ5_or_18 rfl rfl (rv_r _) ?_
  refine g_get (q := 22) B (ci := 26) (k := 1) (j := 1) in_J5 rfl dJ5_or_19 rfl rfl (Nat.le_of_ble_eq_true rfl) q266 rfl rfl ?_
  refine g_aload_n (q := 23) B dJ5_or_22 rfl rfl (rv_r _) ?_
  refine g_getM (q := 26) B (ci := 26) (k := 0) (j := 1) in_J5 rfl dJ5_or_23 rfl rfl (hpbc) (Nat.le_of_ble_eq_true rfl) q266 rfl rfl ?_
  refine g_icmp_ge (tgt := 45) (q := 29) B dJ5_or_26 rfl (by decide) (nI_leI (by omega) (by omega)) (fun c26 => ?_) (fun c26 => ?_)
  · skip
    rw [(show min n nc = nc from by omega)]
    refine (show Go g κ 45 [some (.ref b), some (.ref c), some (.int (nI nc)), none] [] [w1, [(b, .inr (26, [.ref arr, .int (nI n), .int (nI 0)]))], [(arr, .inl (g.2.1 3, cap, .inr (.inl (fun k => lN (wd S k)))))]] mc ms from ?_)
    refine g_iconst (v := nI 0) (q := 46) B dJ5_or_45 rfl (by decide) ?_
    refine g_istore_n (q := 47) (lv2 := [some (.ref b), some (.ref c), some (.int (nI nc)), some (.int (nI 0))]) B dJ5_or_46 rfl (Nat.le_of_ble_eq_true rfl) rfl ?_
    have lp47 : ∀ (n47 : Nat) (k : Nat) , (k ≤ nc) → nc - k = n47 → Go g κ 47 [some (.ref b), some (.ref c), some (.int (nI nc)), some (.int (nI k))] [] [w1, [(b, .inr (26, [.ref arr, .int (nI n), .int (nI 0)]))], [(arr, .inl (g.2.1 3, cap, .inr (.inl (fun j => lN (orW S T k j)))))]] mc ms := by
      intro n47
      induction n47 using Nat.strongRecOn with
      | _ n47 ih47 =>
      intro k  hk hmu47
      refine g_iload_n (q := 48) B dJ5_or_47 rfl rfl ?_
      refine g_iload_n (q := 49) B dJ5_or_48 rfl rfl ?_
      refine g_icmp_ge (tgt := 73) (q := 52) B dJ5_or_49 rfl (by decide) (nI_leI (by omega) (by omega)) (fun c49 => ?_) (fun c49 => ?_)
      · skip
        obtain rfl : nc = k := by omega
        rw [orW_m hSc]
        refine (show Go g κ 73 [some (.ref b), some (.ref c), some (.int (nI nc)), some (.int (nI nc))] [] [w1, [(b, .inr (26, [.ref arr, .int (nI n), .int (nI 0)]))], [(arr, .inl (g.2.1 3, cap, .inr (.inl (fun k => lN (wd (fun j => S j || T j) k)))))]] mc ms from ?_)
        refine g_iload_n (q := 74) B dJ5_or_73 rfl rfl ?_
        refine g_aload_n (q := 75) B dJ5_or_74 rfl rfl (rv_r _) ?_
        refine g_getM (q := 78) B (ci := 26) (k := 0) (j := 1) in_J5 rfl dJ5_or_75 rfl rfl (hpbc) (Nat.le_of_ble_eq_true rfl) q266 rfl rfl ?_
        refine g_icmp_ge (tgt := 100) (q := 81) B dJ5_or_78 rfl (by decide) (iff_true_intro ((nI_leI (by omega) (by omega)).mpr (Nat.le_refl _))) (fun _ => ?_) (fun z => absurd trivial z)
        refine g_aload_n (q := 101) B dJ5_or_100 rfl rfl (rv_r _) ?_
        refine g_callV (q := 104) (is := []) (kc2 := mc) (ks2 := ms) B [] (ct_J5_checkInvariants g J (b := b)  ) dJ5_or_101 rfl (rc_at B (ci := 26) rfl (k := 1) rfl) rfl q671 q673 qs2 q84 q674 rfl rfl moJ5_checkInvariants rfl rfl (by decide) (by decide) (Nat.le_of_ble_eq_true rfl) (by omega) (by omega) (fun _ _ hx => noX_x hx) (fun v101 L1 hp101 => ?_)
        obtain ⟨rfl, rfl⟩ := hp101
        refine (show Go g κ 104 [some (.ref b), some (.ref c), some (.int (nI nc)), some (.int (nI nc))] [] [w1, [(b, .inr (26, [.ref arr, .int (nI n), .int (nI 0)]))], [(arr, .inl (g.2.1 3, cap, .inr (.inl (fun k => lN (wd (fun j => S j || T j) k)))))]] mc ms from ?_)
        obtain ⟨wc_1, ewc_1⟩ : ∃ w : va_W, w = ([[(b, .inr (26, [.ref arr, .int (nI n), .int (nI 0)]))], [(arr, .inl (g.2.1 3, cap, .inr (.inl (fun k => lN (wd (fun j => S j || T j) k)))))]] : List va_W).flatten := ⟨_, rfl⟩
        have hwc_1 : SetP g b (fun j => S j || T j) cap wc_1 := by
          rw [ewc_1]
          exact ⟨n, arr, by omega, by omega, by omega, fun i hi => by simp [hS i hi, hSc i (by omega)], rfl⟩
        refine g_close (w := wc_1) [1, 1] rfl ewc_1 rfl ?_
        refine (show Go g κ 104 [some (.ref b), some (.ref c), some (.int (nI nc)), some (.int (nI nc))] [] [w1, wc_1] mc ms from ?_)
        refine g_pk [1, 0] rfl rfl ?_
        refine (show Go g κ 104 [some (.ref b), some (.ref c), some (.int (nI nc)), some (.int (nI nc))] [] [wc_1, w1] mc ms from ?_)
        exact g_vret B E dJ5_or_104 (⟨cap, wc_1, rfl, rfl, hwc_1, by first | exact ⟨Nat.le_refl _, fun _ => rfl, fun _ => by omega⟩ | exact ⟨by omega, fun h => capN_le (by omega), fun _ => by omega⟩⟩)
      · skip
        refine g_aload_n (q := 53) B dJ5_or_52 rfl rfl (rv_r _) ?_
        refine g_get (q := 56) B (ci := 26) (k := 1) (j := 0) in_J5 rfl dJ5_or_53 rfl rfl (Nat.le_of_ble_eq_true rfl) q265 rfl rfl ?_
        refine g_iload_n (q := 57) B dJ5_or_56 rfl rfl ?_
        refine g_dup2_11 (q := 58) B dJ5_or_57 rfl rfl rfl ?_
        refine g_lald (v := lN (wd S k)) (q := 59) B (k := 2) dJ5_or_58 rfl rfl (vp_in_nI (by omega) (by omega)) (by rw [nI_clamp (by omega), orW_ge (Nat.le_refl _)]) ?_
        refine g_aload_n (q := 60) B dJ5_or_59 rfl rfl (rv_r _) ?_
        refine g_getM (q := 63) B (ci := 26) (k := 0) (j := 0) in_J5 rfl dJ5_or_60 rfl rfl (hpbc) (Nat.le_of_ble_eq_true rfl) q265 rfl rfl ?_
        refine g_iload_n (q := 64) B dJ5_or_63 rfl rfl ?_
        refine g_laldM (v := lN (wd T k)) (q := 65) B (k := 0) dJ5_or_64 rfl rfl (hpac) (vp_in_nI (by omega) (by omega)) (by rw [nI_clamp (by omega)]) ?_
        refine g_lor (v := lN (wd (fun j => S j || T j) k)) (q := 66) B dJ5_or_65 rfl (by rw [wb_or (wd_lt _ _) (wd_lt _ _), wd_or]) ?_
        refine g_last (q := 67) (L2 := [w1, [(b, .inr (26, [.ref arr, .int (nI n), .int (nI 0)]))], [(arr, .inl (g.2.1 3, cap, .inr (.inl (fun j => lN (orW S T (k + 1) j)))))]]) B (k := 2) dJ5_or_66 rfl rfl (vp_in_nI (by omega) (by omega)) ?_ ?_
        · rw [nI_clamp (by omega), orW_up]
          rfl
        refine (show Go g κ 67 [some (.ref b), some (.ref c), some (.int (nI nc)), some (.int (nI k))] [] [w1, [(b, .inr (26, [.ref arr, .int (nI n), .int (nI 0)]))], [(arr, .inl (g.2.1 3, cap, .inr (.inl (fun j => lN (orW S T (k + 1) j)))))]] mc ms from ?_)
        refine g_iinc (v := nI (k + 1)) (q := 70) (lv2 := [some (.ref b), some (.ref c), some (.int (nI nc)), some (.int (nI (k + 1)))]) B dJ5_or_67 rfl rfl (nI_add _ 1) (Nat.le_of_ble_eq_true rfl) rfl ?_
        refine g_goto (tgt := 47) B dJ5_or_70 (by decide) ?_
        exact ih47 _ (by omega) (k + 1) (by first | assumption | omega | rfl) rfl
    rw [orW_0 S T]
    refine (show Go g κ 47 [some (.ref b), some (.ref c), some (.int (nI nc)), some (.int (nI 0))] [] [w1, [(b, .inr (26, [.ref arr, .int (nI n), .int (nI 0)]))], [(arr, .inl (g.2.1 3, cap, .inr (.inl (fun j => lN (orW S T 0 j)))))]] mc ms from ?_)
    exact lp47 _ 0 (by first | assumption | omega | rfl) rfl
  · skip
    refine g_aload_n (q := 30) B dJ5_or_29 rfl rfl (rv_r _) ?_
    refine g_aload_n (q := 31) B dJ5_or_30 rfl rfl (rv_r _) ?_
    refine g_getM (q := 34) B (ci := 26) (k := 0) (j := 1) in_J5 rfl dJ5_or_31 rfl rfl (hpbc) (Nat.le_of_ble_eq_true rfl) q266 rfl rfl ?_
    refine g_callV (q := 37) (is := [1, 1]) (kc2 := 0) (ks2 := 0) B [.int (nI nc)] (ct_J5_ensureCapacity g J (b := b) (arr := arr) (S := S) (n := n) (cap := cap) (m := nc) (mc := mc) (ms := ms)  (by first | assumption | omega | rfl) (by first | assumption | omega | rfl) (by first | assumption | omega | rfl) (by first | assumption | omega | rfl) (by first | assumption | omega | rfl) (fun h => ⟨(hmc (by omega)).1, Nat.le_trans (by omega) (hmc (by omega)).2⟩)) dJ5_or_34 rfl (rc_at B (ci := 26) rfl (k := 1) rfl) rfl q1064 q1066 qs7 q84 q1067 rfl rfl moJ5_ensureCapacity rfl rfl (by decide) (by decide) (Nat.le_of_ble_eq_true rfl) (by omega) (by omega) (fun _ _ hx => noX_x hx) (fun v34 L1 hp34 => ?_)
    obtain ⟨c34, rfl, rfl⟩ := hp34
    refine (show Go g κ 37 [some (.ref b), some (.ref c), some (.int (nI (min n nc))), none] [] [w1, [(b, .inr (26, [.ref c34, .int (nI n), .int (nI 0)]))], [(c34, .inl (g.2.1 3, capN cap nc, .inr (.inl (fun k => lN (wd S k)))))]] 0 0 from ?_)
    refine g_aload_n (q := 38) B dJ5_or_37 rfl rfl (rv_r _) ?_
    refine g_aload_n (q := 39) B dJ5_or_38 rfl rfl (rv_r _) ?_
    refine g_getM (q := 42) B (ci := 26) (k := 0) (j := 1) in_J5 rfl dJ5_or_39 rfl rfl (hpbc) (Nat.le_of_ble_eq_true rfl) q266 rfl rfl ?_
    refine g_put (q := 45) (L2 := [w1, [(b, .inr (26, [.ref c34, .int (nI nc), .int (nI 0)]))], [(c34, .inl (g.2.1 3, capN cap nc, .inr (.inl (fun k => lN (wd S k)))))]]) B (ci := 26) (k := 1) (j := 1) in_J5 tyJ5 tyJ5_ok nmJ5 rfl dJ5_or_42 rfl rfl (Nat.le_of_ble_eq_true rfl) q266 rfl rfl rfl rfl (Nat.le_of_ble_eq_true rfl) rfl ?_
    rw [(show min n nc = n from by omega)]
    refine (show Go g κ 45 [some (.ref b), some (.ref c), some (.int (nI n)), none] [] [w1, [(b, .inr (26, [.ref c34, .int (nI nc), .int (nI 0)]))], [(c34, .inl (g.2.1 3, capN cap nc, .inr (.inl (fun k => lN (wd S k)))))]] 0 0 from ?_)
    have hcl : nc ≤ capN cap nc ∧ capN cap nc < 65536 ∧ n ≤ capN cap nc ∧ capN cap nc ≤ max (2 * cap) cap2 ∧ cap ≤ capN cap nc := by unfold capN; split <;> omega
    refine g_iconst (v := nI 0) (q := 46) B dJ5_or_45 rfl (by decide) ?_
    refine g_istore_n (q := 47) (lv2 := [some (.ref b), some (.ref c), some (.int (nI n)), some (.int (nI 0))]) B dJ5_or_46 rfl (Nat.le_of_ble_eq_true rfl) rfl ?_
    have lp47 : ∀ (n47 : Nat) (k : Nat) , (k ≤ n) → n - k = n47 → Go g κ 47 [some (.ref b), some (.ref c), some (.int (nI n)), some (.int (nI k))] [] [w1, [(b, .inr (26, [.ref c34, .int (nI nc), .int (nI 0)]))], [(c34, .inl (g.2.1 3, capN cap nc, .inr (.inl (fun j => lN (orW S T k j)))))]] 0 0 := by
      intro n47
      induction n47 using Nat.strongRecOn with
      | _ n47 ih47 =>
      intro k  hk hmu47
      refine g_iload_n (q := 48) B dJ5_or_47 rfl rfl ?_
      refine g_iload_n (q := 49) B dJ5_or_48 rfl rfl ?_
      refine g_icmp_ge (tgt := 73) (q := 52) B dJ5_or_49 rfl (by decide) (nI_leI (by omega) (by omega)) (fun c49 => ?_) (fun c49 => ?_)
      · skip
        obtain rfl : n = k := by omega
        refine g_iload_n (q := 74) B dJ5_or_73 rfl rfl ?_
        refine g_aload_n (q := 75) B dJ5_or_74 rfl rfl (rv_r _) ?_
        refine g_getM (q := 78) B (ci := 26) (k := 0) (j := 1) in_J5 rfl dJ5_or_75 rfl rfl (hpbc) (Nat.le_of_ble_eq_true rfl) q266 rfl rfl ?_
        refine g_icmp_ge (tgt := 100) (q := 81) B dJ5_or_78 rfl (by decide) (iff_false_intro (fun h => absurd ((nI_leI (by omega) (by omega)).mp h) (by omega))) (fun z => z.elim) (fun _ => ?_)
        refine g_aload_n (q := 82) B dJ5_or_81 rfl rfl (rv_r _) ?_
        refine g_getM (q := 85) B (ci := 26) (k := 0) (j := 0) in_J5 rfl dJ5_or_82 rfl rfl (hpbc) (Nat.le_of_ble_eq_true rfl) q265 rfl rfl ?_
        refine g_iload_n (q := 86) B dJ5_or_85 rfl rfl ?_
        refine g_aload_n (q := 87) B dJ5_or_86 rfl rfl (rv_r _) ?_
        refine g_get (q := 90) B (ci := 26) (k := 1) (j := 0) in_J5 rfl dJ5_or_87 rfl rfl (Nat.le_of_ble_eq_true rfl) q265 rfl rfl ?_
        refine g_iload_n (q := 91) B dJ5_or_90 rfl rfl ?_
        refine g_aload_n (q := 92) B dJ5_or_91 rfl rfl (rv_r _) ?_
        refine g_get (q := 95) B (ci := 26) (k := 1) (j := 1) in_J5 rfl dJ5_or_92 rfl rfl (Nat.le_of_ble_eq_true rfl) q266 rfl rfl ?_
        refine g_iload_n (q := 96) B dJ5_or_95 rfl rfl ?_
        refine g_isub (v := nI (nc - n)) (q := 97) B dJ5_or_96 rfl (pk_sub (by omega)) ?_
        refine g_copyLM (q := 100) (L2 := [w1, [(b, .inr (26, [.ref c34, .int (nI nc), .int (nI 0)]))], [(c34, .inl (g.2.1 3, capN cap nc, .inr (.inl (fun k => lN (wd (fun j => S j || T j) k)))))]]) B (k0 := 0) (k1 := 2) ⟨q2022, q463, q462, q95⟩ rfl (hpac) rfl (nI_pos (by omega)) (nI_pos (by omega)) (nI_pos (by omega)) (by rw [nI_clamp (by omega), nI_clamp (by omega)]; omega) (by rw [nI_clamp (by omega), nI_clamp (by omega)]; omega) dJ5_or_97 rfl rfl (Nat.le_of_ble_eq_true rfl) ?_ ?_
        · rw [nI_clamp (by omega), nI_clamp (by omega), orW_c (Nat.lt_of_not_le c26) hS hSc]
          rfl
        refine (show Go g κ 100 [some (.ref b), some (.ref c), some (.int (nI n)), some (.int (nI n))] [] [w1, [(b, .inr (26, [.ref c34, .int (nI nc), .int (nI 0)]))], [(c34, .inl (g.2.1 3, capN cap nc, .inr (.inl (fun k => lN (wd (fun j => S j || T j) k)))))]] 0 0 from ?_)
        refine g_aload_n (q := 101) B dJ5_or_100 rfl rfl (rv_r _) ?_
        refine g_callV (q := 104) (is := []) (kc2 := 0) (ks2 := 0) B [] (ct_J5_checkInvariants g J (b := b)  ) dJ5_or_101 rfl (rc_at B (ci := 26) rfl (k := 1) rfl) rfl q671 q673 qs2 q84 q674 rfl rfl moJ5_checkInvariants rfl rfl (by decide) (by decide) (Nat.le_of_ble_eq_true rfl) (Nat.le_of_ble_eq_true rfl) (Nat.le_of_ble_eq_true rfl) (fun _ _ hx => noX_x hx) (fun v101 L1 hp101 => ?_)
        obtain ⟨rfl, rfl⟩ := hp101
        refine (show Go g κ 104 [some (.ref b), some (.ref c), some (.int (nI n)), some (.int (nI n))] [] [w1, [(b, .inr (26, [.ref c34, .int (nI nc), .int (nI 0)]))], [(c34, .inl (g.2.1 3, capN cap nc, .inr (.inl (fun k => lN (wd (fun j => S j || T j) k)))))]] 0 0 from ?_)
        obtain ⟨wc_2, ewc_2⟩ : ∃ w : va_W, w = ([[(b, .inr (26, [.ref c34, .int (nI nc), .int (nI 0)]))], [(c34, .inl (g.2.1 3, capN cap nc, .inr (.inl (fun k => lN (wd (fun j => S j || T j) k)))))]] : List va_W).flatten := ⟨_, rfl⟩
        have hwc_2 : SetP g b (fun j => S j || T j) (capN cap nc) wc_2 := by
          rw [ewc_2]
          exact ⟨nc, c34, by omega, by omega, by omega, fun i hi => by simp [hS i (by omega), hSc i (by omega)], rfl⟩
        refine g_close (w := wc_2) [1, 1] rfl ewc_2 rfl ?_
        refine (show Go g κ 104 [some (.ref b), some (.ref c), some (.int (nI n)), some (.int (nI n))] [] [w1, wc_2] 0 0 from ?_)
        refine g_pk [1, 0] rfl rfl ?_
        refine (show Go g κ 104 [some (.ref b), some (.ref c), some (.int (nI n)), some (.int (nI n))] [] [wc_2, w1] 0 0 from ?_)
        exact g_vret B E dJ5_or_104 (⟨capN cap nc, wc_2, rfl, rfl, hwc_2, by first | exact ⟨Nat.le_refl _, fun _ => rfl, fun _ => by omega⟩ | exact ⟨by omega, fun h => capN_le (by omega), fun _ => by omega⟩⟩)
      · skip
        refine g_aload_n (q := 53) B dJ5_or_52 rfl rfl (rv_r _) ?_
        refine g_get (q := 56) B (ci := 26) (k := 1) (j := 0) in_J5 rfl dJ5_or_53 rfl rfl (Nat.le_of_ble_eq_true rfl) q265 rfl rfl ?_
        refine g_iload_n (q := 57) B dJ5_or_56 rfl rfl ?_
        refine g_dup2_11 (q := 58) B dJ5_or_57 rfl rfl rfl ?_
        refine g_lald (v := lN (wd S k)) (q := 59) B (k := 2) dJ5_or_58 rfl rfl (vp_in_nI (by omega) (by omega)) (by rw [nI_clamp (by omega), orW_ge (Nat.le_refl _)]) ?_
        refine g_aload_n (q := 60) B dJ5_or_59 rfl rfl (rv_r _) ?_
        refine g_getM (q := 63) B (ci := 26) (k := 0) (j := 0) in_J5 rfl dJ5_or_60 rfl rfl (hpbc) (Nat.le_of_ble_eq_true rfl) q265 rfl rfl ?_
        refine g_iload_n (q := 64) B dJ5_or_63 rfl rfl ?_
        refine g_laldM (v := lN (wd T k)) (q := 65) B (k := 0) dJ5_or_64 rfl rfl (hpac) (vp_in_nI (by omega) (by omega)) (by rw [nI_clamp (by omega)]) ?_
        refine g_lor (v := lN (wd (fun j => S j || T j) k)) (q := 66) B dJ5_or_65 rfl (by rw [wb_or (wd_lt _ _) (wd_lt _ _), wd_or]) ?_
        refine g_last (q := 67) (L2 := [w1, [(b, .inr (26, [.ref c34, .int (nI nc), .int (nI 0)]))], [(c34, .inl (g.2.1 3, capN cap nc, .inr (.inl (fun j => lN (orW S T (k + 1) j)))))]]) B (k := 2) dJ5_or_66 rfl rfl (vp_in_nI (by omega) (by omega)) ?_ ?_
        · rw [nI_clamp (by omega), orW_up]
          rfl
        refine (show Go g κ 67 [some (.ref b), some (.ref c), some (.int (nI n)), some (.int (nI k))] [] [w1, [(b, .inr (26, [.ref c34, .int (nI nc), .int (nI 0)]))], [(c34, .inl (g.2.1 3, capN cap nc, .inr (.inl (fun j => lN (orW S T (k + 1) j)))))]] 0 0 from ?_)
        refine g_iinc (v := nI (k + 1)) (q := 70) (lv2 := [some (.ref b), some (.ref c), some (.int (nI n)), some (.int (nI (k + 1)))]) B dJ5_or_67 rfl rfl (nI_add _ 1) (Nat.le_of_ble_eq_true rfl) rfl ?_
        refine g_goto (tgt := 47) B dJ5_or_70 (by decide) ?_
        exact ih47 _ (by omega) (k + 1) (by first | assumption | omega | rfl) rfl
    rw [orW_0 S T]
    refine (show Go g κ 47 [some (.ref b), some (.ref c), some (.int (nI n)), some (.int (nI 0))] [] [w1, [(b, .inr (26, [.ref c34, .int (nI nc), .int (nI 0)]))], [(c34, .inl (g.2.1 3, capN cap nc, .inr (.inl (fun j => lN (orW S T 0 j)))))]] 0 0 from ?_)
    exact lp47 _ 0 (by first | assumption | omega | rfl) rfl
