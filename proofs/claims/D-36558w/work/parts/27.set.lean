set_option maxRecDepth 100000
theorem ct_J5_wordIndex (g : Gv) (J : Jd g) {i : Nat} (hi : i < 2 ^ 31) : Ct g yJ5_wordIndex (ws_ yJ5_wordIndex cJ5_wordIndex 1 (some .int)) 0 0 0 [.int (nI i)] [] (fun (rv_ : Option Value) (rL_ : List va_W) => rv_ = some (.int (nI (i / 64))) ∧ rL_ = []) noX := by
  refine Ct.of "java/util/BitSet" [some (.int (nI i))] rfl (by decide) rfl (Nat.le_of_ble_eq_true rfl) rfl ?_
  intro κ B E tb
  refine g_iload_n (q := 1) B dJ5_wordIndex_0 rfl rfl ?_
  refine g_bipush (v := nI 6) (q := 3) B dJ5_wordIndex_1 rfl (by decide) ?_
  refine g_ishr (v := nI (i / 64)) (q := 4) B dJ5_wordIndex_3 rfl (pk_shrN hi _ 6 (by decide)) ?_
  exact g_iret B E dJ5_wordIndex_4 (⟨rfl, rfl⟩)
theorem wd_none (k : Nat) : wd (fun _ => false) k = 0 := wd_0 fun _ _ => rfl
theorem wd_none_f : (fun _ => (0 : Int64)) = fun k => lN (wd (fun _ => false) k) := by funext k; rw [wd_none]; rfl
theorem moJ5_wordIndex : Mo yJ5_wordIndex 1 := by
  refine ⟨by decide, by decide, by decide +kernel⟩
theorem ct_J5_initWords (g : Gv) (J : Jd g) {b : Nat} {r : Option Nat} : Ct g yJ5_initWords (ws_ yJ5_initWords cJ5_initWords 2 none) 1 1 1 [.ref b, .int (nI 64)] [[(b, .inr (26, [va_rf r, .int (nI 0), .int (nI 0)]))]] (fun (rv_ : Option Value) (rL_ : List va_W) => ∃ (arr : Nat), rv_ = none ∧ rL_ = [[(b, .inr (26, [.ref arr, .int (nI 0), .int (nI 0)]))], [(arr, .inl (g.2.1 3, 1, .inr (.inl (fun k => lN (wd (fun _ => false) k)))))]]) noX := by
  refine Ct.of "java/util/BitSet" [some (.ref b), some (.int (nI 64))] rfl (by decide) rfl (Nat.le_of_ble_eq_true rfl) rfl ?_
  intro κ B E tb
  refine g_aload_n (q := 1) B dJ5_initWords_0 rfl rfl (rv_r _) ?_
  refine g_iload_n (q := 2) B dJ5_initWords_1 rfl rfl ?_
  refine g_iconst (v := nI 1) (q := 3) B dJ5_initWords_2 rfl (by decide) ?_
  refine g_isub (v := nI 63) (q := 4) B dJ5_initWords_3 rfl (pk_sub (by omega)) ?_
  refine g_callS (q := 7) (is := []) (kc2 := 1) (ks2 := 1) B [.int (nI 63)] (ct_J5_wordIndex g J (i := 63)  (by first | assumption | omega | rfl)) dJ5_initWords_4 rfl q262 q263 q84 q264 rfl rfl moJ5_wordIndex rfl rfl (by decide) (by decide) (Nat.le_of_ble_eq_true rfl) (Nat.le_of_ble_eq_true rfl) (Nat.le_of_ble_eq_true rfl) (fun _ _ hx => noX_x hx) (fun v4 L1 hp4 => ?_)
  obtain ⟨rfl, rfl⟩ := hp4
  refine (show Go g κ 7 [some (.ref b), some (.int (nI 64))] [.int (nI (63 / 64)), .ref b] [[(b, .inr (26, [va_rf r, .int (nI 0), .int (nI 0)]))]] 1 1 from ?_)
  refine (show Go g κ 7 [some (.ref b), some (.int (nI 64))] [.int (nI 0), .ref b] [[(b, .inr (26, [va_rf r, .int (nI 0), .int (nI 0)]))]] 1 1 from ?_)
  refine g_iconst (v := nI 1) (q := 8) B dJ5_initWords_7 rfl (by decide) ?_
  refine g_iadd (v := nI 1) (q := 9) B dJ5_initWords_8 rfl (nI_add _ _) ?_
  refine g_newa (atype := .long) (q := 11) (kc2 := 0) (ks2 := 0) (t := 3) (a0 := (1, .inr (.inl (fun _ => 0)))) B q275 rfl rfl dJ5_initWords_9 rfl na_long (by decide) rfl (by decide) (Nat.le_of_ble_eq_true rfl) (Nat.le_of_ble_eq_true rfl) (fun n9 => ?_)
  refine (show Go g κ 11 [some (.ref b), some (.int (nI 64))] [.ref n9, .ref b] [[(b, .inr (26, [va_rf r, .int (nI 0), .int (nI 0)]))], [(n9, .inl (g.2.1 3, 1, .inr (.inl (fun _ => 0))))]] 0 0 from ?_)
  rw [wd_none_f]
  refine (show Go g κ 11 [some (.ref b), some (.int (nI 64))] [.ref n9, .ref b] [[(b, .inr (26, [va_rf r, .int (nI 0), .int (nI 0)]))], [(n9, .inl (g.2.1 3, 1, .inr (.inl (fun k => lN (wd (fun _ => false) k)))))]] 0 0 from ?_)
  refine g_put (q := 14) (L2 := [[(b, .inr (26, [.ref n9, .int (nI 0), .int (nI 0)]))], [(n9, .inl (g.2.1 3, 1, .inr (.inl (fun k => lN (wd (fun _ => false) k)))))]]) B (ci := 26) (k := 0) (j := 0) in_J5 tyJ5 tyJ5_ok nmJ5 rfl dJ5_initWords_11 rfl rfl (Nat.le_of_ble_eq_true rfl) q265 rfl rfl rfl rfl (Nat.le_of_ble_eq_true rfl) rfl ?_
  exact g_vret B E dJ5_initWords_14 (⟨n9, rfl, rfl⟩)
theorem moJ5_initWords : Mo yJ5_initWords 1 := by
  refine ⟨by decide, by decide, by decide +kernel⟩
theorem ct_J5_init (g : Gv) (J : Jd g) {b : Nat} : Ct g yJ5_init (ws_ yJ5_init cJ5_init 1 none) 2 1 1 [.ref b] [[(b, .inr (26, [.null, .int (nI 0), .int (nI 0)]))]] (fun (rv_ : Option Value) (rL_ : List va_W) => ∃ (u0 : va_W), rv_ = none ∧ rL_ = [u0] ∧ SetP g b (fun _ => false) 1 u0) noX := by
  refine Ct.ofI "java/util/BitSet" [some (.ref b)] rfl (by decide) rfl (Nat.le_of_ble_eq_true rfl) rfl rfl ?_
  intro κ B E tb ini
  refine g_aload_n (q := 1) B dJ5_init_0 rfl rfl (rv_r _) ?_
  refine g_objInit (q := 4) B q257 q157 q158 dJ5_init_1 rfl rfl (Nat.le_of_ble_eq_true rfl) ?_
  refine g_aload_n (q := 5) B dJ5_init_4 rfl rfl (rv_r _) ?_
  refine g_iconst (v := nI 0) (q := 6) B dJ5_init_5 rfl (by decide) ?_
  refine g_put (q := 9) (L2 := [[(b, .inr (26, [.null, .int (nI 0), .int (nI 0)]))]]) B (ci := 26) (k := 0) (j := 1) in_J5 tyJ5 tyJ5_ok nmJ5 rfl dJ5_init_6 rfl rfl (Nat.le_of_ble_eq_true rfl) q266 rfl rfl rfl rfl (Nat.le_of_ble_eq_true rfl) rfl ?_
  refine g_aload_n (q := 10) B dJ5_init_9 rfl rfl (rv_r _) ?_
  refine g_iconst (v := nI 0) (q := 11) B dJ5_init_10 rfl (by decide) ?_
  refine g_put (q := 14) (L2 := [[(b, .inr (26, [.null, .int (nI 0), .int (nI 0)]))]]) B (ci := 26) (k := 0) (j := 2) in_J5 tyJ5 tyJ5_ok nmJ5 rfl dJ5_init_11 rfl rfl (Nat.le_of_ble_eq_true rfl) q267 rfl rfl rfl rfl (Nat.le_of_ble_eq_true rfl) rfl ?_
  refine g_aload_n (q := 15) B dJ5_init_14 rfl rfl (rv_r _) ?_
  refine g_bipush (v := nI 64) (q := 17) B dJ5_init_15 rfl (by decide) ?_
  refine g_callV (q := 20) (is := [0]) (kc2 := 0) (ks2 := 0) B [.int (nI 64)] (ct_J5_initWords g J (b := b) (r := none)  ) dJ5_init_17 rfl (rc_at B (ci := 26) rfl (k := 0) rfl) rfl q258 q260 qs0 q84 q261 rfl rfl moJ5_initWords rfl rfl (by decide) (by decide) (Nat.le_of_ble_eq_true rfl) (Nat.le_of_ble_eq_true rfl) (Nat.le_of_ble_eq_true rfl) (fun _ _ hx => noX_x hx) (fun v17 L1 hp17 => ?_)
  obtain ⟨arr17, rfl, rfl⟩ := hp17
  refine (show Go g κ 20 [some (.ref b)] [] [[(b, .inr (26, [.ref arr17, .int (nI 0), .int (nI 0)]))], [(arr17, .inl (g.2.1 3, 1, .inr (.inl (fun k => lN (wd (fun _ => false) k)))))]] 0 0 from ?_)
  refine g_aload_n (q := 21) B dJ5_init_20 rfl rfl (rv_r _) ?_
  refine g_iconst (v := nI 0) (q := 22) B dJ5_init_21 rfl (by decide) ?_
  refine g_put (q := 25) (L2 := [[(b, .inr (26, [.ref arr17, .int (nI 0), .int (nI 0)]))], [(arr17, .inl (g.2.1 3, 1, .inr (.inl (fun k => lN (wd (fun _ => false) k)))))]]) B (ci := 26) (k := 0) (j := 2) in_J5 tyJ5 tyJ5_ok nmJ5 rfl dJ5_init_22 rfl rfl (Nat.le_of_ble_eq_true rfl) q267 rfl rfl rfl rfl (Nat.le_of_ble_eq_true rfl) rfl ?_
  obtain ⟨wc_1, ewc_1⟩ : ∃ w : va_W, w = ([[(b, .inr (26, [.ref arr17, .int (nI 0), .int (nI 0)]))], [(arr17, .inl (g.2.1 3, 1, .inr (.inl (fun k => lN (wd (fun _ => false) k)))))]] : List va_W).flatten := ⟨_, rfl⟩
  have hwc_1 : SetP g b (fun _ => false) 1 wc_1 := by
    rw [ewc_1]
    exact ⟨0, arr17, by decide, by decide, by decide, fun _ _ => rfl, rfl⟩
  refine g_close (w := wc_1) [0, 0] rfl ewc_1 rfl ?_
  refine (show Go g κ 25 [some (.ref b)] [] [wc_1] 0 0 from ?_)
  exact g_vret B E dJ5_init_25 (⟨wc_1, rfl, rfl, hwc_1⟩)
theorem ct_J5_checkInvariants (g : Gv) (J : Jd g) {b : Nat} : Ct g yJ5_checkInvariants (ws_ yJ5_checkInvariants cJ5_checkInvariants 1 none) 0 0 0 [.ref b] [] (fun (rv_ : Option Value) (rL_ : List va_W) => rv_ = none ∧ rL_ = []) noX := by
  refine Ct.of "java/util/BitSet" [some (.ref b)] rfl (by decide) rfl (Nat.le_of_ble_eq_true rfl) rfl ?_
  intro κ B E tb
  refine g_gets (q := 3) B (J.2.2.1 _ (List.mem_of_getElem? (i := 2) rfl)) dJ5_checkInvariants_0 rfl q675 ?_
  refine g_if_ne (tgt := 37) (q := 6) B dJ5_checkInvariants_3 rfl (by decide) (iff_true_intro (by decide)) (fun _ => ?_) (fun z => absurd trivial z)
  refine g_gets (q := 40) B (J.2.2.1 _ (List.mem_of_getElem? (i := 2) rfl)) dJ5_checkInvariants_37 rfl q675 ?_
  refine g_if_ne (tgt := 70) (q := 43) B dJ5_checkInvariants_40 rfl (by decide) (iff_true_intro (by decide)) (fun _ => ?_) (fun z => absurd trivial z)
  refine g_gets (q := 73) B (J.2.2.1 _ (List.mem_of_getElem? (i := 2) rfl)) dJ5_checkInvariants_70 rfl q675 ?_
  refine g_if_ne (tgt := 110) (q := 76) B dJ5_checkInvariants_73 rfl (by decide) (iff_true_intro (by decide)) (fun _ => ?_) (fun z => absurd trivial z)
  exact g_vret B E dJ5_checkInvariants_110 (⟨rfl, rfl⟩)
theorem moJ5_checkInvariants : Mo yJ5_checkInvariants 0 := by
  refine ⟨by decide, by decide, by decide +kernel⟩
theorem ct_J5_get (g : Gv) (J : Jd g) {b : Nat} {S : Nat → Bool} {cap : Nat} {i : Nat} {w0 : va_W} (hw0 : SetP g b S cap w0) (hi : i < 2 ^ 31) : Ct g yJ5_get (ws_ yJ5_get cJ5_get 3 (some .boolean)) 1 0 0 [.ref b, .int (nI i)] [w0] (fun (rv_ : Option Value) (rL_ : List va_W) => rv_ = some (.int (nI (if S i = true then 1 else 0))) ∧ rL_ = [w0]) noX := by
  refine Ct.of "java/util/BitSet" [some (.ref b), some (.int (nI i)), none] rfl (by decide) rfl (Nat.le_of_ble_eq_true rfl) rfl ?_
  intro κ B E tb
  obtain ⟨n, arr, hn, hc0, hc1, hS, hpb, hpa⟩ := SetP.cell hw0
  refine g_iload_n (q := 1) B dJ5_get_0 rfl rfl ?_
  refine g_if_ge (tgt := 31) (q := 4) B dJ5_get_1 rfl (by decide) (iff_true_intro (nI_pos' (by omega))) (fun _ => ?_) (fun z => absurd trivial z)
  refine g_aload_n (q := 32) B dJ5_get_31 rfl rfl (rv_r _) ?_
  refine g_callV (q := 35) (is := []) (kc2 := 0) (ks2 := 0) B [] (ct_J5_checkInvariants g J (b := b)  ) dJ5_get_32 rfl (rc_in B (ci := 26) rfl (k := 0) rfl (SetP.hm hw0)) rfl q671 q673 qs2 q84 q674 rfl rfl moJ5_checkInvariants rfl rfl (by decide) (by decide) (Nat.le_of_ble_eq_true rfl) (Nat.le_of_ble_eq_true rfl) (Nat.le_of_ble_eq_true rfl) (fun _ _ hx => noX_x hx) (fun v32 L1 hp32 => ?_)
  obtain ⟨rfl, rfl⟩ := hp32
  refine (show Go g κ 35 [some (.ref b), some (.int (nI i)), none] [] [w0] 0 0 from ?_)
  refine g_iload_n (q := 36) B dJ5_get_35 rfl rfl ?_
  refine g_callS (q := 39) (is := []) (kc2 := 0) (ks2 := 0) B [.int (nI i)] (ct_J5_wordIndex g J (i := i)  (by first | assumption | omega | rfl)) dJ5_get_36 rfl q262 q263 q84 q264 rfl rfl moJ5_wordIndex rfl rfl (by decide) (by decide) (Nat.le_of_ble_eq_true rfl) (Nat.le_of_ble_eq_true rfl) (Nat.le_of_ble_eq_true rfl) (fun _ _ hx => noX_x hx) (fun v36 L1 hp36 => ?_)
  obtain ⟨rfl, rfl⟩ := hp36
  refine (show Go g κ 39 [some (.ref b), some (.int (nI i)), none] [.int (nI (i / 64))] [w0] 0 0 from ?_)
  refine g_istore_n (q := 40) (lv2 := [some (.ref b), some (.int (nI i)), some (.int (nI (i / 64)))]) B dJ5_get_39 rfl (Nat.le_of_ble_eq_true rfl) rfl ?_
  refine g_iload_n (q := 41) B dJ5_get_40 rfl rfl ?_
  refine g_aload_n (q := 42) B dJ5_get_41 rfl rfl (rv_r _) ?_
  refine g_getM (q := 45) B (ci := 26) (k := 0) (j := 1) in_J5 rfl dJ5_get_42 rfl rfl (hpb) (Nat.le_of_ble_eq_true rfl) q266 rfl rfl ?_
  refine g_icmp_ge (tgt := 67) (q := 48) B dJ5_get_45 rfl (by decide) (nI_leI (by omega) (by omega)) (fun c45 => ?_) (fun c45 => ?_)
  · skip
    refine g_iconst (v := nI 0) (q := 68) B dJ5_get_67 rfl (by decide) ?_
    exact g_zret B E dJ5_get_68 (by decide) (⟨bo0 (by rw [hS i (by omega)]; simp), rfl⟩)
  · skip
    refine g_aload_n (q := 49) B dJ5_get_48 rfl rfl (rv_r _) ?_
    refine g_getM (q := 52) B (ci := 26) (k := 0) (j := 0) in_J5 rfl dJ5_get_49 rfl rfl (hpb) (Nat.le_of_ble_eq_true rfl) q265 rfl rfl ?_
    refine g_iload_n (q := 53) B dJ5_get_52 rfl rfl ?_
    refine g_laldM (v := lN (wd S (i / 64))) (q := 54) B (k := 0) dJ5_get_53 rfl rfl (hpa) (vp_in_nI (by omega) (by omega)) (by rw [nI_clamp (by omega)]) ?_
    refine g_lconst (v := 1) (q := 55) B dJ5_get_54 rfl (by decide) ?_
    refine g_iload_n (q := 56) B dJ5_get_55 rfl rfl ?_
    refine g_lshl (v := lN (2 ^ (i % 64))) (q := 57) B dJ5_get_56 rfl (sh_one hi) ?_
    refine g_land (v := lN (wd S (i / 64) &&& 2 ^ (i % 64))) (q := 58) B dJ5_get_57 rfl (wb_and (wd_lt _ _) (Nat.pow_lt_pow_right (by decide) (by omega))) ?_
    refine g_lconst (v := 0) (q := 59) B dJ5_get_58 rfl (by decide) ?_
    refine g_lcmp (v := lg_cmp (lN (wd S (i / 64) &&& 2 ^ (i % 64))) 0) (q := 60) B dJ5_get_59 rfl rfl ?_
    refine g_if_eq (tgt := 67) (q := 63) B dJ5_get_60 rfl (by decide) ((lcmp0 (Nat.lt_of_le_of_lt Nat.and_le_left (wd_lt _ _))).trans wd_get) (fun c60 => ?_) (fun c60 => ?_)
    · skip
      refine g_iconst (v := nI 0) (q := 68) B dJ5_get_67 rfl (by decide) ?_
      exact g_zret B E dJ5_get_68 (by decide) (⟨bo0 (by first | simpa using c60 | (rw [hS i (by omega)]; simp)), rfl⟩)
    · skip
      refine g_iconst (v := nI 1) (q := 64) B dJ5_get_63 rfl (by decide) ?_
      refine g_goto (tgt := 68) B dJ5_get_64 (by decide) ?_
      exact g_zret B E dJ5_get_68 (by decide) (⟨bo1 (by first | simpa using c60 | (rw [hS i (by omega)]; simp)), rfl⟩)
theorem cpy_wd {S : Nat → Bool} {n : Nat} (h : ∀ i, 64 * n ≤ i → S i = false) {m : Nat} (hm : n ≤ m) : va_cpy (fun k => lN (wd S k)) (fun _ => 0) 0 0 m = fun k => lN (wd S k) := by
  funext i
  unfold va_cpy
  by_cases h1 : 0 ≤ i ∧ i < 0 + m
  · rw [if_pos h1]; simp
  · rw [if_neg h1, wd_0 (fun j _ => h _ (by omega))]; rfl
theorem ct_J13_copyOf_4 (g : Gv) (J : Jd g) {a : Nat} {S : Nat → Bool} {n : Nat} {cap : Nat} {m : Nat} (hS : ∀ i, 64 * n ≤ i → S i = false) (hn : n ≤ cap) (hm : cap < m) (hm2 : m < 16777216) : Ct g yJ13_copyOf_4 (ws_ yJ13_copyOf_4 cJ13_copyOf_4 3 (some (.array .long))) 1 1 m [.ref a, .int (nI m)] [[(a, .inl (g.2.1 3, cap, .inr (.inl (fun k => lN (wd S k)))))]] (fun (rv_ : Option Value) (rL_ : List va_W) => ∃ (c : Nat), rv_ = some (.ref c) ∧ rL_ = [[(a, .inl (g.2.1 3, cap, .inr (.inl (fun k => lN (wd S k)))))], [(c, .inl (g.2.1 3, m, .inr (.inl (fun k => lN (wd S k)))))]]) noX := by
  refine Ct.of "java/util/Arrays" [some (.ref a), some (.int (nI m)), none] rfl (by decide) rfl (Nat.le_of_ble_eq_true rfl) rfl ?_
  intro κ B E tb
  refine g_iload_n (q := 1) B dJ13_copyOf_4_0 rfl rfl ?_
  refine g_aload_n (q := 2) B dJ13_copyOf_4_1 rfl rfl (rv_r _) ?_
  refine g_alen (v := nI cap) (q := 3) B (k := 0) (t := 3) dJ13_copyOf_4_2 rfl rfl rfl rfl ?_
  refine g_icmp_ne (tgt := 14) (q := 6) B dJ13_copyOf_4_3 rfl (by decide) (iff_true_intro (not_congr (nI_eq (by omega) (by omega)) |>.mpr (by omega))) (fun _ => ?_) (fun z => absurd trivial z)
  refine g_iload_n (q := 15) B dJ13_copyOf_4_14 rfl rfl ?_
  refine g_newa (atype := .long) (q := 17) (kc2 := 0) (ks2 := m - m) (t := 3) (a0 := (m, .inr (.inl (fun _ => 0)))) B q275 rfl rfl dJ13_copyOf_4_15 rfl na_long (nI_pos (by omega)) (nI_clamp (by omega)) (show m * 8 ≤ 536870912 by omega) (Nat.le_of_ble_eq_true rfl) (by omega) (fun n15 => ?_)
  refine (show Go g κ 17 [some (.ref a), some (.int (nI m)), none] [.ref n15] [[(a, .inl (g.2.1 3, cap, .inr (.inl (fun k => lN (wd S k)))))], [(n15, .inl (g.2.1 3, m, .inr (.inl (fun _ => 0))))]] 0 (m - m) from ?_)
  refine g_astore_n (q := 18) (lv2 := [some (.ref a), some (.int (nI m)), some (.ref n15)]) B dJ13_copyOf_4_17 rfl (Nat.le_of_ble_eq_true rfl) (rv_r _) rfl ?_
  refine g_aload_n (q := 19) B dJ13_copyOf_4_18 rfl rfl (rv_r _) ?_
  refine g_iconst (v := nI 0) (q := 20) B dJ13_copyOf_4_19 rfl (by decide) ?_
  refine g_aload_n (q := 21) B dJ13_copyOf_4_20 rfl rfl (rv_r _) ?_
  refine g_iconst (v := nI 0) (q := 22) B dJ13_copyOf_4_21 rfl (by decide) ?_
  refine g_aload_n (q := 23) B dJ13_copyOf_4_22 rfl rfl (rv_r _) ?_
  refine g_alen (v := nI cap) (q := 24) B (k := 0) (t := 3) dJ13_copyOf_4_23 rfl rfl rfl rfl ?_
  refine g_iload_n (q := 25) B dJ13_copyOf_4_24 rfl rfl ?_
  refine g_mmin (q := 28) B q458 dJ13_copyOf_4_25 rfl rfl (Nat.le_of_ble_eq_true rfl) (by omega) (by omega) ?_
  refine g_copyL (q := 31) (L2 := [[(a, .inl (g.2.1 3, cap, .inr (.inl (fun k => lN (wd S k)))))], [(n15, .inl (g.2.1 3, m, .inr (.inl (fun k => lN (wd S k)))))]]) B (k0 := 0) (k1 := 1) ⟨q461, q463, q462, q95⟩ rfl rfl (by decide) (by decide) (nI_pos (by omega)) (by rw [nI_clamp (by omega), nI_clamp (by omega)]; omega) (by rw [nI_clamp (by omega), nI_clamp (by omega)]; omega) dJ13_copyOf_4_28 rfl rfl (Nat.le_of_ble_eq_true rfl) ?_ ?_
  · rw [nI_clamp (by omega), nI_clamp (by omega), Nat.min_eq_left (by omega), cpy_wd hS hn]
    rfl
  refine (show Go g κ 31 [some (.ref a), some (.int (nI m)), some (.ref n15)] [] [[(a, .inl (g.2.1 3, cap, .inr (.inl (fun k => lN (wd S k)))))], [(n15, .inl (g.2.1 3, m, .inr (.inl (fun k => lN (wd S k)))))]] 0 (m - m) from ?_)
  refine g_aload_n (q := 32) B dJ13_copyOf_4_31 rfl rfl (rv_r _) ?_
  exact g_aret B E dJ13_copyOf_4_32 (by first | exact Or.inl ⟨_, rfl⟩ | exact Or.inr ⟨_, rfl⟩) (rv_r _) (⟨n15, rfl, rfl⟩)
def capN (cap m : Nat) : Nat := if m ≤ cap then cap else max (2 * cap) m
theorem capN_le {cap m : Nat} (h : m ≤ cap) : capN cap m = cap := if_pos h
theorem capN_gt {cap m : Nat} (h : ¬ m ≤ cap) : capN cap m = max (2 * cap) m := if_neg h
theorem moJ13_copyOf_4 : Mo yJ13_copyOf_4 2 := by
  refine ⟨by decide, by decide, by decide +kernel⟩
theorem ct_J5_ensureCapacity (g : Gv) (J : Jd g) {b : Nat} {arr : Nat} {S : Nat → Bool} {n : Nat} {cap : Nat} {m : Nat} {mc : Nat} {ms : Nat} (hS : ∀ i, 64 * n ≤ i → S i = false) (hn : n ≤ cap) (hc0 : 0 < cap) (hc : cap < 65536) (hm : m < 65536) (hmc : cap < m → 1 ≤ mc ∧ max (2 * cap) m ≤ ms) : Ct g yJ5_ensureCapacity (ws_ yJ5_ensureCapacity cJ5_ensureCapacity 3 none) 2 mc ms [.ref b, .int (nI m)] [[(b, .inr (26, [.ref arr, .int (nI n), .int (nI 0)]))], [(arr, .inl (g.2.1 3, cap, .inr (.inl (fun k => lN (wd S k)))))]] (fun (rv_ : Option Value) (rL_ : List va_W) => ∃ (c : Nat), rv_ = none ∧ rL_ = [[(b, .inr (26, [.ref c, .int (nI n), .int (nI 0)]))], [(c, .inl (g.2.1 3, capN cap m, .inr (.inl (fun k => lN (wd S k)))))]]) noX := by
  refine Ct.of "java/util/BitSet" [some (.ref b), some (.int (nI m)), none] rfl (by decide) rfl (Nat.le_of_ble_eq_true rfl) rfl ?_
  intro κ B E tb
  refine g_aload_n (q := 1) B dJ5_ensureCapacity_0 rfl rfl (rv_r _) ?_
  refine g_get (q := 4) B (ci := 26) (k := 0) (j := 0) in_J5 rfl dJ5_ensureCapacity_1 rfl rfl (Nat.le_of_ble_eq_true rfl) q265 rfl rfl ?_
  refine g_alen (v := nI cap) (q := 5) B (k := 1) (t := 3) dJ5_ensureCapacity_4 rfl rfl rfl rfl ?_
  refine g_iload_n (q := 6) B dJ5_ensureCapacity_5 rfl rfl ?_
  refine g_icmp_ge (tgt := 38) (q := 9) B dJ5_ensureCapacity_6 rfl (by decide) (nI_leI (by omega) (by omega)) (fun c6 => ?_) (fun c6 => ?_)
  · skip
    have hcn : capN cap m = cap := capN_le (by omega)
    exact g_vret B E dJ5_ensureCapacity_38 (⟨arr, rfl, by rw [hcn]⟩)
  · skip
    have hmc := hmc (by omega)
    refine g_iconst (v := nI 2) (q := 10) B dJ5_ensureCapacity_9 rfl (by decide) ?_
    refine g_aload_n (q := 11) B dJ5_ensureCapacity_10 rfl rfl (rv_r _) ?_
    refine g_get (q := 14) B (ci := 26) (k := 0) (j := 0) in_J5 rfl dJ5_ensureCapacity_11 rfl rfl (Nat.le_of_ble_eq_true rfl) q265 rfl rfl ?_
    refine g_alen (v := nI cap) (q := 15) B (k := 1) (t := 3) dJ5_ensureCapacity_14 rfl rfl rfl rfl ?_
    refine g_imul (v := nI (2 * cap)) (q := 16) B dJ5_ensureCapacity_15 rfl (pk_mul _ _) ?_
    refine g_iload_n (q := 17) B dJ5_ensureCapacity_16 rfl rfl ?_
    refine g_mmax (q := 20) B q1068 dJ5_ensureCapacity_17 rfl rfl (Nat.le_of_ble_eq_true rfl) (by omega) (by omega) ?_
    refine g_istore_n (q := 21) (lv2 := [some (.ref b), some (.int (nI m)), some (.int (nI (max (2 * cap) m)))]) B dJ5_ensureCapacity_20 rfl (Nat.le_of_ble_eq_true rfl) rfl ?_
    refine g_aload_n (q := 22) B dJ5_ensureCapacity_21 rfl rfl (rv_r _) ?_
    refine g_aload_n (q := 23) B dJ5_ensureCapacity_22 rfl rfl (rv_r _) ?_
    refine g_get (q := 26) B (ci := 26) (k := 0) (j := 0) in_J5 rfl dJ5_ensureCapacity_23 rfl rfl (Nat.le_of_ble_eq_true rfl) q265 rfl rfl ?_
    refine g_iload_n (q := 27) B dJ5_ensureCapacity_26 rfl rfl ?_
    refine g_callS (q := 30) (is := [1]) (kc2 := mc - 1) (ks2 := ms - (max (2 * cap) m)) B [.ref arr, .int (nI (max (2 * cap) m))] (ct_J13_copyOf_4 g J (a := arr) (S := S) (n := n) (cap := cap) (m := max (2 * cap) m)  (by first | assumption | omega | rfl) (by first | assumption | omega | rfl) (by first | assumption | omega | rfl) (by first | assumption | omega | rfl)) dJ5_ensureCapacity_27 rfl q1069 q1070 q94 q1071 rfl rfl moJ13_copyOf_4 rfl rfl (by decide) (by decide) (Nat.le_of_ble_eq_true rfl) (by omega) (by omega) (fun _ _ hx => noX_x hx) (fun v27 L1 hp27 => ?_)
    obtain ⟨c27, rfl, rfl⟩ := hp27
    refine (show Go g κ 30 [some (.ref b), some (.int (nI m)), some (.int (nI (max (2 * cap) m)))] [.ref c27, .ref b] [[(b, .inr (26, [.ref arr, .int (nI n), .int (nI 0)]))], [(arr, .inl (g.2.1 3, cap, .inr (.inl (fun k => lN (wd S k)))))], [(c27, .inl (g.2.1 3, (max (2 * cap) m), .inr (.inl (fun k => lN (wd S k)))))]] (mc - 1) (ms - (max (2 * cap) m)) from ?_)
    refine g_put (q := 33) (L2 := [[(b, .inr (26, [.ref c27, .int (nI n), .int (nI 0)]))], [(arr, .inl (g.2.1 3, cap, .inr (.inl (fun k => lN (wd S k)))))], [(c27, .inl (g.2.1 3, (max (2 * cap) m), .inr (.inl (fun k => lN (wd S k)))))]]) B (ci := 26) (k := 0) (j := 0) in_J5 tyJ5 tyJ5_ok nmJ5 rfl dJ5_ensureCapacity_30 rfl rfl (Nat.le_of_ble_eq_true rfl) q265 rfl rfl rfl rfl (Nat.le_of_ble_eq_true rfl) rfl ?_
    refine g_aload_n (q := 34) B dJ5_ensureCapacity_33 rfl rfl (rv_r _) ?_
    refine g_iconst (v := nI 0) (q := 35) B dJ5_ensureCapacity_34 rfl (by decide) ?_
    refine g_put (q := 38) (L2 := [[(b, .inr (26, [.ref c27, .int (nI n), .int (nI 0)]))], [(arr, .inl (g.2.1 3, cap, .inr (.inl (fun k => lN (wd S k)))))], [(c27, .inl (g.2.1 3, (max (2 * cap) m), .inr (.inl (fun k => lN (wd S k)))))]]) B (ci := 26) (k := 0) (j := 2) in_J5 tyJ5 tyJ5_ok nmJ5 rfl dJ5_ensureCapacity_35 rfl rfl (Nat.le_of_ble_eq_true rfl) q267 rfl rfl rfl rfl (Nat.le_of_ble_eq_true rfl) rfl ?_
    have hcn : capN cap m = max (2 * cap) m := capN_gt (by omega)
    refine g_pk [0, 1] rfl rfl ?_
    refine (show Go g κ 38 [some (.ref b), some (.int (nI m)), some (.int (nI (max (2 * cap) m)))] [] [[(b, .inr (26, [.ref c27, .int (nI n), .int (nI 0)]))], [(c27, .inl (g.2.1 3, (max (2 * cap) m), .inr (.inl (fun k => lN (wd S k)))))]] (mc - 1) (ms - (max (2 * cap) m)) from ?_)
    exact g_vret B E dJ5_ensureCapacity_38 (⟨c27, rfl, by rw [hcn]⟩)
theorem moJ5_ensureCapacity : Mo yJ5_ensureCapacity 1 := by
  refine ⟨by decide, by decide, by decide +kernel⟩
theorem ct_J5_expandTo (g : Gv) (J : Jd g) {b : Nat} {arr : Nat} {S : Nat → Bool} {n : Nat} {cap : Nat} {m : Nat} {mc : Nat} {ms : Nat} (hS : ∀ i, 64 * n ≤ i → S i = false) (hn : n ≤ cap) (hc0 : 0 < cap) (hc : cap < 65536) (hm : m < 65535) (hmc : cap < m + 1 → 1 ≤ mc ∧ max (2 * cap) (m + 1) ≤ ms) : Ct g yJ5_expandTo (ws_ yJ5_expandTo cJ5_expandTo 3 none) 3 mc ms [.ref b, .int (nI m)] [[(b, .inr (26, [.ref arr, .int (nI n), .int (nI 0)]))], [(arr, .inl (g.2.1 3, cap, .inr (.inl (fun k => lN (wd S k)))))]] (fun (rv_ : Option Value) (rL_ : List va_W) => ∃ (c : Nat), rv_ = none ∧ rL_ = [[(b, .inr (26, [.ref c, .int (nI (max n (m + 1))), .int (nI 0)]))], [(c, .inl (g.2.1 3, capN cap (m + 1), .inr (.inl (fun k => lN (wd S k)))))]]) noX := by
  refine Ct.of "java/util/BitSet" [some (.ref b), some (.int (nI m)), none] rfl (by decide) rfl (Nat.le_of_ble_eq_true rfl) rfl ?_
  intro κ B E tb
  refine g_iload_n (q := 1) B dJ5_expandTo_0 rfl rfl ?_
  refine g_iconst (v := nI 1) (q := 2) B dJ5_expandTo_1 rfl (by decide) ?_
  refine g_iadd (v := nI (m + 1)) (q := 3) B dJ5_expandTo_2 rfl (nI_add _ _) ?_
  refine g_istore_n (q := 4) (lv2 := [some (.ref b), some (.int (nI m)), some (.int (nI (m + 1)))]) B dJ5_expandTo_3 rfl (Nat.le_of_ble_eq_true rfl) rfl ?_
  refine g_aload_n (q := 5) B dJ5_expandTo_4 rfl rfl (rv_r _) ?_
  refine g_get (q := 8) B (ci := 26) (k := 0) (j := 1) in_J5 rfl dJ5_expandTo_5 rfl rfl (Nat.le_of_ble_eq_true rfl) q266 rfl rfl ?_
  refine g_iload_n (q := 9) B dJ5_expandTo_8 rfl rfl ?_
  refine g_icmp_ge (tgt := 22) (q := 12) B dJ5_expandTo_9 rfl (by decide) (nI_leI (by omega) (by omega)) (fun c9 => ?_) (fun c9 => ?_)
  · skip
    exact g_vret B E dJ5_expandTo_22 (⟨arr, rfl, by rw [Nat.max_eq_left (by omega), capN_le (by omega)]⟩)
  · skip
    refine g_aload_n (q := 13) B dJ5_expandTo_12 rfl rfl (rv_r _) ?_
    refine g_iload_n (q := 14) B dJ5_expandTo_13 rfl rfl ?_
    refine g_callV (q := 17) (is := [0, 0]) (kc2 := 0) (ks2 := 0) B [.int (nI (m + 1))] (ct_J5_ensureCapacity g J (b := b) (arr := arr) (S := S) (n := n) (cap := cap) (m := m + 1) (mc := mc) (ms := ms)  (by first | assumption | omega | rfl) (by first | assumption | omega | rfl) (by first | assumption | omega | rfl) (by first | assumption | omega | rfl) (by first | assumption | omega | rfl) (by first | assumption | omega | rfl)) dJ5_expandTo_14 rfl (rc_at B (ci := 26) rfl (k := 0) rfl) rfl q1064 q1066 qs7 q84 q1067 rfl rfl moJ5_ensureCapacity rfl rfl (by decide) (by decide) (Nat.le_of_ble_eq_true rfl) (by omega) (by omega) (fun _ _ hx => noX_x hx) (fun v14 L1 hp14 => ?_)
    obtain ⟨c14, rfl, rfl⟩ := hp14
    refine (show Go g κ 17 [some (.ref b), some (.int (nI m)), some (.int (nI (m + 1)))] [] [[(b, .inr (26, [.ref c14, .int (nI n), .int (nI 0)]))], [(c14, .inl (g.2.1 3, capN cap (m + 1), .inr (.inl (fun k => lN (wd S k)))))]] 0 0 from ?_)
    refine g_aload_n (q := 18) B dJ5_expandTo_17 rfl rfl (rv_r _) ?_
    refine g_iload_n (q := 19) B dJ5_expandTo_18 rfl rfl ?_
    refine g_put (q := 22) (L2 := [[(b, .inr (26, [.ref c14, .int (nI (m + 1)), .int (nI 0)]))], [(c14, .inl (g.2.1 3, capN cap (m + 1), .inr (.inl (fun k => lN (wd S k)))))]]) B (ci := 26) (k := 0) (j := 1) in_J5 tyJ5 tyJ5_ok nmJ5 rfl dJ5_expandTo_19 rfl rfl (Nat.le_of_ble_eq_true rfl) q266 rfl rfl rfl rfl (Nat.le_of_ble_eq_true rfl) rfl ?_
    exact g_vret B E dJ5_expandTo_22 (⟨c14, by rfl, by rw [Nat.max_eq_right (by omega)]⟩)
theorem up_ins (S : Nat → Bool) (i : Nat) : vp_updL (fun k => lN (wd S k)) (i / 64) (lN (wd (sIns S i) (i / 64))) = fun k => lN (wd (sIns S i) k) := by
  funext k
  unfold vp_updL
  by_cases h : k = i / 64
  · rw [if_pos h, h]
  · rw [if_neg h, wd_ins_ne S h]
theorem moJ5_expandTo : Mo yJ5_expandTo 1 := by
  refine ⟨by decide, by decide, by decide +kernel⟩
theorem ct_J5_set (g : Gv) (J : Jd g) {b : Nat} {S : Nat → Bool} {cap : Nat} {i : Nat} {mc : Nat} {ms : Nat} {w0 : va_W} (hw0 : SetP g b S cap w0) (hi : i < 4000000) (hcb : cap < 32768) (hmc : cap < i / 64 + 1 → 1 ≤ mc ∧ max (2 * cap) (i / 64 + 1) ≤ ms) : Ct g yJ5_set (ws_ yJ5_set cJ5_set 3 none) 4 mc ms [.ref b, .int (nI i)] [w0] (fun (rv_ : Option Value) (rL_ : List va_W) => ∃ (u0 : va_W), rv_ = none ∧ rL_ = [u0] ∧ SetP g b (sIns S i) (capN cap (i / 64 + 1)) u0) noX := by
  refine Ct.of "java/util/BitSet" [some (.ref b), some (.int (nI i)), none] rfl (by decide) rfl (Nat.le_of_ble_eq_true rfl) rfl ?_
  intro κ B E tb
  obtain ⟨n, arr, hn, hc0, hc1, hS, rfl⟩ := hw0
  refine g_open 0 rfl rfl rfl ?_
  refine (show Go g κ 0 [some (.ref b), some (.int (nI i)), none] [] [[(b, .inr (26, [.ref arr, .int (nI n), .int (nI 0)]))], [(arr, .inl (g.2.1 3, cap, .inr (.inl (fun k => lN (wd S k)))))]] mc ms from ?_)
  refine g_iload_n (q := 1) B dJ5_set_0 rfl rfl ?_
  refine g_if_ge (tgt := 31) (q := 4) B dJ5_set_1 rfl (by decide) (iff_true_intro (nI_pos' (by omega))) (fun _ => ?_) (fun z => absurd trivial z)
  refine g_iload_n (q := 32) B dJ5_set_31 rfl rfl ?_
  refine g_callS (q := 35) (is := []) (kc2 := mc) (ks2 := ms) B [.int (nI i)] (ct_J5_wordIndex g J (i := i)  (by first | assumption | omega | rfl)) dJ5_set_32 rfl q262 q263 q84 q264 rfl rfl moJ5_wordIndex rfl rfl (by decide) (by decide) (Nat.le_of_ble_eq_true rfl) (by omega) (by omega) (fun _ _ hx => noX_x hx) (fun v32 L1 hp32 => ?_)
  obtain ⟨rfl, rfl⟩ := hp32
  refine (show Go g κ 35 [some (.ref b), some (.int (nI i)), none] [.int (nI (i / 64))] [[(b, .inr (26, [.ref arr, .int (nI n), .int (nI 0)]))], [(arr, .inl (g.2.1 3, cap, .inr (.inl (fun k => lN (wd S k)))))]] mc ms from ?_)
  refine g_istore_n (q := 36) (lv2 := [some (.ref b), some (.int (nI i)), some (.int (nI (i / 64)))]) B dJ5_set_35 rfl (Nat.le_of_ble_eq_true rfl) rfl ?_
  refine g_aload_n (q := 37) B dJ5_set_36 rfl rfl (rv_r _) ?_
  refine g_iload_n (q := 38) B dJ5_set_37 rfl rfl ?_
  refine g_callV (q := 41) (is := [0, 0]) (kc2 := 0) (ks2 := 0) B [.int (nI (i / 64))] (ct_J5_expandTo g J (b := b) (arr := arr) (S := S) (n := n) (cap := cap) (m := i / 64) (mc := mc) (ms := ms)  (by first | assumption | omega | rfl) (by first | assumption | omega | rfl) (by first | assumption | omega | rfl) (by first | assumption | omega | rfl) (by first | assumption | omega | rfl) (by first | assumption | omega | rfl)) dJ5_set_38 rfl (rc_at B (ci := 26) rfl (k := 0) rfl) rfl q1060 q1062 qs6 q84 q1063 rfl rfl moJ5_expandTo rfl rfl (by decide) (by decide) (Nat.le_of_ble_eq_true rfl) (by omega) (by omega) (fun _ _ hx => noX_x hx) (fun v38 L1 hp38 => ?_)
  obtain ⟨c38, rfl, rfl⟩ := hp38
  refine (show Go g κ 41 [some (.ref b), some (.int (nI i)), some (.int (nI (i / 64)))] [] [[(b, .inr (26, [.ref c38, .int (nI (max n ((i / 64) + 1))), .int (nI 0)]))], [(c38, .inl (g.2.1 3, capN cap ((i / 64) + 1), .inr (.inl (fun k => lN (wd S k)))))]] 0 0 from ?_)
  have hcl : i / 64 + 1 ≤ capN cap (i / 64 + 1) ∧ capN cap (i / 64 + 1) < 65536 ∧ n ≤ capN cap (i / 64 + 1) := by unfold capN; split <;> omega
  refine g_aload_n (q := 42) B dJ5_set_41 rfl rfl (rv_r _) ?_
  refine g_get (q := 45) B (ci := 26) (k := 0) (j := 0) in_J5 rfl dJ5_set_42 rfl rfl (Nat.le_of_ble_eq_true rfl) q265 rfl rfl ?_
  refine g_iload_n (q := 46) B dJ5_set_45 rfl rfl ?_
  refine g_dup2_11 (q := 47) B dJ5_set_46 rfl rfl rfl ?_
  refine g_lald (v := lN (wd S (i / 64))) (q := 48) B (k := 1) dJ5_set_47 rfl rfl (vp_in_nI (by omega) (by omega)) (by rw [nI_clamp (by omega)]) ?_
  refine g_lconst (v := 1) (q := 49) B dJ5_set_48 rfl (by decide) ?_
  refine g_iload_n (q := 50) B dJ5_set_49 rfl rfl ?_
  refine g_lshl (v := lN (2 ^ (i % 64))) (q := 51) B dJ5_set_50 rfl (sh_one (by omega)) ?_
  refine g_lor (v := lN (wd (sIns S i) (i / 64))) (q := 52) B dJ5_set_51 rfl (by rw [wb_or (wd_lt _ _) (Nat.pow_lt_pow_right (by decide) (by omega)), wd_ins]) ?_
  refine g_last (q := 53) (L2 := [[(b, .inr (26, [.ref c38, .int (nI (max n ((i / 64) + 1))), .int (nI 0)]))], [(c38, .inl (g.2.1 3, capN cap ((i / 64) + 1), .inr (.inl (fun k => lN (wd (sIns S i) k)))))]]) B (k := 1) dJ5_set_52 rfl rfl (vp_in_nI (by omega) (by omega)) ?_ ?_
  · rw [nI_clamp (by omega), up_ins]
    rfl
  refine (show Go g κ 53 [some (.ref b), some (.int (nI i)), some (.int (nI (i / 64)))] [] [[(b, .inr (26, [.ref c38, .int (nI (max n ((i / 64) + 1))), .int (nI 0)]))], [(c38, .inl (g.2.1 3, capN cap ((i / 64) + 1), .inr (.inl (fun k => lN (wd (sIns S i) k)))))]] 0 0 from ?_)
  refine g_aload_n (q := 54) B dJ5_set_53 rfl rfl (rv_r _) ?_
  refine g_callV (q := 57) (is := []) (kc2 := 0) (ks2 := 0) B [] (ct_J5_checkInvariants g J (b := b)  ) dJ5_set_54 rfl (rc_at B (ci := 26) rfl (k := 0) rfl) rfl q671 q673 qs2 q84 q674 rfl rfl moJ5_checkInvariants rfl rfl (by decide) (by decide) (Nat.le_of_ble_eq_true rfl) (Nat.le_of_ble_eq_true rfl) (Nat.le_of_ble_eq_true rfl) (fun _ _ hx => noX_x hx) (fun v54 L1 hp54 => ?_)
  obtain ⟨rfl, rfl⟩ := hp54
  refine (show Go g κ 57 [some (.ref b), some (.int (nI i)), some (.int (nI (i / 64)))] [] [[(b, .inr (26, [.ref c38, .int (nI (max n ((i / 64) + 1))), .int (nI 0)]))], [(c38, .inl (g.2.1 3, capN cap ((i / 64) + 1), .inr (.inl (fun k => lN (wd (sIns S i) k)))))]] 0 0 from ?_)
  obtain ⟨wc_1, ewc_1⟩ : ∃ w : va_W, w = ([[(b, .inr (26, [.ref c38, .int (nI (max n ((i / 64) + 1))), .int (nI 0)]))], [(c38, .inl (g.2.1 3, capN cap ((i / 64) + 1), .inr (.inl (fun k => lN (wd (sIns S i) k)))))]] : List va_W).flatten := ⟨_, rfl⟩
  have hwc_1 : SetP g b (sIns S i) (capN cap (i / 64 + 1)) wc_1 := by
    rw [ewc_1]
    exact ⟨max n (i / 64 + 1), c38, by omega, by omega, by omega, fun j hj => by simp only [sIns, hS j (by omega), Bool.or_false, beq_eq_false_iff_ne, ne_eq]; omega, rfl⟩
  refine g_close (w := wc_1) [0, 0] rfl ewc_1 rfl ?_
  refine (show Go g κ 57 [some (.ref b), some (.int (nI i)), some (.int (nI (i / 64)))] [] [wc_1] 0 0 from ?_)
  exact g_vret B E dJ5_set_57 (⟨wc_1, rfl, rfl, hwc_1⟩)
