set_option maxRecDepth 100000
theorem ct_J49_equals (g : Gv) (J : Jd g) {a : Nat} {r : Option Nat} : Ct g yJ49_equals (ws_ yJ49_equals cJ49_equals 2 (some .boolean)) 1 0 0 [.ref a, va_rf r] [] (fun (v : Option Value) (L : List va_W) => v = some (.int (nI (if some a = r then 1 else 0))) ∧ L = []) noX := by
  refine Ct.ofF "java/lang/Object" [some (.ref a), some (va_rf r)] rfl (by decide +kernel) rfl (by simp [lg_sl, cat_i, cat_r, cat_n, cat_l, cat_o]) (by simp [lprs, lv_args, cat_i, cat_r, cat_n, cat_l, cat_o]) ?_
  intro κ B E tb
  refine g_aload_n (q := 1) B dJ49_equals_0 rfl rfl (rv_r _) ?_
  refine g_aload_n (q := 2) B dJ49_equals_1 rfl rfl (rv_o _) ?_
  refine g_acmp_ne (rx := some a) (ry := r) (tgt := 9) (q := 5) B dJ49_equals_2 rfl (by decide) rfl rfl (Iff.rfl) (fun c2 => ?_) (fun c2 => ?_)
  · skip
    refine g_iconst (v := nI 0) (q := 10) B dJ49_equals_9 rfl (by decide) ?_
    exact g_zret B E dJ49_equals_10 (by decide) (⟨bo0 (by first | assumption | omega | (simp_all; done)), rfl⟩)
  · skip
    refine g_iconst (v := nI 1) (q := 6) B dJ49_equals_5 rfl (by decide) ?_
    refine g_goto (tgt := 10) B dJ49_equals_6 (by decide) ?_
    exact g_zret B E dJ49_equals_10 (by decide) (⟨bo1 (by first | assumption | omega | (simp_all; done)), rfl⟩)
theorem ct_J2_clear (g : Gv) (J : Jd g) {p : Nat} {xs : List Nat} {md : Int32} {cap : Nat} {w0 : va_W} (hw0 : ListP g p xs md cap w0) : Ct g yJ2_clear (ws_ yJ2_clear cJ2_clear 4 none) 1 0 0 [.ref p] [w0] (fun (v : Option Value) (L : List va_W) => ∃ (md2 : Int32) (u0 : va_W), v = none ∧ L = [u0] ∧ ListP g p ([]) md2 cap u0) noX := by
  refine Ct.of "java/util/ArrayList" [some (.ref p), none, none, none] rfl (by decide) rfl (Nat.le_of_ble_eq_true rfl) rfl ?_
  intro κ B E tb
  rcases hw0 with ⟨rfl, rfl, rfl⟩ | ⟨arr, hc0, hc1, hc2, rfl⟩
  · skip
    refine g_open 0 rfl rfl rfl ?_
    refine (show Go g κ 0 [some (.ref p), none, none, none] [] [[(p, .inr (21, [.int md, .ref (gA g 0), .int (nI 0)]))]] 0 0 from ?_)
    refine g_aload_n (q := 1) B dJ2_clear_0 rfl rfl (rv_r _) ?_
    refine g_dup (q := 2) B dJ2_clear_1 rfl rfl ?_
    refine g_getS (q := 5) B (ci := 21) (k := 0) (j := 0) in_J2 rfl dJ2_clear_2 rfl rfl (Nat.le_of_ble_eq_true rfl) q186 q185 rfl ?_
    refine g_iconst (v := nI 1) (q := 6) B dJ2_clear_5 rfl (by decide) ?_
    refine g_iadd (v := md + (nI 1)) (q := 7) B dJ2_clear_6 rfl rfl ?_
    refine g_putS (q := 10) (L2 := [[(p, .inr (21, [.int (md + (nI 1)), .ref (gA g 0), .int (nI 0)]))]]) B (ci := 21) (k := 0) (j := 0) in_J2 tyJ2 tyJ2_ok nmJ2 rfl dJ2_clear_7 rfl rfl (Nat.le_of_ble_eq_true rfl) q186 q185 rfl rfl rfl (Nat.le_of_ble_eq_true rfl) rfl ?_
    refine g_aload_n (q := 11) B dJ2_clear_10 rfl rfl (rv_r _) ?_
    refine g_get (q := 14) B (ci := 21) (k := 0) (j := 1) in_J2 rfl dJ2_clear_11 rfl rfl (Nat.le_of_ble_eq_true rfl) q179 rfl rfl ?_
    refine g_astore_n (q := 15) (lv2 := [some (.ref p), some (.ref (gA g 0)), none, none]) B dJ2_clear_14 rfl (Nat.le_of_ble_eq_true rfl) (rv_r _) rfl ?_
    refine g_aload_n (q := 16) B dJ2_clear_15 rfl rfl (rv_r _) ?_
    refine g_get (q := 19) B (ci := 21) (k := 0) (j := 2) in_J2 rfl dJ2_clear_16 rfl rfl (Nat.le_of_ble_eq_true rfl) q182 rfl rfl ?_
    refine g_istore_n (q := 20) (lv2 := [some (.ref p), some (.ref (gA g 0)), some (.int (nI 0)), none]) B dJ2_clear_19 rfl (Nat.le_of_ble_eq_true rfl) rfl ?_
    refine g_aload_n (q := 21) B dJ2_clear_20 rfl rfl (rv_r _) ?_
    refine g_iconst (v := nI 0) (q := 22) B dJ2_clear_21 rfl (by decide) ?_
    refine g_dup_x1 (q := 23) B dJ2_clear_22 rfl rfl rfl ?_
    refine g_put (q := 26) (L2 := [[(p, .inr (21, [.int (md + (nI 1)), .ref (gA g 0), .int (nI 0)]))]]) B (ci := 21) (k := 0) (j := 2) in_J2 tyJ2 tyJ2_ok nmJ2 rfl dJ2_clear_23 rfl rfl (Nat.le_of_ble_eq_true rfl) q182 rfl rfl rfl rfl (Nat.le_of_ble_eq_true rfl) rfl ?_
    refine g_istore_n (q := 27) (lv2 := [some (.ref p), some (.ref (gA g 0)), some (.int (nI 0)), some (.int (nI 0))]) B dJ2_clear_26 rfl (Nat.le_of_ble_eq_true rfl) rfl ?_
    refine g_iload_n (q := 28) B dJ2_clear_27 rfl rfl ?_
    refine g_iload_n (q := 29) B dJ2_clear_28 rfl rfl ?_
    refine g_icmp_ge (tgt := 42) (q := 32) B dJ2_clear_29 rfl (by decide) (iff_true_intro (by decide)) (fun _ => ?_) (fun z => absurd trivial z)
    obtain ⟨wc_1, ewc_1⟩ : ∃ w : va_W, w = ([[(p, .inr (21, [.int (md + (nI 1)), .ref (gA g 0), .int (nI 0)]))]] : List va_W).flatten := ⟨_, rfl⟩
    have hwc_1 : ListP g p ([]) (md + (nI 1)) 0 wc_1 := by
      rw [ewc_1]
      exact Or.inl ⟨rfl, rfl, rfl⟩
    refine g_close (w := wc_1) [0] rfl ewc_1 rfl ?_
    refine (show Go g κ 42 [some (.ref p), some (.ref (gA g 0)), some (.int (nI 0)), some (.int (nI 0))] [] [wc_1] 0 0 from ?_)
    exact g_vret B E dJ2_clear_42 (⟨md + (nI 1), wc_1, rfl, rfl, hwc_1⟩)
  · skip
    refine g_open 0 rfl rfl rfl ?_
    refine (show Go g κ 0 [some (.ref p), none, none, none] [] [[(p, .inr (21, [.int md, .ref arr, .int (nI xs.length)]))], [(arr, .inl (g.2.1 1, cap, .inr (.inr (.inr (.inr (fun i => xs[i]?))))))]] 0 0 from ?_)
    rw [clr_0 xs]
    refine g_aload_n (q := 1) B dJ2_clear_0 rfl rfl (rv_r _) ?_
    refine g_dup (q := 2) B dJ2_clear_1 rfl rfl ?_
    refine g_getS (q := 5) B (ci := 21) (k := 0) (j := 0) in_J2 rfl dJ2_clear_2 rfl rfl (Nat.le_of_ble_eq_true rfl) q186 q185 rfl ?_
    refine g_iconst (v := nI 1) (q := 6) B dJ2_clear_5 rfl (by decide) ?_
    refine g_iadd (v := md + (nI 1)) (q := 7) B dJ2_clear_6 rfl rfl ?_
    refine g_putS (q := 10) (L2 := [[(p, .inr (21, [.int (md + (nI 1)), .ref arr, .int (nI xs.length)]))], [(arr, .inl (g.2.1 1, cap, .inr (.inr (.inr (.inr (clr xs 0))))))]]) B (ci := 21) (k := 0) (j := 0) in_J2 tyJ2 tyJ2_ok nmJ2 rfl dJ2_clear_7 rfl rfl (Nat.le_of_ble_eq_true rfl) q186 q185 rfl rfl rfl (Nat.le_of_ble_eq_true rfl) rfl ?_
    refine g_aload_n (q := 11) B dJ2_clear_10 rfl rfl (rv_r _) ?_
    refine g_get (q := 14) B (ci := 21) (k := 0) (j := 1) in_J2 rfl dJ2_clear_11 rfl rfl (Nat.le_of_ble_eq_true rfl) q179 rfl rfl ?_
    refine g_astore_n (q := 15) (lv2 := [some (.ref p), some (.ref arr), none, none]) B dJ2_clear_14 rfl (Nat.le_of_ble_eq_true rfl) (rv_r _) rfl ?_
    refine g_aload_n (q := 16) B dJ2_clear_15 rfl rfl (rv_r _) ?_
    refine g_get (q := 19) B (ci := 21) (k := 0) (j := 2) in_J2 rfl dJ2_clear_16 rfl rfl (Nat.le_of_ble_eq_true rfl) q182 rfl rfl ?_
    refine g_istore_n (q := 20) (lv2 := [some (.ref p), some (.ref arr), some (.int (nI xs.length)), none]) B dJ2_clear_19 rfl (Nat.le_of_ble_eq_true rfl) rfl ?_
    refine g_aload_n (q := 21) B dJ2_clear_20 rfl rfl (rv_r _) ?_
    refine g_iconst (v := nI 0) (q := 22) B dJ2_clear_21 rfl (by decide) ?_
    refine g_dup_x1 (q := 23) B dJ2_clear_22 rfl rfl rfl ?_
    refine g_put (q := 26) (L2 := [[(p, .inr (21, [.int (md + (nI 1)), .ref arr, .int (nI 0)]))], [(arr, .inl (g.2.1 1, cap, .inr (.inr (.inr (.inr (clr xs 0))))))]]) B (ci := 21) (k := 0) (j := 2) in_J2 tyJ2 tyJ2_ok nmJ2 rfl dJ2_clear_23 rfl rfl (Nat.le_of_ble_eq_true rfl) q182 rfl rfl rfl rfl (Nat.le_of_ble_eq_true rfl) rfl ?_
    refine g_istore_n (q := 27) (lv2 := [some (.ref p), some (.ref arr), some (.int (nI xs.length)), some (.int (nI 0))]) B dJ2_clear_26 rfl (Nat.le_of_ble_eq_true rfl) rfl ?_
    have lp27 : ∀ (n27 : Nat) (k : Nat) , k ≤ xs.length → xs.length - k = n27 → Go g κ 27 [some (.ref p), some (.ref arr), some (.int (nI xs.length)), some (.int (nI k))] [] [[(p, .inr (21, [.int (md + nI 1), .ref arr, .int (nI 0)]))], [(arr, .inl (g.2.1 1, cap, .inr (.inr (.inr (.inr (clr xs k))))))]] 0 0 := by
      intro n27
      induction n27 using Nat.strongRecOn with
      | _ n27 ih27 =>
      intro k  hk hmu27
      refine g_iload_n (q := 28) B dJ2_clear_27 rfl rfl ?_
      refine g_iload_n (q := 29) B dJ2_clear_28 rfl rfl ?_
      refine g_icmp_ge (tgt := 42) (q := 32) B dJ2_clear_29 rfl (by decide) (nI_leI (by omega) (by omega)) (fun c29 => ?_) (fun c29 => ?_)
      · skip
        obtain ⟨wc_2, ewc_2⟩ : ∃ w : va_W, w = ([[(p, .inr (21, [.int (md + nI 1), .ref arr, .int (nI 0)]))], [(arr, .inl (g.2.1 1, cap, .inr (.inr (.inr (.inr (clr xs k))))))]] : List va_W).flatten := ⟨_, rfl⟩
        have hwc_2 : ListP g p ([]) (md + nI 1) cap wc_2 := by
          rw [ewc_2]
          exact Or.inr ⟨arr, hc0, hc1, Nat.zero_le _, by rw [show k = xs.length by omega, clr_n]; rfl⟩
        refine g_close (w := wc_2) [0, 0] rfl ewc_2 rfl ?_
        refine (show Go g κ 42 [some (.ref p), some (.ref arr), some (.int (nI xs.length)), some (.int (nI k))] [] [wc_2] 0 0 from ?_)
        exact g_vret B E dJ2_clear_42 (⟨md + nI 1, wc_2, rfl, rfl, hwc_2⟩)
      · skip
        refine g_aload_n (q := 33) B dJ2_clear_32 rfl rfl (rv_r _) ?_
        refine g_iload_n (q := 34) B dJ2_clear_33 rfl rfl ?_
        refine g_aconst_null (q := 35) B dJ2_clear_34 rfl ?_
        refine g_astN (q := 36) (L2 := [[(p, .inr (21, [.int (md + nI 1), .ref arr, .int (nI 0)]))], [(arr, .inl (g.2.1 1, cap, .inr (.inr (.inr (.inr (clr xs (k + 1)))))))]]) B (k := 1) (t := 1) dJ2_clear_35 rfl rfl rfl (vp_in_nI (by omega) (by omega)) (by rw [nI_clamp (by omega), clr_s]; rfl) ?_
        refine (show Go g κ 36 [some (.ref p), some (.ref arr), some (.int (nI xs.length)), some (.int (nI k))] [] [[(p, .inr (21, [.int (md + nI 1), .ref arr, .int (nI 0)]))], [(arr, .inl (g.2.1 1, cap, .inr (.inr (.inr (.inr (clr xs (k + 1)))))))]] 0 0 from ?_)
        refine g_iinc (v := nI (k + 1)) (q := 39) (lv2 := [some (.ref p), some (.ref arr), some (.int (nI xs.length)), some (.int (nI (k + 1)))]) B dJ2_clear_36 rfl rfl (nI_add _ 1) (Nat.le_of_ble_eq_true rfl) rfl ?_
        refine g_goto (tgt := 27) B dJ2_clear_39 (by decide) ?_
        exact ih27 _ (by omega) (k + 1) (by first | assumption | omega | rfl) rfl
    exact lp27 _ 0 (by first | assumption | omega | rfl) rfl
theorem era1 {xs : List Nat} {i : Nat} (h : i < xs.length) : va_up (va_cpy (fun j => xs[j]?) (fun j => xs[j]?) (i + 1) i (xs.length - 1 - i)) (xs.length - 1) none = fun j => (xs.eraseIdx i)[j]? := by
  funext j
  rw [List.getElem?_eraseIdx]
  unfold va_up va_cpy
  by_cases h1 : j = xs.length - 1
  · rw [if_pos h1]
    by_cases h2 : j < i
    · omega
    · rw [if_neg h2, List.getElem?_eq_none (by omega)]
  · rw [if_neg h1]
    by_cases h2 : j < i
    · rw [if_neg (by omega), if_pos h2]
    · rw [if_neg h2]
      by_cases h3 : i ≤ j ∧ j < i + (xs.length - 1 - i)
      · rw [if_pos h3, show i + 1 + (j - i) = j + 1 by omega]
      · rw [if_neg h3]
        show xs[j]? = xs[j + 1]?
        rw [List.getElem?_eq_none (by omega), List.getElem?_eq_none (by omega)]
theorem era2 {xs : List Nat} {i : Nat} (h : i = xs.length - 1) (h0 : 0 < xs.length) : va_up (fun j => xs[j]?) (xs.length - 1) none = fun j => (xs.eraseIdx i)[j]? := by
  funext j
  rw [List.getElem?_eraseIdx]
  unfold va_up
  by_cases h1 : j = xs.length - 1
  · rw [if_pos h1, if_neg (by omega), List.getElem?_eq_none (by omega)]
  · rw [if_neg h1]
    by_cases h2 : j < i
    · rw [if_pos h2]
    · rw [if_neg h2]
      show xs[j]? = xs[j + 1]?
      rw [List.getElem?_eq_none (by omega), List.getElem?_eq_none (by omega)]
theorem ct_J2_fastRemove (g : Gv) (J : Jd g) {p : Nat} {md : Int32} {arr : Nat} {cap : Nat} {xs : List Nat} {i : Nat} {we : va_W} (hi : i < xs.length) (hc : xs.length ≤ cap) (h1 : cap < 16777216) (he : EltP g xs we) : Ct g yJ2_fastRemove (ws_ yJ2_fastRemove cJ2_fastRemove 4 none) 2 0 0 [.ref p, .ref arr, .int (nI i)] [[(p, .inr (21, [.int md, .ref arr, .int (nI xs.length)]))], [(arr, .inl (g.2.1 1, cap, .inr (.inr (.inr (.inr (fun i => xs[i]?))))))], we] (fun (v : Option Value) (L : List va_W) => v = none ∧ L = [[(p, .inr (21, [.int (md + nI 1), .ref arr, .int (nI (xs.length - 1))]))], [(arr, .inl (g.2.1 1, cap, .inr (.inr (.inr (.inr (fun j => (xs.eraseIdx i)[j]?))))))], we]) noX := by
  refine Ct.of "java/util/ArrayList" [some (.ref p), some (.ref arr), some (.int (nI i)), none] rfl (by decide) rfl (Nat.le_of_ble_eq_true rfl) rfl ?_
  intro κ B E tb
  refine g_aload_n (q := 1) B dJ2_fastRemove_0 rfl rfl (rv_r _) ?_
  refine g_dup (q := 2) B dJ2_fastRemove_1 rfl rfl ?_
  refine g_getS (q := 5) B (ci := 21) (k := 0) (j := 0) in_J2 rfl dJ2_fastRemove_2 rfl rfl (Nat.le_of_ble_eq_true rfl) q186 q185 rfl ?_
  refine g_iconst (v := nI 1) (q := 6) B dJ2_fastRemove_5 rfl (by decide) ?_
  refine g_iadd (v := md + (nI 1)) (q := 7) B dJ2_fastRemove_6 rfl rfl ?_
  refine g_putS (q := 10) (L2 := [[(p, .inr (21, [.int (md + (nI 1)), .ref arr, .int (nI xs.length)]))], [(arr, .inl (g.2.1 1, cap, .inr (.inr (.inr (.inr (fun i => xs[i]?))))))], we]) B (ci := 21) (k := 0) (j := 0) in_J2 tyJ2 tyJ2_ok nmJ2 rfl dJ2_fastRemove_7 rfl rfl (Nat.le_of_ble_eq_true rfl) q186 q185 rfl rfl rfl (Nat.le_of_ble_eq_true rfl) rfl ?_
  refine g_aload_n (q := 11) B dJ2_fastRemove_10 rfl rfl (rv_r _) ?_
  refine g_get (q := 14) B (ci := 21) (k := 0) (j := 2) in_J2 rfl dJ2_fastRemove_11 rfl rfl (Nat.le_of_ble_eq_true rfl) q182 rfl rfl ?_
  refine g_iconst (v := nI 1) (q := 15) B dJ2_fastRemove_14 rfl (by decide) ?_
  refine g_isub (v := nI (xs.length - 1)) (q := 16) B dJ2_fastRemove_15 rfl (pk_sub (by omega)) ?_
  refine g_dup (q := 17) B dJ2_fastRemove_16 rfl rfl ?_
  refine g_istore_n (q := 18) (lv2 := [some (.ref p), some (.ref arr), some (.int (nI i)), some (.int (nI (xs.length - 1)))]) B dJ2_fastRemove_17 rfl (Nat.le_of_ble_eq_true rfl) rfl ?_
  refine g_iload_n (q := 19) B dJ2_fastRemove_18 rfl rfl ?_
  refine g_icmp_le (tgt := 34) (q := 22) B dJ2_fastRemove_19 rfl (by decide) (nI_leI (by omega) (by omega)) (fun c19 => ?_) (fun c19 => ?_)
  · skip
    refine g_aload_n (q := 35) B dJ2_fastRemove_34 rfl rfl (rv_r _) ?_
    refine g_aload_n (q := 36) B dJ2_fastRemove_35 rfl rfl (rv_r _) ?_
    refine g_iload_n (q := 37) B dJ2_fastRemove_36 rfl rfl ?_
    refine g_dup_x1 (q := 38) B dJ2_fastRemove_37 rfl rfl rfl ?_
    refine g_put (q := 41) (L2 := [[(p, .inr (21, [.int (md + (nI 1)), .ref arr, .int (nI (xs.length - 1))]))], [(arr, .inl (g.2.1 1, cap, .inr (.inr (.inr (.inr (fun i => xs[i]?))))))], we]) B (ci := 21) (k := 0) (j := 2) in_J2 tyJ2 tyJ2_ok nmJ2 rfl dJ2_fastRemove_38 rfl rfl (Nat.le_of_ble_eq_true rfl) q182 rfl rfl rfl rfl (Nat.le_of_ble_eq_true rfl) rfl ?_
    refine g_aconst_null (q := 42) B dJ2_fastRemove_41 rfl ?_
    refine g_astN (q := 43) (L2 := [[(p, .inr (21, [.int (md + (nI 1)), .ref arr, .int (nI (xs.length - 1))]))], [(arr, .inl (g.2.1 1, cap, .inr (.inr (.inr (.inr (fun j => (xs.eraseIdx i)[j]?))))))], we]) B (k := 1) (t := 1) dJ2_fastRemove_42 rfl rfl rfl (vp_in_nI (by omega) (by omega)) ?_ ?_
    · rw [nI_clamp (by omega), era2 (i := i) (by omega) (by omega)]
      rfl
    refine (show Go g κ 43 [some (.ref p), some (.ref arr), some (.int (nI i)), some (.int (nI (xs.length - 1)))] [] [[(p, .inr (21, [.int (md + (nI 1)), .ref arr, .int (nI (xs.length - 1))]))], [(arr, .inl (g.2.1 1, cap, .inr (.inr (.inr (.inr (fun j => (xs.eraseIdx i)[j]?))))))], we] 0 0 from ?_)
    exact g_vret B E dJ2_fastRemove_43 (⟨rfl, rfl⟩)
  · skip
    refine g_aload_n (q := 23) B dJ2_fastRemove_22 rfl rfl (rv_r _) ?_
    refine g_iload_n (q := 24) B dJ2_fastRemove_23 rfl rfl ?_
    refine g_iconst (v := nI 1) (q := 25) B dJ2_fastRemove_24 rfl (by decide) ?_
    refine g_iadd (v := nI (i + 1)) (q := 26) B dJ2_fastRemove_25 rfl (nI_add _ _) ?_
    refine g_aload_n (q := 27) B dJ2_fastRemove_26 rfl rfl (rv_r _) ?_
    refine g_iload_n (q := 28) B dJ2_fastRemove_27 rfl rfl ?_
    refine g_iload_n (q := 29) B dJ2_fastRemove_28 rfl rfl ?_
    refine g_iload_n (q := 30) B dJ2_fastRemove_29 rfl rfl ?_
    refine g_isub (v := nI ((xs.length - 1) - i)) (q := 31) B dJ2_fastRemove_30 rfl (pk_sub (by omega)) ?_
    refine g_copyM (q := 34) (L2 := [[(p, .inr (21, [.int (md + (nI 1)), .ref arr, .int (nI xs.length)]))], [(arr, .inl (g.2.1 1, cap, .inr (.inr (.inr (.inr (va_cpy (fun j => xs[j]?) (fun j => xs[j]?) (i + 1) i (xs.length - 1 - i)))))))], we]) B (k0 := 1) (k1 := 1) (t0 := 1) (t1 := 1) ⟨q2260, q463, q462, q95⟩ rfl rfl rfl rfl (nI_pos (by omega)) (nI_pos (by omega)) (nI_pos (by omega)) (by rw [nI_clamp (by omega), nI_clamp (by omega)]; omega) (by rw [nI_clamp (by omega), nI_clamp (by omega)]; omega) (fun i _ y hy => rc_el B J (k := 2) rfl he hy) dJ2_fastRemove_31 rfl rfl (Nat.le_of_ble_eq_true rfl) ?_ ?_
    · rw [nI_clamp (by omega), nI_clamp (by omega), nI_clamp (by omega)]
      rfl
    refine (show Go g κ 34 [some (.ref p), some (.ref arr), some (.int (nI i)), some (.int (nI (xs.length - 1)))] [] [[(p, .inr (21, [.int (md + (nI 1)), .ref arr, .int (nI xs.length)]))], [(arr, .inl (g.2.1 1, cap, .inr (.inr (.inr (.inr (va_cpy (fun j => xs[j]?) (fun j => xs[j]?) (i + 1) i (xs.length - 1 - i)))))))], we] 0 0 from ?_)
    refine g_aload_n (q := 35) B dJ2_fastRemove_34 rfl rfl (rv_r _) ?_
    refine g_aload_n (q := 36) B dJ2_fastRemove_35 rfl rfl (rv_r _) ?_
    refine g_iload_n (q := 37) B dJ2_fastRemove_36 rfl rfl ?_
    refine g_dup_x1 (q := 38) B dJ2_fastRemove_37 rfl rfl rfl ?_
    refine g_put (q := 41) (L2 := [[(p, .inr (21, [.int (md + (nI 1)), .ref arr, .int (nI (xs.length - 1))]))], [(arr, .inl (g.2.1 1, cap, .inr (.inr (.inr (.inr (va_cpy (fun j => xs[j]?) (fun j => xs[j]?) (i + 1) i (xs.length - 1 - i)))))))], we]) B (ci := 21) (k := 0) (j := 2) in_J2 tyJ2 tyJ2_ok nmJ2 rfl dJ2_fastRemove_38 rfl rfl (Nat.le_of_ble_eq_true rfl) q182 rfl rfl rfl rfl (Nat.le_of_ble_eq_true rfl) rfl ?_
    refine g_aconst_null (q := 42) B dJ2_fastRemove_41 rfl ?_
    refine g_astN (q := 43) (L2 := [[(p, .inr (21, [.int (md + (nI 1)), .ref arr, .int (nI (xs.length - 1))]))], [(arr, .inl (g.2.1 1, cap, .inr (.inr (.inr (.inr (fun j => (xs.eraseIdx i)[j]?))))))], we]) B (k := 1) (t := 1) dJ2_fastRemove_42 rfl rfl rfl (vp_in_nI (by omega) (by omega)) ?_ ?_
    · rw [nI_clamp (by omega), era1 hi]
      rfl
    refine (show Go g κ 43 [some (.ref p), some (.ref arr), some (.int (nI i)), some (.int (nI (xs.length - 1)))] [] [[(p, .inr (21, [.int (md + (nI 1)), .ref arr, .int (nI (xs.length - 1))]))], [(arr, .inl (g.2.1 1, cap, .inr (.inr (.inr (.inr (fun j => (xs.eraseIdx i)[j]?))))))], we] 0 0 from ?_)
    exact g_vret B E dJ2_fastRemove_43 (⟨rfl, rfl⟩)
theorem moJ2_fastRemove : Mo yJ2_fastRemove 2 := by
  refine ⟨by decide, by decide, by decide +kernel⟩
theorem ct_J2_remove (g : Gv) (J : Jd g) {p : Nat} {xs : List Nat} {md : Int32} {cap : Nat} {i : Nat} {x : Nat} {w0 : va_W} {we : va_W} (hw0 : ListP g p xs md cap w0) (hi : xs[i]? = some x) (he : EltP g xs we) : Ct g yJ2_remove (ws_ yJ2_remove cJ2_remove 4 (some (.object "java/lang/Object"))) 3 0 0 [.ref p, .int (nI i)] [w0, we] (fun (v : Option Value) (L : List va_W) => ∃ (md2 : Int32) (u0 : va_W), v = some (.ref x) ∧ L = [u0, we] ∧ ListP g p (xs.eraseIdx i) md2 cap u0) noX := by
  refine Ct.of "java/util/ArrayList" [some (.ref p), some (.int (nI i)), none, none] rfl (by decide) rfl (Nat.le_of_ble_eq_true rfl) rfl ?_
  intro κ B E tb
  rcases hw0 with ⟨rfl, rfl, rfl⟩ | ⟨arr, hc0, hc1, hc2, rfl⟩
  · skip
    refine g_open 0 rfl rfl rfl ?_
    refine (show Go g κ 0 [some (.ref p), some (.int (nI i)), none, none] [] [we, [(p, .inr (21, [.int md, .ref (gA g 0), .int (nI 0)]))]] 0 0 from ?_)
    exact absurd hi (by simp)
  · skip
    refine g_open 0 rfl rfl rfl ?_
    refine (show Go g κ 0 [some (.ref p), some (.int (nI i)), none, none] [] [we, [(p, .inr (21, [.int md, .ref arr, .int (nI xs.length)]))], [(arr, .inl (g.2.1 1, cap, .inr (.inr (.inr (.inr (fun i => xs[i]?))))))]] 0 0 from ?_)
    have hlt := get_lt hi
    refine g_iload_n (q := 1) B dJ2_remove_0 rfl rfl ?_
    refine g_aload_n (q := 2) B dJ2_remove_1 rfl rfl (rv_r _) ?_
    refine g_get (q := 5) B (ci := 21) (k := 1) (j := 2) in_J2 rfl dJ2_remove_2 rfl rfl (Nat.le_of_ble_eq_true rfl) q182 rfl rfl ?_
    refine g_callS (q := 8) (is := []) (kc2 := 0) (ks2 := 0) B [.int (nI i), .int (nI xs.length)] (ct_J17_checkIndex g J (i := i) (n := xs.length)  (hlt) (by omega)) dJ2_remove_5 rfl q1098 q1099 q100 q1100 rfl rfl moJ17_checkIndex rfl rfl (by decide) (by decide) (Nat.le_of_ble_eq_true rfl) (Nat.le_of_ble_eq_true rfl) (Nat.le_of_ble_eq_true rfl) (fun _ _ hx => noX_x hx) (fun v5 L1 hp5 => ?_)
    obtain ⟨rfl, rfl⟩ := hp5
    refine (show Go g κ 8 [some (.ref p), some (.int (nI i)), none, none] [.int (nI i)] [we, [(p, .inr (21, [.int md, .ref arr, .int (nI xs.length)]))], [(arr, .inl (g.2.1 1, cap, .inr (.inr (.inr (.inr (fun i => xs[i]?))))))]] 0 0 from ?_)
    refine g_pop (q := 9) B dJ2_remove_8 rfl rfl ?_
    refine g_aload_n (q := 10) B dJ2_remove_9 rfl rfl (rv_r _) ?_
    refine g_get (q := 13) B (ci := 21) (k := 1) (j := 1) in_J2 rfl dJ2_remove_10 rfl rfl (Nat.le_of_ble_eq_true rfl) q179 rfl rfl ?_
    refine g_astore_n (q := 14) (lv2 := [some (.ref p), some (.int (nI i)), some (.ref arr), none]) B dJ2_remove_13 rfl (Nat.le_of_ble_eq_true rfl) (rv_r _) rfl ?_
    refine g_aload_n (q := 15) B dJ2_remove_14 rfl rfl (rv_r _) ?_
    refine g_iload_n (q := 16) B dJ2_remove_15 rfl rfl ?_
    refine g_ald (r := some x) (q := 17) B (k := 2) (t := 1) dJ2_remove_16 rfl rfl rfl (vp_in_nI (by omega) (by omega)) (by rw [nI_clamp (by omega)]; exact hi) ?_
    refine g_astore_n (q := 18) (lv2 := [some (.ref p), some (.int (nI i)), some (.ref arr), some (.ref x)]) B dJ2_remove_17 rfl (Nat.le_of_ble_eq_true rfl) (rv_r _) rfl ?_
    refine g_aload_n (q := 19) B dJ2_remove_18 rfl rfl (rv_r _) ?_
    refine g_aload_n (q := 20) B dJ2_remove_19 rfl rfl (rv_r _) ?_
    refine g_iload_n (q := 21) B dJ2_remove_20 rfl rfl ?_
    refine g_callV (q := 24) (is := [1, 1, 0]) (kc2 := 0) (ks2 := 0) B [.ref arr, .int (nI i)] (ct_J2_fastRemove g J (p := p) (md := md) (arr := arr) (cap := cap) (xs := xs) (i := i) (we := we)  (by first | assumption | omega | rfl) (by first | assumption | omega | rfl) (by first | assumption | omega | rfl) (by first | assumption | omega | rfl)) dJ2_remove_21 rfl (rc_at B (ci := 21) rfl (k := 1) rfl) rfl q2256 q2258 qs24 q81 q2259 rfl rfl moJ2_fastRemove rfl rfl (by decide) (by decide) (Nat.le_of_ble_eq_true rfl) (Nat.le_of_ble_eq_true rfl) (Nat.le_of_ble_eq_true rfl) (fun _ _ hx => noX_x hx) (fun v21 L1 hp21 => ?_)
    obtain ⟨rfl, rfl⟩ := hp21
    refine (show Go g κ 24 [some (.ref p), some (.int (nI i)), some (.ref arr), some (.ref x)] [] [[(p, .inr (21, [.int (md + nI 1), .ref arr, .int (nI (xs.length - 1))]))], [(arr, .inl (g.2.1 1, cap, .inr (.inr (.inr (.inr (fun j => (xs.eraseIdx i)[j]?))))))], we] 0 0 from ?_)
    refine g_aload_n (q := 25) B dJ2_remove_24 rfl rfl (rv_r _) ?_
    have hel : (xs.eraseIdx i).length = xs.length - 1 := by rw [List.length_eraseIdx, if_pos hlt]
    obtain ⟨wc_1, ewc_1⟩ : ∃ w : va_W, w = ([[(p, .inr (21, [.int (md + nI 1), .ref arr, .int (nI (xs.length - 1))]))], [(arr, .inl (g.2.1 1, cap, .inr (.inr (.inr (.inr (fun j => (xs.eraseIdx i)[j]?))))))]] : List va_W).flatten := ⟨_, rfl⟩
    have hwc_1 : ListP g p (xs.eraseIdx i) (md + nI 1) cap wc_1 := by
      rw [ewc_1]
      exact Or.inr ⟨arr, hc0, hc1, by omega, by rw [hel]⟩
    refine g_close (w := wc_1) [0, 0] rfl ewc_1 rfl ?_
    refine (show Go g κ 25 [some (.ref p), some (.int (nI i)), some (.ref arr), some (.ref x)] [.ref x] [we, wc_1] 0 0 from ?_)
    refine g_pk [1, 0] rfl rfl ?_
    refine (show Go g κ 25 [some (.ref p), some (.int (nI i)), some (.ref arr), some (.ref x)] [.ref x] [wc_1, we] 0 0 from ?_)
    exact g_aret B E dJ2_remove_25 (by first | exact Or.inl ⟨_, rfl⟩ | exact Or.inr ⟨_, rfl⟩) (rv_r _) (⟨md + nI 1, wc_1, rfl, rfl, hwc_1⟩)
theorem idxOf_lt {xs : List Nat} {x : Nat} (h : x ∈ xs) : xs.idxOf x < xs.length := List.idxOf_lt_length_of_mem h
theorem idxOf_at {xs : List Nat} {x : Nat} (h : x ∈ xs) : xs[xs.idxOf x]? = some x := by
  rw [List.getElem?_eq_getElem (idxOf_lt h)]
  exact congrArg some (List.getElem_idxOf (idxOf_lt h))
theorem idxOf_ne {xs : List Nat} {x k y : Nat} (hk : k < xs.idxOf x) (h : xs[k]? = some y) : x ≠ y := by
  intro he
  subst he
  obtain ⟨hl, e⟩ := List.getElem?_eq_some_iff.mp h
  have := List.not_of_lt_findIdx (p := (· == x)) hk
  rw [e] at this
  simp at this
theorem moJ49_equals : Mo yJ49_equals 1 := by
  refine ⟨by decide, by decide, by decide +kernel⟩
theorem ct_J2_remove_2 (g : Gv) (J : Jd g) {p : Nat} {xs : List Nat} {md : Int32} {cap : Nat} {x : Nat} {fs : List Value} {w0 : va_W} {we : va_W} (hw0 : ListP g p xs md cap w0) (hx : x ∈ xs) (he : EltP g xs we) (hm : (x, .inr (4, fs)) ∈ we) : Ct g yJ2_remove_2 (ws_ yJ2_remove_2 cJ2_remove_2 5 (some .boolean)) 3 0 0 [.ref p, .ref x] [w0, we] (fun (v : Option Value) (L : List va_W) => ∃ (md2 : Int32) (u0 : va_W), v = some (.int (nI 1)) ∧ L = [u0, we] ∧ ListP g p (xs.eraseIdx (xs.idxOf x)) md2 cap u0) noX := by
  refine Ct.of "java/util/ArrayList" [some (.ref p), some (.ref x), none, none, none] rfl (by decide) rfl (Nat.le_of_ble_eq_true rfl) rfl ?_
  intro κ B E tb
  rcases hw0 with ⟨rfl, rfl, rfl⟩ | ⟨arr, hc0, hc1, hc2, rfl⟩
  · skip
    refine g_open 0 rfl rfl rfl ?_
    refine (show Go g κ 0 [some (.ref p), some (.ref x), none, none, none] [] [we, [(p, .inr (21, [.int md, .ref (gA g 0), .int (nI 0)]))]] 0 0 from ?_)
    simp at hx
  · skip
    refine g_open 0 rfl rfl rfl ?_
    refine (show Go g κ 0 [some (.ref p), some (.ref x), none, none, none] [] [we, [(p, .inr (21, [.int md, .ref arr, .int (nI xs.length)]))], [(arr, .inl (g.2.1 1, cap, .inr (.inr (.inr (.inr (fun i => xs[i]?))))))]] 0 0 from ?_)
    refine g_aload_n (q := 1) B dJ2_remove_2_0 rfl rfl (rv_r _) ?_
    refine g_get (q := 4) B (ci := 21) (k := 1) (j := 1) in_J2 rfl dJ2_remove_2_1 rfl rfl (Nat.le_of_ble_eq_true rfl) q179 rfl rfl ?_
    refine g_astore_n (q := 5) (lv2 := [some (.ref p), some (.ref x), some (.ref arr), none, none]) B dJ2_remove_2_4 rfl (Nat.le_of_ble_eq_true rfl) (rv_r _) rfl ?_
    refine g_aload_n (q := 6) B dJ2_remove_2_5 rfl rfl (rv_r _) ?_
    refine g_get (q := 9) B (ci := 21) (k := 1) (j := 2) in_J2 rfl dJ2_remove_2_6 rfl rfl (Nat.le_of_ble_eq_true rfl) q182 rfl rfl ?_
    refine g_istore_n (q := 10) (lv2 := [some (.ref p), some (.ref x), some (.ref arr), some (.int (nI xs.length)), none]) B dJ2_remove_2_9 rfl (Nat.le_of_ble_eq_true rfl) rfl ?_
    refine g_iconst (v := nI 0) (q := 11) B dJ2_remove_2_10 rfl (by decide) ?_
    refine g_istore (q := 13) (lv2 := [some (.ref p), some (.ref x), some (.ref arr), some (.int (nI xs.length)), some (.int (nI 0))]) B dJ2_remove_2_11 rfl (Nat.le_of_ble_eq_true rfl) rfl ?_
    refine g_aload_n (q := 14) B dJ2_remove_2_13 rfl rfl (rv_r _) ?_
    refine g_ifnonnull_r (tgt := 39) B dJ2_remove_2_14 (by decide) ?_
    have lp39 : ∀ (n39 : Nat) (k : Nat) , k ≤ xs.idxOf x → xs.length - k = n39 → Go g κ 39 [some (.ref p), some (.ref x), some (.ref arr), some (.int (nI xs.length)), some (.int (nI k))] [] [we, [(p, .inr (21, [.int md, .ref arr, .int (nI xs.length)]))], [(arr, .inl (g.2.1 1, cap, .inr (.inr (.inr (.inr (fun i => xs[i]?))))))]] 0 0 := by
      intro n39
      induction n39 using Nat.strongRecOn with
      | _ n39 ih39 =>
      intro k  hk hmu39
      have hlt := idxOf_lt hx
      obtain ⟨y49, hy49⟩ : ∃ y, xs[k]? = some y := ⟨_, List.getElem?_eq_getElem (by omega)⟩
      refine g_iload (q := 41) B dJ2_remove_2_39 rfl rfl ?_
      refine g_iload_n (q := 42) B dJ2_remove_2_41 rfl rfl ?_
      refine g_icmp_ge (tgt := 65) (q := 45) B dJ2_remove_2_42 rfl (by decide) (iff_false_intro (fun h => absurd ((nI_leI (by omega) (by omega)).mp h) (by omega))) (fun z => z.elim) (fun _ => ?_)
      refine g_aload_n (q := 46) B dJ2_remove_2_45 rfl rfl (rv_r _) ?_
      refine g_aload_n (q := 47) B dJ2_remove_2_46 rfl rfl (rv_r _) ?_
      refine g_iload (q := 49) B dJ2_remove_2_47 rfl rfl ?_
      refine g_ald (r := some y49) (q := 50) B (k := 2) (t := 1) dJ2_remove_2_49 rfl rfl rfl (vp_in_nI (by omega) (by omega)) (by rw [nI_clamp (by omega)]; exact hy49) ?_
      refine g_callU (q := 53) (is := []) (kc2 := 0) (ks2 := 0) B [.ref y49] (ct_J49_equals g J (a := x) (r := some y49)  ) dJ2_remove_2_50 rfl (rc_in B (ci := 4) rfl (k := 0) rfl ⟨_, hm⟩) rfl (by decide) q2792 q1365 q1372 q1364 q3671 q1407 rfl rfl moJ49_equals rfl rfl (by decide) (by decide) (Nat.le_of_ble_eq_true rfl) (Nat.le_of_ble_eq_true rfl) (Nat.le_of_ble_eq_true rfl) (fun _ _ hx => noX_x hx) (fun v50 L1 hp50 => ?_)
      obtain ⟨rfl, rfl⟩ := hp50
      refine (show Go g κ 53 [some (.ref p), some (.ref x), some (.ref arr), some (.int (nI xs.length)), some (.int (nI k))] [.int (nI (if some x = (some y49) then 1 else 0))] [we, [(p, .inr (21, [.int md, .ref arr, .int (nI xs.length)]))], [(arr, .inl (g.2.1 1, cap, .inr (.inr (.inr (.inr (fun i => xs[i]?))))))]] 0 0 from ?_)
      refine g_if_eq (tgt := 59) (q := 56) B dJ2_remove_2_53 rfl (by decide) (bo_eq) (fun c53 => ?_) (fun c53 => ?_)
      · skip
        refine g_iinc (v := nI (k + 1)) (q := 62) (lv2 := [some (.ref p), some (.ref x), some (.ref arr), some (.int (nI xs.length)), some (.int (nI (k + 1)))]) B dJ2_remove_2_59 rfl rfl (nI_add _ 1) (Nat.le_of_ble_eq_true rfl) rfl ?_
        refine g_goto (tgt := 39) B dJ2_remove_2_62 (by decide) ?_
        exact ih39 _ (by omega) (k + 1) (by
                rcases Nat.lt_or_ge k (xs.idxOf x) with h | h
                · omega
                · exfalso
                  have hkx : k = xs.idxOf x := by omega
                  rw [hkx, idxOf_at hx] at hy49
                  exact c53 hy49) rfl
      · skip
        have hkx : k = xs.idxOf x := by
          rcases Nat.lt_or_ge k (xs.idxOf x) with h | h
          · exact absurd (Option.some.inj (Classical.not_not.mp c53)) (idxOf_ne h hy49)
          · omega
        subst hkx
        refine g_goto (tgt := 67) B dJ2_remove_2_56 (by decide) ?_
        refine g_aload_n (q := 68) B dJ2_remove_2_67 rfl rfl (rv_r _) ?_
        refine g_aload_n (q := 69) B dJ2_remove_2_68 rfl rfl (rv_r _) ?_
        refine g_iload (q := 71) B dJ2_remove_2_69 rfl rfl ?_
        refine g_callV (q := 74) (is := [1, 1, 0]) (kc2 := 0) (ks2 := 0) B [.ref arr, .int (nI (xs.idxOf x))] (ct_J2_fastRemove g J (p := p) (md := md) (arr := arr) (cap := cap) (xs := xs) (i := xs.idxOf x) (we := we)  (by first | assumption | omega | rfl) (by first | assumption | omega | rfl) (by first | assumption | omega | rfl) (by first | assumption | omega | rfl)) dJ2_remove_2_71 rfl (rc_at B (ci := 21) rfl (k := 1) rfl) rfl q2256 q2258 qs24 q81 q2259 rfl rfl moJ2_fastRemove rfl rfl (by decide) (by decide) (Nat.le_of_ble_eq_true rfl) (Nat.le_of_ble_eq_true rfl) (Nat.le_of_ble_eq_true rfl) (fun _ _ hx => noX_x hx) (fun v71 L1 hp71 => ?_)
        obtain ⟨rfl, rfl⟩ := hp71
        refine (show Go g κ 74 [some (.ref p), some (.ref x), some (.ref arr), some (.int (nI xs.length)), some (.int (nI (xs.idxOf x)))] [] [[(p, .inr (21, [.int (md + nI 1), .ref arr, .int (nI (xs.length - 1))]))], [(arr, .inl (g.2.1 1, cap, .inr (.inr (.inr (.inr (fun j => (xs.eraseIdx (xs.idxOf x))[j]?))))))], we] 0 0 from ?_)
        refine g_iconst (v := nI 1) (q := 75) B dJ2_remove_2_74 rfl (by decide) ?_
        have hlt := idxOf_lt hx
        have hel : (xs.eraseIdx (xs.idxOf x)).length = xs.length - 1 := by rw [List.length_eraseIdx, if_pos hlt]
        obtain ⟨wc_1, ewc_1⟩ : ∃ w : va_W, w = ([[(p, .inr (21, [.int (md + nI 1), .ref arr, .int (nI (xs.length - 1))]))], [(arr, .inl (g.2.1 1, cap, .inr (.inr (.inr (.inr (fun j => (xs.eraseIdx (xs.idxOf x))[j]?))))))]] : List va_W).flatten := ⟨_, rfl⟩
        have hwc_1 : ListP g p (xs.eraseIdx (xs.idxOf x)) (md + nI 1) cap wc_1 := by
          rw [ewc_1]
          exact Or.inr ⟨arr, hc0, hc1, by omega, by rw [hel]⟩
        refine g_close (w := wc_1) [0, 0] rfl ewc_1 rfl ?_
        refine (show Go g κ 75 [some (.ref p), some (.ref x), some (.ref arr), some (.int (nI xs.length)), some (.int (nI (xs.idxOf x)))] [.int (nI 1)] [we, wc_1] 0 0 from ?_)
        refine g_pk [1, 0] rfl rfl ?_
        refine (show Go g κ 75 [some (.ref p), some (.ref x), some (.ref arr), some (.int (nI xs.length)), some (.int (nI (xs.idxOf x)))] [.int (nI 1)] [wc_1, we] 0 0 from ?_)
        exact g_zret B E dJ2_remove_2_75 (by decide) (⟨md + nI 1, wc_1, rfl, rfl, hwc_1⟩)
    exact lp39 _ 0 (by first | assumption | omega | rfl) rfl
