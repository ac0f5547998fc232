set_option maxRecDepth 100000
theorem ct_J10_clear (g : Gv) (J : Jd g) {t : Nat} {f : Nat → Option Nat} {n : Nat} {md : Nat} {w0 : va_W} (hw0 : MapP g t f n md w0) : Ct g yJ10_clear (ws_ yJ10_clear cJ10_clear 1 none) 0 0 0 [.ref t] [w0] (fun (rv_ : Option Value) (rL_ : List va_W) => ∃ (u0 : va_W), rv_ = none ∧ rL_ = [u0] ∧ MapP g t (fun _ => none) 0 (md + 1) u0) noX := by
  refine Ct.of "java/util/TreeMap" [some (.ref t)] rfl (by decide) rfl (Nat.le_of_ble_eq_true rfl) rfl ?_
  intro κ B E tb
  obtain ⟨vs, es, nk, ns, key, val, l, r, p, col, lo, hi, root, we, wv, hT, hn, hF, hwe, hwv, rfl⟩ := hw0
  refine g_open 0 rfl rfl rfl ?_
  refine (show Go g κ 0 [some (.ref t)] [] [[(t, .inr (27, [.null, va_rf vs, .null, va_rf root, .int (nI n), .int (nI md), va_rf es, va_rf nk, .null]))], we, wv] 0 0 from ?_)
  refine g_aload_n (q := 1) B dJ10_clear_0 rfl rfl (rv_r _) ?_
  refine g_dup (q := 2) B dJ10_clear_1 rfl rfl ?_
  refine g_get (q := 5) B (ci := 27) (k := 0) (j := 5) in_J10 rfl dJ10_clear_2 rfl rfl (Nat.le_of_ble_eq_true rfl) q1873 rfl rfl ?_
  refine g_iconst (v := nI 1) (q := 6) B dJ10_clear_5 rfl (by decide) ?_
  refine g_iadd (v := nI (md + 1)) (q := 7) B dJ10_clear_6 rfl (nI_add _ _) ?_
  refine g_put (q := 10) (L2 := [[(t, .inr (27, [.null, va_rf vs, .null, va_rf root, .int (nI n), .int (nI (md + 1)), va_rf es, va_rf nk, .null]))], we, wv]) B (ci := 27) (k := 0) (j := 5) in_J10 tyJ10 tyJ10_ok nmJ10 rfl dJ10_clear_7 rfl rfl (Nat.le_of_ble_eq_true rfl) q1873 rfl rfl rfl rfl (Nat.le_of_ble_eq_true rfl) rfl ?_
  refine g_aload_n (q := 11) B dJ10_clear_10 rfl rfl (rv_r _) ?_
  refine g_iconst (v := nI 0) (q := 12) B dJ10_clear_11 rfl (by decide) ?_
  refine g_put (q := 15) (L2 := [[(t, .inr (27, [.null, va_rf vs, .null, va_rf root, .int (nI 0), .int (nI (md + 1)), va_rf es, va_rf nk, .null]))], we, wv]) B (ci := 27) (k := 0) (j := 4) in_J10 tyJ10 tyJ10_ok nmJ10 rfl dJ10_clear_12 rfl rfl (Nat.le_of_ble_eq_true rfl) q1872 rfl rfl rfl rfl (Nat.le_of_ble_eq_true rfl) rfl ?_
  refine g_aload_n (q := 16) B dJ10_clear_15 rfl rfl (rv_r _) ?_
  refine g_aconst_null (q := 17) B dJ10_clear_16 rfl ?_
  refine g_put (q := 20) (L2 := [[(t, .inr (27, [.null, va_rf vs, .null, .null, .int (nI 0), .int (nI (md + 1)), va_rf es, va_rf nk, .null]))], we, wv]) B (ci := 27) (k := 0) (j := 3) in_J10 tyJ10 tyJ10_ok nmJ10 rfl dJ10_clear_17 rfl rfl (Nat.le_of_ble_eq_true rfl) q1871 rfl rfl rfl rfl (Nat.le_of_ble_eq_true rfl) rfl ?_
  obtain ⟨wc_1, ewc_1⟩ : ∃ w : va_W, w = ([[(t, .inr (27, [.null, va_rf vs, .null, .null, .int (nI 0), .int (nI (md + 1)), va_rf es, va_rf nk, .null]))], wv] : List va_W).flatten := ⟨_, rfl⟩
  have hwc_1 : MapP g t (fun _ => none) 0 (md + 1) wc_1 := by
    rw [ewc_1]
    exact ⟨vs, es, nk, [], fun _ => 0, fun _ => 0, fun _ => none, fun _ => none, fun _ => none, fun _ => true, fun _ => 0, fun _ => 0, none, [], _, tr_nil, rfl, mf_nil, ⟨List.nodup_nil, rfl⟩, hwv, rfl⟩
  refine g_close (w := wc_1) [0, 1] rfl ewc_1 rfl ?_
  refine (show Go g κ 20 [some (.ref t)] [] [we, wc_1] 0 0 from ?_)
  refine g_pk [1] rfl rfl ?_
  refine (show Go g κ 20 [some (.ref t)] [] [wc_1] 0 0 from ?_)
  exact g_vret B E dJ10_clear_20 (⟨wc_1, rfl, rfl, hwc_1⟩)
theorem ct_J10_size (g : Gv) (J : Jd g) {t : Nat} {f : Nat → Option Nat} {n : Nat} {md : Nat} {w0 : va_W} (hw0 : MapP g t f n md w0) : Ct g yJ10_size (ws_ yJ10_size cJ10_size 1 (some .int)) 0 0 0 [.ref t] [w0] (fun (rv_ : Option Value) (rL_ : List va_W) => ∃ (u0 : va_W), rv_ = some (.int (nI n)) ∧ rL_ = [u0] ∧ MapP g t f n md u0) noX := by
  refine Ct.of "java/util/TreeMap" [some (.ref t)] rfl (by decide) rfl (Nat.le_of_ble_eq_true rfl) rfl ?_
  intro κ B E tb
  obtain ⟨vs, es, nk, ns, key, val, l, r, p, col, lo, hi, root, we, wv, hT, hn, hF, hwe, hwv, rfl⟩ := hw0
  refine g_open 0 rfl rfl rfl ?_
  refine (show Go g κ 0 [some (.ref t)] [] [[(t, .inr (27, [.null, va_rf vs, .null, va_rf root, .int (nI n), .int (nI md), va_rf es, va_rf nk, .null]))], we, wv] 0 0 from ?_)
  refine g_aload_n (q := 1) B dJ10_size_0 rfl rfl (rv_r _) ?_
  refine g_get (q := 4) B (ci := 27) (k := 0) (j := 4) in_J10 rfl dJ10_size_1 rfl rfl (Nat.le_of_ble_eq_true rfl) q1872 rfl rfl ?_
  obtain ⟨wc_1, ewc_1⟩ : ∃ w : va_W, w = ([[(t, .inr (27, [.null, va_rf vs, .null, va_rf root, .int (nI n), .int (nI md), va_rf es, va_rf nk, .null]))], we, wv] : List va_W).flatten := ⟨_, rfl⟩
  have hwc_1 : MapP g t f n md wc_1 := by
    rw [ewc_1]
    exact ⟨vs, es, nk, ns, key, val, l, r, p, col, lo, hi, root, _, _, hT, hn, hF, hwe, hwv, rfl⟩
  refine g_close (w := wc_1) [0, 0, 0] rfl ewc_1 rfl ?_
  refine (show Go g κ 4 [some (.ref t)] [.int (nI n)] [wc_1] 0 0 from ?_)
  exact g_iret B E dJ10_size_4 (⟨wc_1, rfl, rfl, hwc_1⟩)
theorem ct_J28_init (g : Gv) (J : Jd g) {e : Nat} {t : Nat} : Ct g yJ28_init (ws_ yJ28_init cJ28_init 2 none) 2 0 0 [.ref e, .ref t] [[(e, .inr (29, [.null]))]] (fun (rv_ : Option Value) (rL_ : List va_W) => rv_ = none ∧ rL_ = [[(e, .inr (29, [.ref t]))]]) noX := by
  refine Ct.ofI "java/util/TreeMap$Values" [some (.ref e), some (.ref t)] rfl (by decide) rfl (Nat.le_of_ble_eq_true rfl) rfl rfl ?_
  intro κ B E tb ini
  refine g_aload_n (q := 1) B dJ28_init_0 rfl rfl (rv_r _) ?_
  refine g_aload_n (q := 2) B dJ28_init_1 rfl rfl (rv_r _) ?_
  refine g_putF (q := 5) (L2 := [[(e, .inr (29, [.ref t]))]]) B (ci := 29) (k := 0) (j := 0) in_J28 tyJ28 tyJ28_ok nmJ28 rfl dJ28_init_2 rfl rfl (Nat.le_of_ble_eq_true rfl) q1186 rfl rfl (ini) rfl rfl rfl (Nat.le_of_ble_eq_true rfl) rfl ?_
  refine g_aload_n (q := 6) B dJ28_init_5 rfl rfl (rv_r _) ?_
  refine g_callI (q := 9) (is := []) (kc2 := 0) (ks2 := 0) B [] (ct_J0_init g J (p := e)  ) dJ28_init_6 rfl rfl q1185 q174 q79 q175 rfl rfl moJ0_init rfl rfl (by decide) (by decide) (Nat.le_of_ble_eq_true rfl) (Nat.le_of_ble_eq_true rfl) (Nat.le_of_ble_eq_true rfl) (fun _ _ hx => noX_x hx) (fun v6 L1 hp6 => ?_)
  obtain ⟨rfl, rfl⟩ := hp6
  refine (show Go g κ 9 [some (.ref e), some (.ref t)] [] [[(e, .inr (29, [.ref t]))]] 0 0 from ?_)
  exact g_vret B E dJ28_init_9 (⟨rfl, rfl⟩)
theorem VwP.newv {t : Nat} {es nk : Option Nat} {w : va_W} (h : VwP t none es nk w) (e : Nat) : VwP t (some e) es nk ([[(e, .inr (29, [.ref t]))], w] : List va_W).flatten := by
  unfold VwP at h ⊢
  rw [h]
  show _ :: (_ ++ []) = _
  rw [List.append_nil]; rfl
theorem nwJ28 : ∀ j, j < 1 → defaultValue (tyJ28 j) = vp_V [.null] j := by
  intro j hj
  match j, hj with
  | 0, _ => rfl
  | n + 1, hj => exact absurd hj (by omega)
theorem moJ28_init : Mo yJ28_init 1 := by
  refine ⟨by decide, by decide, by decide +kernel⟩
theorem ct_J10_values (g : Gv) (J : Jd g) {t : Nat} {vs : Option Nat} {n : Nat} {md : Nat} {es : Option Nat} {nk : Option Nat} {root : Option Nat} {w1 : va_W} (hw1 : VwP t vs es nk w1) : Ct g yJ10_values (ws_ yJ10_values cJ10_values 2 (some (.object "java/util/Collection"))) 3 1 1 [.ref t] [[(t, .inr (27, [.null, va_rf vs, .null, va_rf root, .int (nI n), .int (nI md), va_rf es, va_rf nk, .null]))], w1] (fun (rv_ : Option Value) (rL_ : List va_W) => ∃ (e : Nat) (u1 : va_W), rv_ = some (.ref e) ∧ rL_ = [[(t, .inr (27, [.null, va_rf (some e), .null, va_rf root, .int (nI n), .int (nI md), va_rf es, va_rf nk, .null]))], u1] ∧ VwP t (some e) es nk u1) noX := by
  refine Ct.of "java/util/TreeMap" [some (.ref t), none] rfl (by decide) rfl (Nat.le_of_ble_eq_true rfl) rfl ?_
  intro κ B E tb
  refine g_aload_n (q := 1) B dJ10_values_0 rfl rfl (rv_r _) ?_
  refine g_getS (q := 4) B (ci := 27) (k := 0) (j := 1) in_J10 rfl dJ10_values_1 rfl rfl (Nat.le_of_ble_eq_true rfl) q213 q214 rfl ?_
  refine g_astore_n (q := 5) (lv2 := [some (.ref t), some (va_rf vs)]) B dJ10_values_4 rfl (Nat.le_of_ble_eq_true rfl) (rv_o _) rfl ?_
  refine g_aload_n (q := 6) B dJ10_values_5 rfl rfl (rv_o _) ?_
  refine g_ifnonnull_o (tgt := 23) (q := 9) B dJ10_values_6 rfl (by decide) (fun vs_a6 c6 => ?_) (fun c6 => ?_)
  · skip
    subst c6
    refine g_aload_n (q := 24) B dJ10_values_23 rfl rfl (rv_r _) ?_
    exact g_aret B E dJ10_values_24 (by first | exact Or.inl ⟨_, rfl⟩ | exact Or.inr ⟨_, rfl⟩) (rv_r _) (⟨vs_a6, _, rfl, rfl, hw1⟩)
  · skip
    subst c6
    refine g_new (q := 12) (kc2 := 0) (ks2 := 0) (fs := [.null]) B (ci := 29) in_J28 tyJ28_ok rfl dJ10_values_9 rfl q1180 q1181 q113 (nwJ28) (Nat.le_of_ble_eq_true rfl) (Nat.le_of_ble_eq_true rfl) (fun n9 => ?_)
    refine (show Go g κ 12 [some (.ref t), some (.null)] [.ref n9] [[(t, .inr (27, [.null, .null, .null, va_rf root, .int (nI n), .int (nI md), va_rf es, va_rf nk, .null]))], w1, [(n9, .inr (29, [.null]))]] 0 0 from ?_)
    refine g_dup (q := 13) B dJ10_values_12 rfl rfl ?_
    refine g_aload_n (q := 14) B dJ10_values_13 rfl rfl (rv_r _) ?_
    refine g_callI (q := 17) (is := [2]) (kc2 := 0) (ks2 := 0) B [.ref t] (ct_J28_init g J (e := n9) (t := t)  ) dJ10_values_14 rfl rfl q1182 q1183 q113 q1184 rfl rfl moJ28_init rfl rfl (by decide) (by decide) (Nat.le_of_ble_eq_true rfl) (Nat.le_of_ble_eq_true rfl) (Nat.le_of_ble_eq_true rfl) (fun _ _ hx => noX_x hx) (fun v14 L1 hp14 => ?_)
    obtain ⟨rfl, rfl⟩ := hp14
    refine (show Go g κ 17 [some (.ref t), some (.null)] [.ref n9] [[(t, .inr (27, [.null, .null, .null, va_rf root, .int (nI n), .int (nI md), va_rf es, va_rf nk, .null]))], w1, [(n9, .inr (29, [.ref t]))]] 0 0 from ?_)
    refine g_astore_n (q := 18) (lv2 := [some (.ref t), some (.ref n9)]) B dJ10_values_17 rfl (Nat.le_of_ble_eq_true rfl) (rv_r _) rfl ?_
    refine g_aload_n (q := 19) B dJ10_values_18 rfl rfl (rv_r _) ?_
    refine g_aload_n (q := 20) B dJ10_values_19 rfl rfl (rv_r _) ?_
    refine g_putS (q := 23) (L2 := [[(t, .inr (27, [.null, .ref n9, .null, va_rf root, .int (nI n), .int (nI md), va_rf es, va_rf nk, .null]))], w1, [(n9, .inr (29, [.ref t]))]]) B (ci := 27) (k := 0) (j := 1) in_J10 tyJ10 tyJ10_ok nmJ10 rfl dJ10_values_20 rfl rfl (Nat.le_of_ble_eq_true rfl) q213 q214 rfl rfl rfl (Nat.le_of_ble_eq_true rfl) rfl ?_
    obtain ⟨wc_1, ewc_1⟩ : ∃ w : va_W, w = ([[(n9, .inr (29, [.ref t]))], w1] : List va_W).flatten := ⟨_, rfl⟩
    have hwc_1 : VwP t (some n9) es nk wc_1 := by
      rw [ewc_1]
      exact VwP.newv hw1 n9
    refine g_close (w := wc_1) [2, 1] rfl ewc_1 rfl ?_
    refine (show Go g κ 23 [some (.ref t), some (.ref n9)] [] [[(t, .inr (27, [.null, .ref n9, .null, va_rf root, .int (nI n), .int (nI md), va_rf es, va_rf nk, .null]))], wc_1] 0 0 from ?_)
    refine g_aload_n (q := 24) B dJ10_values_23 rfl rfl (rv_r _) ?_
    exact g_aret B E dJ10_values_24 (by first | exact Or.inl ⟨_, rfl⟩ | exact Or.inr ⟨_, rfl⟩) (rv_r _) (⟨n9, _, rfl, rfl, hwc_1⟩)
theorem ct_J41_init (g : Gv) (J : Jd g) {t : Nat} : Ct g yJ41_init (ws_ yJ41_init cJ41_init 1 none) 2 0 0 [.ref t] [] (fun (rv_ : Option Value) (rL_ : List va_W) => rv_ = none ∧ rL_ = []) noX := by
  refine Ct.ofI "java/util/AbstractSet" [some (.ref t)] rfl (by decide) rfl (Nat.le_of_ble_eq_true rfl) rfl rfl ?_
  intro κ B E tb ini
  refine g_aload_n (q := 1) B dJ41_init_0 rfl rfl (rv_r _) ?_
  refine g_callI (q := 4) (is := []) (kc2 := 0) (ks2 := 0) B [] (ct_J0_init g J (p := t)  ) dJ41_init_1 rfl rfl q2224 q174 q79 q175 rfl rfl moJ0_init rfl rfl (by decide) (by decide) (Nat.le_of_ble_eq_true rfl) (Nat.le_of_ble_eq_true rfl) (Nat.le_of_ble_eq_true rfl) (fun _ _ hx => noX_x hx) (fun v1 L1 hp1 => ?_)
  obtain ⟨rfl, rfl⟩ := hp1
  refine (show Go g κ 4 [some (.ref t)] [] [] 0 0 from ?_)
  exact g_vret B E dJ41_init_4 (⟨rfl, rfl⟩)
theorem moJ41_init : Mo yJ41_init 0 := by
  refine ⟨by decide, by decide, by decide +kernel⟩
theorem ct_J42_init (g : Gv) (J : Jd g) {e : Nat} {t : Nat} : Ct g yJ42_init (ws_ yJ42_init cJ42_init 2 none) 3 0 0 [.ref e, .ref t] [[(e, .inr (30, [.null]))]] (fun (rv_ : Option Value) (rL_ : List va_W) => rv_ = none ∧ rL_ = [[(e, .inr (30, [.ref t]))]]) noX := by
  refine Ct.ofI "java/util/TreeMap$KeySet" [some (.ref e), some (.ref t)] rfl (by decide) rfl (Nat.le_of_ble_eq_true rfl) rfl rfl ?_
  intro κ B E tb ini
  refine g_aload_n (q := 1) B dJ42_init_0 rfl rfl (rv_r _) ?_
  refine g_callI (q := 4) (is := []) (kc2 := 0) (ks2 := 0) B [] (ct_J41_init g J (t := e)  ) dJ42_init_1 rfl rfl q2221 q2222 q133 q2223 rfl rfl moJ41_init rfl rfl (by decide) (by decide) (Nat.le_of_ble_eq_true rfl) (Nat.le_of_ble_eq_true rfl) (Nat.le_of_ble_eq_true rfl) (fun _ _ hx => noX_x hx) (fun v1 L1 hp1 => ?_)
  obtain ⟨rfl, rfl⟩ := hp1
  refine (show Go g κ 4 [some (.ref e), some (.ref t)] [] [[(e, .inr (30, [.null]))]] 0 0 from ?_)
  refine g_aload_n (q := 5) B dJ42_init_4 rfl rfl (rv_r _) ?_
  refine g_aload_n (q := 6) B dJ42_init_5 rfl rfl (rv_r _) ?_
  refine g_putF (q := 9) (L2 := [[(e, .inr (30, [.ref t]))]]) B (ci := 30) (k := 0) (j := 0) in_J42 tyJ42 tyJ42_ok nmJ42 rfl dJ42_init_6 rfl rfl (Nat.le_of_ble_eq_true rfl) q2225 rfl rfl (ini) rfl rfl rfl (Nat.le_of_ble_eq_true rfl) rfl ?_
  exact g_vret B E dJ42_init_9 (⟨rfl, rfl⟩)
theorem VwP.newk {t : Nat} {vs es : Option Nat} {w : va_W} (h : VwP t vs es none w) (e : Nat) : VwP t vs es (some e) ([w, [(e, .inr (30, [.ref t]))]] : List va_W).flatten := by
  unfold VwP at h ⊢
  rw [h]
  simp [List.append_assoc]
theorem nwJ42 : ∀ j, j < 1 → defaultValue (tyJ42 j) = vp_V [.null] j := by
  intro j hj
  match j, hj with
  | 0, _ => rfl
  | n + 1, hj => exact absurd hj (by omega)
theorem moJ42_init : Mo yJ42_init 1 := by
  refine ⟨by decide, by decide, by decide +kernel⟩
theorem ct_J10_navigableKeySet (g : Gv) (J : Jd g) {t : Nat} {vs : Option Nat} {n : Nat} {md : Nat} {es : Option Nat} {nk : Option Nat} {root : Option Nat} {w1 : va_W} (hw1 : VwP t vs es nk w1) : Ct g yJ10_navigableKeySet (ws_ yJ10_navigableKeySet cJ10_navigableKeySet 2 (some (.object "java/util/NavigableSet"))) 4 1 1 [.ref t] [[(t, .inr (27, [.null, va_rf vs, .null, va_rf root, .int (nI n), .int (nI md), va_rf es, va_rf nk, .null]))], w1] (fun (rv_ : Option Value) (rL_ : List va_W) => ∃ (e : Nat) (u1 : va_W), rv_ = some (.ref e) ∧ rL_ = [[(t, .inr (27, [.null, va_rf vs, .null, va_rf root, .int (nI n), .int (nI md), va_rf es, va_rf (some e), .null]))], u1] ∧ VwP t vs es (some e) u1) noX := by
  refine Ct.of "java/util/TreeMap" [some (.ref t), none] rfl (by decide) rfl (Nat.le_of_ble_eq_true rfl) rfl ?_
  intro κ B E tb
  refine g_aload_n (q := 1) B dJ10_navigableKeySet_0 rfl rfl (rv_r _) ?_
  refine g_get (q := 4) B (ci := 27) (k := 0) (j := 7) in_J10 rfl dJ10_navigableKeySet_1 rfl rfl (Nat.le_of_ble_eq_true rfl) q1876 rfl rfl ?_
  refine g_astore_n (q := 5) (lv2 := [some (.ref t), some (va_rf nk)]) B dJ10_navigableKeySet_4 rfl (Nat.le_of_ble_eq_true rfl) (rv_o _) rfl ?_
  refine g_aload_n (q := 6) B dJ10_navigableKeySet_5 rfl rfl (rv_o _) ?_
  refine g_ifnull_o (tgt := 13) (q := 9) B dJ10_navigableKeySet_6 rfl (by decide) (fun c6 => ?_) (fun nk_a6 c6 => ?_)
  · skip
    subst c6
    refine g_aload_n (q := 14) B dJ10_navigableKeySet_13 rfl rfl (rv_r _) ?_
    refine g_new (q := 17) (kc2 := 0) (ks2 := 0) (fs := [.null]) B (ci := 30) in_J42 tyJ42_ok rfl dJ10_navigableKeySet_14 rfl q2216 q2217 q134 (nwJ42) (Nat.le_of_ble_eq_true rfl) (Nat.le_of_ble_eq_true rfl) (fun n14 => ?_)
    refine (show Go g κ 17 [some (.ref t), some (.null)] [.ref n14, .ref t] [[(t, .inr (27, [.null, va_rf vs, .null, va_rf root, .int (nI n), .int (nI md), va_rf es, .null, .null]))], w1, [(n14, .inr (30, [.null]))]] 0 0 from ?_)
    refine g_dup (q := 18) B dJ10_navigableKeySet_17 rfl rfl ?_
    refine g_aload_n (q := 19) B dJ10_navigableKeySet_18 rfl rfl (rv_r _) ?_
    refine g_callI (q := 22) (is := [2]) (kc2 := 0) (ks2 := 0) B [.ref t] (ct_J42_init g J (e := n14) (t := t)  ) dJ10_navigableKeySet_19 rfl rfl q2218 q2219 q134 q2220 rfl rfl moJ42_init rfl rfl (by decide) (by decide) (Nat.le_of_ble_eq_true rfl) (Nat.le_of_ble_eq_true rfl) (Nat.le_of_ble_eq_true rfl) (fun _ _ hx => noX_x hx) (fun v19 L1 hp19 => ?_)
    obtain ⟨rfl, rfl⟩ := hp19
    refine (show Go g κ 22 [some (.ref t), some (.null)] [.ref n14, .ref t] [[(t, .inr (27, [.null, va_rf vs, .null, va_rf root, .int (nI n), .int (nI md), va_rf es, .null, .null]))], w1, [(n14, .inr (30, [.ref t]))]] 0 0 from ?_)
    refine g_dup_x1 (q := 23) B dJ10_navigableKeySet_22 rfl rfl rfl ?_
    refine g_put (q := 26) (L2 := [[(t, .inr (27, [.null, va_rf vs, .null, va_rf root, .int (nI n), .int (nI md), va_rf es, .ref n14, .null]))], w1, [(n14, .inr (30, [.ref t]))]]) B (ci := 27) (k := 0) (j := 7) in_J10 tyJ10 tyJ10_ok nmJ10 rfl dJ10_navigableKeySet_23 rfl rfl (Nat.le_of_ble_eq_true rfl) q1876 rfl rfl rfl rfl (Nat.le_of_ble_eq_true rfl) rfl ?_
    obtain ⟨wc_1, ewc_1⟩ : ∃ w : va_W, w = ([w1, [(n14, .inr (30, [.ref t]))]] : List va_W).flatten := ⟨_, rfl⟩
    have hwc_1 : VwP t vs es (some n14) wc_1 := by
      rw [ewc_1]
      exact VwP.newk hw1 n14
    refine g_close (w := wc_1) [1, 1] rfl ewc_1 rfl ?_
    refine (show Go g κ 26 [some (.ref t), some (.null)] [.ref n14] [[(t, .inr (27, [.null, va_rf vs, .null, va_rf root, .int (nI n), .int (nI md), va_rf es, .ref n14, .null]))], wc_1] 0 0 from ?_)
    exact g_aret B E dJ10_navigableKeySet_26 (by first | exact Or.inl ⟨_, rfl⟩ | exact Or.inr ⟨_, rfl⟩) (rv_r _) (⟨n14, _, rfl, rfl, hwc_1⟩)
  · skip
    subst c6
    refine g_aload_n (q := 10) B dJ10_navigableKeySet_9 rfl rfl (rv_r _) ?_
    refine g_goto (tgt := 26) B dJ10_navigableKeySet_10 (by decide) ?_
    exact g_aret B E dJ10_navigableKeySet_26 (by first | exact Or.inl ⟨_, rfl⟩ | exact Or.inr ⟨_, rfl⟩) (rv_r _) (⟨nk_a6, _, rfl, rfl, hw1⟩)
theorem moJ10_navigableKeySet : Mo yJ10_navigableKeySet 0 := by
  refine ⟨by decide, by decide, by decide +kernel⟩
theorem ct_J10_keySet (g : Gv) (J : Jd g) {t : Nat} {vs : Option Nat} {n : Nat} {md : Nat} {es : Option Nat} {nk : Option Nat} {root : Option Nat} {w1 : va_W} (hw1 : VwP t vs es nk w1) : Ct g yJ10_keySet (ws_ yJ10_keySet cJ10_keySet 1 (some (.object "java/util/Set"))) 5 1 1 [.ref t] [[(t, .inr (27, [.null, va_rf vs, .null, va_rf root, .int (nI n), .int (nI md), va_rf es, va_rf nk, .null]))], w1] (fun (rv_ : Option Value) (rL_ : List va_W) => ∃ (e : Nat) (u1 : va_W), rv_ = some (.ref e) ∧ rL_ = [[(t, .inr (27, [.null, va_rf vs, .null, va_rf root, .int (nI n), .int (nI md), va_rf es, va_rf (some e), .null]))], u1] ∧ VwP t vs es (some e) u1) noX := by
  refine Ct.of "java/util/TreeMap" [some (.ref t)] rfl (by decide) rfl (Nat.le_of_ble_eq_true rfl) rfl ?_
  intro κ B E tb
  refine g_aload_n (q := 1) B dJ10_keySet_0 rfl rfl (rv_r _) ?_
  refine g_callV (q := 4) (is := [0, 0]) (kc2 := 0) (ks2 := 0) B [] (ct_J10_navigableKeySet g J (t := t) (vs := vs) (n := n) (md := md) (es := es) (nk := nk) (root := root) hw1 ) dJ10_keySet_1 rfl (rc_at B (ci := 27) rfl (k := 0) rfl) rfl q2212 q2213 q2214 q91 q2215 rfl rfl moJ10_navigableKeySet rfl rfl (by decide) (by decide) (Nat.le_of_ble_eq_true rfl) (Nat.le_of_ble_eq_true rfl) (Nat.le_of_ble_eq_true rfl) (fun _ _ hx => noX_x hx) (fun v1 L1 hp1 => ?_)
  obtain ⟨e1, u1_1, rfl, rfl, hu1_1⟩ := hp1
  refine (show Go g κ 4 [some (.ref t)] [.ref e1] [[(t, .inr (27, [.null, va_rf vs, .null, va_rf root, .int (nI n), .int (nI md), va_rf es, .ref e1, .null]))], u1_1] 0 0 from ?_)
  exact g_aret B E dJ10_keySet_4 (by first | exact Or.inl ⟨_, rfl⟩ | exact Or.inr ⟨_, rfl⟩) (rv_r _) (⟨e1, _, rfl, rfl, hu1_1⟩)
