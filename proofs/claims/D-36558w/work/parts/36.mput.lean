set_option maxRecDepth 100000
theorem tr_nil {key : Nat → Nat} {l r p : Nat → Option Nat} {lo hi : Nat → Nat} {M : Nat} : Tr [] key l r p lo hi none M := by
  refine ⟨?_, ?_, ?_, ?_, ?_, ?_, ?_, ?_, ?_, ?_⟩ <;> simp
theorem mf_nil {key val : Nat → Nat} : MF [] key val (fun _ => none) := ⟨fun a h => absurd h (by simp), fun k v h => by cases h⟩
theorem ct_J3_init (g : Gv) (J : Jd g) {t : Nat} : Ct g yJ3_init (ws_ yJ3_init cJ3_init 1 none) 1 0 0 [.ref t] [] (fun (rv_ : Option Value) (rL_ : List va_W) => rv_ = none ∧ rL_ = []) noX := by
  refine Ct.ofI "java/util/AbstractMap" [some (.ref t)] rfl (by decide) rfl (Nat.le_of_ble_eq_true rfl) rfl rfl ?_
  intro κ B E tb ini
  refine g_aload_n (q := 1) B dJ3_init_0 rfl rfl (rv_r _) ?_
  refine g_objInit (q := 4) B q202 q157 q158 dJ3_init_1 rfl rfl (Nat.le_of_ble_eq_true rfl) ?_
  exact g_vret B E dJ3_init_4 (⟨rfl, rfl⟩)
theorem moJ3_init : Mo yJ3_init 0 := by
  refine ⟨by decide, by decide, by decide +kernel⟩
theorem ct_J10_init (g : Gv) (J : Jd g) {t : Nat} : Ct g yJ10_init (ws_ yJ10_init cJ10_init 1 none) 2 0 0 [.ref t] [[(t, .inr (27, [.null, .null, .null, .null, .int (nI 0), .int (nI 0), .null, .null, .null]))]] (fun (rv_ : Option Value) (rL_ : List va_W) => ∃ (u0 : va_W), rv_ = none ∧ rL_ = [u0] ∧ MapP g t (fun _ => none) 0 0 u0) noX := by
  refine Ct.ofI "java/util/TreeMap" [some (.ref t)] rfl (by decide) rfl (Nat.le_of_ble_eq_true rfl) rfl rfl ?_
  intro κ B E tb ini
  refine g_aload_n (q := 1) B dJ10_init_0 rfl rfl (rv_r _) ?_
  refine g_callI (q := 4) (is := []) (kc2 := 0) (ks2 := 0) B [] (ct_J3_init g J (t := t)  ) dJ10_init_1 rfl rfl q1869 q200 q82 q201 rfl rfl moJ3_init rfl rfl (by decide) (by decide) (Nat.le_of_ble_eq_true rfl) (Nat.le_of_ble_eq_true rfl) (Nat.le_of_ble_eq_true rfl) (fun _ _ hx => noX_x hx) (fun v1 L1 hp1 => ?_)
  obtain ⟨rfl, rfl⟩ := hp1
  refine (show Go g κ 4 [some (.ref t)] [] [[(t, .inr (27, [.null, .null, .null, .null, .int (nI 0), .int (nI 0), .null, .null, .null]))]] 0 0 from ?_)
  refine g_aload_n (q := 5) B dJ10_init_4 rfl rfl (rv_r _) ?_
  refine g_iconst (v := nI 0) (q := 6) B dJ10_init_5 rfl (by decide) ?_
  refine g_put (q := 9) (L2 := [[(t, .inr (27, [.null, .null, .null, .null, .int (nI 0), .int (nI 0), .null, .null, .null]))]]) B (ci := 27) (k := 0) (j := 4) in_J10 tyJ10 tyJ10_ok nmJ10 rfl dJ10_init_6 rfl rfl (Nat.le_of_ble_eq_true rfl) q1872 rfl rfl rfl rfl (Nat.le_of_ble_eq_true rfl) rfl ?_
  refine g_aload_n (q := 10) B dJ10_init_9 rfl rfl (rv_r _) ?_
  refine g_iconst (v := nI 0) (q := 11) B dJ10_init_10 rfl (by decide) ?_
  refine g_put (q := 14) (L2 := [[(t, .inr (27, [.null, .null, .null, .null, .int (nI 0), .int (nI 0), .null, .null, .null]))]]) B (ci := 27) (k := 0) (j := 5) in_J10 tyJ10 tyJ10_ok nmJ10 rfl dJ10_init_11 rfl rfl (Nat.le_of_ble_eq_true rfl) q1873 rfl rfl rfl rfl (Nat.le_of_ble_eq_true rfl) rfl ?_
  refine g_aload_n (q := 15) B dJ10_init_14 rfl rfl (rv_r _) ?_
  refine g_aconst_null (q := 16) B dJ10_init_15 rfl ?_
  refine g_putF (q := 19) (L2 := [[(t, .inr (27, [.null, .null, .null, .null, .int (nI 0), .int (nI 0), .null, .null, .null]))]]) B (ci := 27) (k := 0) (j := 2) in_J10 tyJ10 tyJ10_ok nmJ10 rfl dJ10_init_16 rfl rfl (Nat.le_of_ble_eq_true rfl) q1870 rfl rfl (ini) rfl rfl rfl (Nat.le_of_ble_eq_true rfl) rfl ?_
  obtain ⟨wc_1, ewc_1⟩ : ∃ w : va_W, w = ([[(t, .inr (27, [.null, .null, .null, .null, .int (nI 0), .int (nI 0), .null, .null, .null]))]] : List va_W).flatten := ⟨_, rfl⟩
  have hwc_1 : MapP g t (fun _ => none) 0 0 wc_1 := by
    rw [ewc_1]
    exact ⟨none, none, none, [], fun _ => 0, fun _ => 0, fun _ => none, fun _ => none, fun _ => none, fun _ => true, fun _ => 0, fun _ => 0, none, [], [], tr_nil, rfl, mf_nil, ⟨List.nodup_nil, rfl⟩, rfl, rfl⟩
  refine g_close (w := wc_1) [0] rfl ewc_1 rfl ?_
  refine (show Go g κ 19 [some (.ref t)] [] [wc_1] 0 0 from ?_)
  exact g_vret B E dJ10_init_19 (⟨wc_1, rfl, rfl, hwc_1⟩)
theorem ct_J37_init (g : Gv) (J : Jd g) {e : Nat} {kr : Nat} {v : Nat} {q : Option Nat} : Ct g yJ37_init (ws_ yJ37_init cJ37_init 4 none) 1 0 0 [.ref e, .ref kr, .ref v, va_rf q] [[(e, .inr (28, [.null, .null, .null, .null, .null, .int (nI 0)]))]] (fun (rv_ : Option Value) (rL_ : List va_W) => rv_ = none ∧ rL_ = [[(e, .inr (28, [.ref kr, .ref v, .null, .null, va_rf q, .int (nI 1)]))]]) noX := by
  refine Ct.ofI "java/util/TreeMap$Entry" [some (.ref e), some (.ref kr), some (.ref v), some (va_rf q)] rfl (by decide) rfl (by simp [lg_sl, cat_i, cat_r, cat_n, cat_l, cat_o]) (by simp [lprs, lv_args, cat_i, cat_r, cat_n, cat_l, cat_o]) rfl ?_
  intro κ B E tb ini
  refine g_aload_n (q := 1) B dJ37_init_0 rfl rfl (rv_r _) ?_
  refine g_objInit (q := 4) B q2105 q157 q158 dJ37_init_1 rfl rfl (Nat.le_of_ble_eq_true rfl) ?_
  refine g_aload_n (q := 5) B dJ37_init_4 rfl rfl (rv_r _) ?_
  refine g_iconst (v := nI 1) (q := 6) B dJ37_init_5 rfl (by decide) ?_
  refine g_put (q := 9) (L2 := [[(e, .inr (28, [.null, .null, .null, .null, .null, .int (nI 1)]))]]) B (ci := 28) (k := 0) (j := 5) in_J37 tyJ37 tyJ37_ok nmJ37 rfl dJ37_init_6 rfl rfl (Nat.le_of_ble_eq_true rfl) q2118 rfl rfl rfl rfl (Nat.le_of_ble_eq_true rfl) rfl ?_
  refine g_aload_n (q := 10) B dJ37_init_9 rfl rfl (rv_r _) ?_
  refine g_aload_n (q := 11) B dJ37_init_10 rfl rfl (rv_r _) ?_
  refine g_put (q := 14) (L2 := [[(e, .inr (28, [.ref kr, .null, .null, .null, .null, .int (nI 1)]))]]) B (ci := 28) (k := 0) (j := 0) in_J37 tyJ37 tyJ37_ok nmJ37 rfl dJ37_init_11 rfl rfl (Nat.le_of_ble_eq_true rfl) q2106 rfl rfl rfl rfl (Nat.le_of_ble_eq_true rfl) rfl ?_
  refine g_aload_n (q := 15) B dJ37_init_14 rfl rfl (rv_r _) ?_
  refine g_aload_n (q := 16) B dJ37_init_15 rfl rfl (rv_r _) ?_
  refine g_put (q := 19) (L2 := [[(e, .inr (28, [.ref kr, .ref v, .null, .null, .null, .int (nI 1)]))]]) B (ci := 28) (k := 0) (j := 1) in_J37 tyJ37 tyJ37_ok nmJ37 rfl dJ37_init_16 rfl rfl (Nat.le_of_ble_eq_true rfl) q2109 rfl rfl rfl rfl (Nat.le_of_ble_eq_true rfl) rfl ?_
  refine g_aload_n (q := 20) B dJ37_init_19 rfl rfl (rv_r _) ?_
  refine g_aload_n (q := 21) B dJ37_init_20 rfl rfl (rv_o _) ?_
  refine g_put (q := 24) (L2 := [[(e, .inr (28, [.ref kr, .ref v, .null, .null, va_rf q, .int (nI 1)]))]]) B (ci := 28) (k := 0) (j := 4) in_J37 tyJ37 tyJ37_ok nmJ37 rfl dJ37_init_21 rfl rfl (Nat.le_of_ble_eq_true rfl) q2116 rfl rfl (rv_nar (Or.inl ⟨_, rfl⟩) (rv_o _)) (rv_fit (Or.inl ⟨_, rfl⟩) (rv_o _)) (Nat.le_of_ble_eq_true rfl) rfl ?_
  exact g_vret B E dJ37_init_24 (⟨rfl, rfl⟩)
theorem ct_J10_compare (g : Gv) (J : Jd g) {t : Nat} {vs : Option Nat} {n : Nat} {md : Nat} {es : Option Nat} {nk : Option Nat} {root : Option Nat} {k : Nat} (hk : k < 128) : Ct g yJ10_compare (ws_ yJ10_compare cJ10_compare 3 (some .int)) 3 0 0 [.ref t, .ref (kI g k), .ref (kI g k)] [[(t, .inr (27, [.null, va_rf vs, .null, va_rf root, .int (nI n), .int (nI md), va_rf es, va_rf nk, .null]))]] (fun (rv_ : Option Value) (rL_ : List va_W) => ∃ (z : Int32), rv_ = some (.int z) ∧ rL_ = [[(t, .inr (27, [.null, va_rf vs, .null, va_rf root, .int (nI n), .int (nI md), va_rf es, va_rf nk, .null]))]]) noX := by
  refine Ct.of "java/util/TreeMap" [some (.ref t), some (.ref (kI g k)), some (.ref (kI g k))] rfl (by decide) rfl (Nat.le_of_ble_eq_true rfl) rfl ?_
  intro κ B E tb
  refine g_aload_n (q := 1) B dJ10_compare_0 rfl rfl (rv_r _) ?_
  refine g_get (q := 4) B (ci := 27) (k := 0) (j := 2) in_J10 rfl dJ10_compare_1 rfl rfl (Nat.le_of_ble_eq_true rfl) q1870 rfl rfl ?_
  refine g_ifnonnull_n (q := 7) B dJ10_compare_4 rfl ?_
  refine g_aload_n (q := 8) B dJ10_compare_7 rfl rfl (rv_r _) ?_
  obtain ⟨wc_1, ewc_1⟩ : ∃ w : va_W, w = ([] : List va_W).flatten := ⟨_, rfl⟩
  have hwc_1 : BoxP g (kI g k) (nI k) wc_1 := by
    rw [ewc_1]
    exact kI_box g (hk)
  refine g_close (w := wc_1) [] rfl ewc_1 rfl ?_
  refine (show Go g κ 8 [some (.ref t), some (.ref (kI g k)), some (.ref (kI g k))] [.ref (kI g k)] [[(t, .inr (27, [.null, va_rf vs, .null, va_rf root, .int (nI n), .int (nI md), va_rf es, va_rf nk, .null]))], wc_1] 0 0 from ?_)
  refine g_castR (q := 11) B (rc_box B J (k := 1) rfl hwc_1) dJ10_compare_8 rfl q1822 q1435 ?_
  refine g_aload_n (q := 12) B dJ10_compare_11 rfl rfl (rv_r _) ?_
  refine g_callF (q := 17) (is := [1]) (kc2 := 0) (ks2 := 0) B [.ref (kI g k)] (ct_J26_compareTo_s g J (a := (kI g k)) (v := nI k) hwc_1 ) dJ10_compare_12 rfl (ci := 35) rfl (rc_box B J (k := 1) rfl hwc_1) q1824 q1436 q1438 q111 q1440 q1434 q1433 q1439 q1437 q1435 rfl rfl mojava_lang_Comparable_compareTo__Ljava_lang_Object__I rfl rfl (by decide) (by decide) (Nat.le_of_ble_eq_true rfl) (Nat.le_of_ble_eq_true rfl) (Nat.le_of_ble_eq_true rfl) (fun _ _ hx => noX_x hx) (fun v12 L1 hp12 => ?_)
  obtain ⟨rfl, rfl⟩ := hp12
  refine (show Go g κ 17 [some (.ref t), some (.ref (kI g k)), some (.ref (kI g k))] [.int (cmpI (nI k) (nI k))] [[(t, .inr (27, [.null, va_rf vs, .null, va_rf root, .int (nI n), .int (nI md), va_rf es, va_rf nk, .null]))], wc_1] 0 0 from ?_)
  refine g_pk [0] rfl rfl ?_
  refine (show Go g κ 17 [some (.ref t), some (.ref (kI g k)), some (.ref (kI g k))] [.int (cmpI (nI k) (nI k))] [[(t, .inr (27, [.null, va_rf vs, .null, va_rf root, .int (nI n), .int (nI md), va_rf es, va_rf nk, .null]))]] 0 0 from ?_)
  refine g_goto (tgt := 31) B dJ10_compare_17 (by decide) ?_
  exact g_iret B E dJ10_compare_31 (⟨_, rfl, rfl⟩)
theorem vk_lo : ∀ {k : Nat}, k < 128 → ¬ nI k < -128 := by
  have h : ∀ k, k < 128 → ¬ nI k < -128 := by decide +kernel
  exact fun {k} hk => h k hk
theorem vk_hi : ∀ {k : Nat}, k < 128 → ¬ 127 < nI k := by
  have h : ∀ k, k < 128 → ¬ 127 < nI k := by decide +kernel
  exact fun {k} hk => h k hk
theorem kI_i {k : Nat} : nI k + 128 = nI (128 + k) := by rw [Nat.add_comm, ← nI_add]; rfl
theorem ct_J26_valueOf_k (g : Gv) (J : Jd g) {k : Nat} (hk : k < 128) : Ct g yJ26_valueOf (ws_ yJ26_valueOf cJ26_valueOf 1 (some (.object "java/lang/Integer"))) 3 0 0 [.int (nI k)] [] (fun (rv_ : Option Value) (rL_ : List va_W) => rv_ = some (.ref (kI g k)) ∧ rL_ = []) noX := by
  refine Ct.of "java/lang/Integer" [some (.int (nI k))] rfl (by decide) rfl (Nat.le_of_ble_eq_true rfl) rfl ?_
  intro κ B E tb
  refine g_iload_n (q := 1) B dJ26_valueOf_0 rfl rfl ?_
  refine g_bipush (v := -128) (q := 3) B dJ26_valueOf_1 rfl (by decide) ?_
  refine g_icmp_lt (tgt := 23) (q := 6) B dJ26_valueOf_3 rfl (by decide) (iff_false_intro (vk_lo hk)) (fun z => z.elim) (fun _ => ?_)
  refine g_iload_n (q := 7) B dJ26_valueOf_6 rfl rfl ?_
  refine g_gets (q := 10) B (J.2.2.1 _ (List.mem_of_getElem? (i := 0) rfl)) dJ26_valueOf_7 rfl q688 ?_
  refine g_icmp_gt (tgt := 23) (q := 13) B dJ26_valueOf_10 rfl (by decide) (iff_false_intro (vk_hi hk)) (fun z => z.elim) (fun _ => ?_)
  refine g_gets (q := 16) B J.2.1.1 dJ26_valueOf_13 rfl q690 ?_
  refine g_iload_n (q := 17) B dJ26_valueOf_16 rfl rfl ?_
  refine g_sipush (v := 128) (q := 20) B dJ26_valueOf_17 rfl (by decide) ?_
  refine g_iadd (v := nI k + 128) (q := 21) B dJ26_valueOf_20 rfl rfl ?_
  refine g_tq (q := 22) (r := kI g k) B J.2.1.2.1 dJ26_valueOf_21 rfl (by show vp_in (nI k + 128) 256; rw [kI_i]; exact vp_in_nI (by omega) (by decide)) (by show Value.ref (gA g (1000 + (nI k + 128).toNatClampNeg)) = _; rw [kI_i, nI_clamp (by omega)]; rfl) ?_
  refine (show Go g κ 22 [some (.int (nI k))] [.ref (kI g k)] [] 0 0 from ?_)
  exact g_aret B E dJ26_valueOf_22 (by first | exact Or.inl ⟨_, rfl⟩ | exact Or.inr ⟨_, rfl⟩) (rv_r _) (⟨rfl, rfl⟩)
