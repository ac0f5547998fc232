set_option maxRecDepth 100000
theorem mf_ins {ns : List Nat} {key val : Nat → Nat} {f : Nat → Option Nat} {k v m : Nat} (h : MF ns key val f) (hm : m ∉ ns) (hn : ∀ b ∈ ns, key b ≠ k) : MF (m :: ns) (fup key m k) (fup val m v) (fup f k (some v)) := by
  obtain ⟨h1, h2⟩ := h
  refine ⟨fun a ha => ?_, fun k2 v2 e => ?_⟩
  · by_cases e : a = m
    · subst e; rw [fup_s, fup_s, fup_s]
    · have ha2 : a ∈ ns := by simpa [e] using ha
      rw [fup_n e, fup_n e, fup_n (hn a ha2)]; exact h1 a ha2
  · by_cases e2 : k2 = k
    · exact ⟨m, List.mem_cons_self, by rw [fup_s, e2]⟩
    · rw [fup_n e2] at e
      obtain ⟨a, ha, hk⟩ := h2 k2 v2 e
      exact ⟨a, List.mem_cons_of_mem _ ha, by rw [fup_n (fun (z : a = m) => hm (z ▸ ha))]; exact hk⟩
theorem mf_upd {ns : List Nat} {key val : Nat → Nat} {f : Nat → Option Nat} {k v a : Nat} (h : MF ns key val f) (hi : ∀ a ∈ ns, ∀ b ∈ ns, key a = key b → a = b) (ha : a ∈ ns) (hk : key a = k) : MF ns key (fup val a v) (fup f k (some v)) := by
  obtain ⟨h1, h2⟩ := h
  refine ⟨fun b hb => ?_, fun k2 v2 e => ?_⟩
  · by_cases e : b = a
    · subst e; rw [hk, fup_s, fup_s]
    · rw [fup_n e, fup_n (fun z => e (hi b hb a ha (z.trans hk.symm)))]; exact h1 b hb
  · by_cases e2 : k2 = k
    · exact ⟨a, ha, by rw [e2, hk]⟩
    · rw [fup_n e2] at e; exact h2 k2 v2 e
theorem moJ10_compare : Mo yJ10_compare 2 := by
  refine ⟨by decide, by decide, by decide +kernel⟩
theorem ct_J10_addEntryToEmptyMap (g : Gv) (J : Jd g) {t : Nat} {vs : Option Nat} {n : Nat} {md : Nat} {es : Option Nat} {nk : Option Nat} {k : Nat} {v : Nat} (hk : k < 128) : Ct g yJ10_addEntryToEmptyMap (ws_ yJ10_addEntryToEmptyMap cJ10_addEntryToEmptyMap 3 none) 4 1 6 [.ref t, .ref (kI g k), .ref v] [[(t, .inr (27, [.null, va_rf vs, .null, .null, .int (nI n), .int (nI md), va_rf es, va_rf nk, .null]))]] (fun (rv_ : Option Value) (rL_ : List va_W) => ∃ (m : Nat), rv_ = none ∧ rL_ = [[(t, .inr (27, [.null, va_rf vs, .null, .ref m, .int (nI 1), .int (nI (md + 1)), va_rf es, va_rf nk, .null]))], [(m, .inr (28, [.ref (kI g k), .ref v, .null, .null, .null, .int (nI 1)]))]]) noX := by
  refine Ct.of "java/util/TreeMap" [some (.ref t), some (.ref (kI g k)), some (.ref v)] rfl (by decide) rfl (Nat.le_of_ble_eq_true rfl) rfl ?_
  intro κ B E tb
  refine g_aload_n (q := 1) B dJ10_addEntryToEmptyMap_0 rfl rfl (rv_r _) ?_
  refine g_aload_n (q := 2) B dJ10_addEntryToEmptyMap_1 rfl rfl (rv_r _) ?_
  refine g_aload_n (q := 3) B dJ10_addEntryToEmptyMap_2 rfl rfl (rv_r _) ?_
  refine g_callV (q := 6) (is := [0]) (kc2 := 1) (ks2 := 6) B [.ref (kI g k), .ref (kI g k)] (ct_J10_compare g J (t := t) (vs := vs) (n := n) (md := md) (es := es) (nk := nk) (root := none) (k := k)  (by first | assumption | omega | rfl)) dJ10_addEntryToEmptyMap_3 rfl (rc_at B (ci := 27) rfl (k := 0) rfl) rfl q2096 q2097 q2098 q91 q2099 rfl rfl moJ10_compare rfl rfl (by decide) (by decide) (Nat.le_of_ble_eq_true rfl) (Nat.le_of_ble_eq_true rfl) (Nat.le_of_ble_eq_true rfl) (fun _ _ hx => noX_x hx) (fun v3 L1 hp3 => ?_)
  obtain ⟨z3, rfl, rfl⟩ := hp3
  refine (show Go g κ 6 [some (.ref t), some (.ref (kI g k)), some (.ref v)] [.int z3] [[(t, .inr (27, [.null, va_rf vs, .null, .null, .int (nI n), .int (nI md), va_rf es, va_rf nk, .null]))]] 1 6 from ?_)
  refine g_pop (q := 7) B dJ10_addEntryToEmptyMap_6 rfl rfl ?_
  refine g_aload_n (q := 8) B dJ10_addEntryToEmptyMap_7 rfl rfl (rv_r _) ?_
  refine g_new (q := 11) (kc2 := 0) (ks2 := 0) (fs := [.null, .null, .null, .null, .null, .int (nI 0)]) B (ci := 28) in_J37 tyJ37_ok rfl dJ10_addEntryToEmptyMap_8 rfl q2100 q2101 q128 (nwJ37) (Nat.le_of_ble_eq_true rfl) (Nat.le_of_ble_eq_true rfl) (fun n8 => ?_)
  refine (show Go g κ 11 [some (.ref t), some (.ref (kI g k)), some (.ref v)] [.ref n8, .ref t] [[(t, .inr (27, [.null, va_rf vs, .null, .null, .int (nI n), .int (nI md), va_rf es, va_rf nk, .null]))], [(n8, .inr (28, [.null, .null, .null, .null, .null, .int (nI 0)]))]] 0 0 from ?_)
  refine g_dup (q := 12) B dJ10_addEntryToEmptyMap_11 rfl rfl ?_
  refine g_aload_n (q := 13) B dJ10_addEntryToEmptyMap_12 rfl rfl (rv_r _) ?_
  refine g_aload_n (q := 14) B dJ10_addEntryToEmptyMap_13 rfl rfl (rv_r _) ?_
  refine g_aconst_null (q := 15) B dJ10_addEntryToEmptyMap_14 rfl ?_
  refine g_callI (q := 18) (is := [1]) (kc2 := 0) (ks2 := 0) B [.ref (kI g k), .ref v, .null] (ct_J37_init g J (e := n8) (kr := (kI g k)) (v := v) (q := none)  ) dJ10_addEntryToEmptyMap_15 rfl rfl q2102 q2103 q128 q2104 rfl rfl moJ37_init rfl rfl (by decide) (by decide) (Nat.le_of_ble_eq_true rfl) (Nat.le_of_ble_eq_true rfl) (Nat.le_of_ble_eq_true rfl) (fun _ _ hx => noX_x hx) (fun v15 L1 hp15 => ?_)
  obtain ⟨rfl, rfl⟩ := hp15
  refine (show Go g κ 18 [some (.ref t), some (.ref (kI g k)), some (.ref v)] [.ref n8, .ref t] [[(t, .inr (27, [.null, va_rf vs, .null, .null, .int (nI n), .int (nI md), va_rf es, va_rf nk, .null]))], [(n8, .inr (28, [.ref (kI g k), .ref v, .null, .null, .null, .int (nI 1)]))]] 0 0 from ?_)
  refine g_put (q := 21) (L2 := [[(t, .inr (27, [.null, va_rf vs, .null, .ref n8, .int (nI n), .int (nI md), va_rf es, va_rf nk, .null]))], [(n8, .inr (28, [.ref (kI g k), .ref v, .null, .null, .null, .int (nI 1)]))]]) B (ci := 27) (k := 0) (j := 3) in_J10 tyJ10 tyJ10_ok nmJ10 rfl dJ10_addEntryToEmptyMap_18 rfl rfl (Nat.le_of_ble_eq_true rfl) q1871 rfl rfl rfl rfl (Nat.le_of_ble_eq_true rfl) rfl ?_
  refine g_aload_n (q := 22) B dJ10_addEntryToEmptyMap_21 rfl rfl (rv_r _) ?_
  refine g_iconst (v := nI 1) (q := 23) B dJ10_addEntryToEmptyMap_22 rfl (by decide) ?_
  refine g_put (q := 26) (L2 := [[(t, .inr (27, [.null, va_rf vs, .null, .ref n8, .int (nI 1), .int (nI md), va_rf es, va_rf nk, .null]))], [(n8, .inr (28, [.ref (kI g k), .ref v, .null, .null, .null, .int (nI 1)]))]]) B (ci := 27) (k := 0) (j := 4) in_J10 tyJ10 tyJ10_ok nmJ10 rfl dJ10_addEntryToEmptyMap_23 rfl rfl (Nat.le_of_ble_eq_true rfl) q1872 rfl rfl rfl rfl (Nat.le_of_ble_eq_true rfl) rfl ?_
  refine g_aload_n (q := 27) B dJ10_addEntryToEmptyMap_26 rfl rfl (rv_r _) ?_
  refine g_dup (q := 28) B dJ10_addEntryToEmptyMap_27 rfl rfl ?_
  refine g_get (q := 31) B (ci := 27) (k := 0) (j := 5) in_J10 rfl dJ10_addEntryToEmptyMap_28 rfl rfl (Nat.le_of_ble_eq_true rfl) q1873 rfl rfl ?_
  refine g_iconst (v := nI 1) (q := 32) B dJ10_addEntryToEmptyMap_31 rfl (by decide) ?_
  refine g_iadd (v := nI (md + 1)) (q := 33) B dJ10_addEntryToEmptyMap_32 rfl (nI_add _ _) ?_
  refine g_put (q := 36) (L2 := [[(t, .inr (27, [.null, va_rf vs, .null, .ref n8, .int (nI 1), .int (nI (md + 1)), va_rf es, va_rf nk, .null]))], [(n8, .inr (28, [.ref (kI g k), .ref v, .null, .null, .null, .int (nI 1)]))]]) B (ci := 27) (k := 0) (j := 5) in_J10 tyJ10 tyJ10_ok nmJ10 rfl dJ10_addEntryToEmptyMap_33 rfl rfl (Nat.le_of_ble_eq_true rfl) q1873 rfl rfl rfl rfl (Nat.le_of_ble_eq_true rfl) rfl ?_
  exact g_vret B E dJ10_addEntryToEmptyMap_36 (⟨n8, rfl, rfl⟩)
theorem moJ10_addEntry : Mo yJ10_addEntry 4 := by
  refine ⟨by decide, by decide, by decide +kernel⟩
theorem moJ10_addEntryToEmptyMap : Mo yJ10_addEntryToEmptyMap 2 := by
  refine ⟨by decide, by decide, by decide +kernel⟩
theorem ct_J10_put_2 (g : Gv) (J : Jd g) {t : Nat} {f : Nat → Option Nat} {n : Nat} {md : Nat} {k : Nat} {v : Nat} {w0 : va_W} (hw0 : MapP g t f n md w0) (hk : k < 128) : Ct g yJ10_put_2 (ws_ yJ10_put_2 cJ10_put_2 10 (some (.object "java/lang/Object"))) 5 1 6 [.ref t, .ref (kI g k), .ref v, .int (nI 1)] [w0] (fun (rv_ : Option Value) (rL_ : List va_W) => ∃ (n2 : Nat) (md2 : Nat) (u0 : va_W), rv_ = some (va_rf (f k)) ∧ rL_ = [u0] ∧ MapP g t (fup f k (some v)) n2 md2 u0 ∧ (n2 = n + (if f k = none then 1 else 0)) ∧ (md2 = md + (if f k = none then 1 else 0))) noX := by
  refine Ct.of "java/util/TreeMap" [some (.ref t), some (.ref (kI g k)), some (.ref v), some (.int (nI 1)), none, none, none, none, none, none] rfl (by decide) rfl (Nat.le_of_ble_eq_true rfl) rfl ?_
  intro κ B E tb
  obtain ⟨vs, es, nk, ns, key, val, l, r, p, col, lo, hi, root, we, wv, hT, hn, hF, hwe, hwv, rfl⟩ := hw0
  refine g_open 0 rfl rfl rfl ?_
  refine (show Go g κ 0 [some (.ref t), some (.ref (kI g k)), some (.ref v), some (.int (nI 1)), none, none, none, none, none, none] [] [[(t, .inr (27, [.null, va_rf vs, .null, va_rf root, .int (nI n), .int (nI md), va_rf es, va_rf nk, .null]))], we, wv] 1 6 from ?_)
  refine g_aload_n (q := 1) B dJ10_put_2_0 rfl rfl (rv_r _) ?_
  refine g_get (q := 4) B (ci := 27) (k := 0) (j := 3) in_J10 rfl dJ10_put_2_1 rfl rfl (Nat.le_of_ble_eq_true rfl) q1871 rfl rfl ?_
  refine g_astore (q := 6) (lv2 := [some (.ref t), some (.ref (kI g k)), some (.ref v), some (.int (nI 1)), some (va_rf root), none, none, none, none, none]) B dJ10_put_2_4 rfl (Nat.le_of_ble_eq_true rfl) (rv_o _) rfl ?_
  refine g_aload (q := 8) B dJ10_put_2_6 rfl rfl (rv_o _) ?_
  refine g_ifnonnull_o (tgt := 19) (q := 11) B dJ10_put_2_8 rfl (by decide) (fun root_a8 c8 => ?_) (fun c8 => ?_)
  · skip
    subst c8
    refine g_aload_n (q := 20) B dJ10_put_2_19 rfl rfl (rv_r _) ?_
    refine g_get (q := 23) B (ci := 27) (k := 0) (j := 2) in_J10 rfl dJ10_put_2_20 rfl rfl (Nat.le_of_ble_eq_true rfl) q1870 rfl rfl ?_
    refine g_astore (q := 25) (lv2 := [some (.ref t), some (.ref (kI g k)), some (.ref v), some (.int (nI 1)), some (.ref root_a8), none, none, some (.null), none, none]) B dJ10_put_2_23 rfl (Nat.le_of_ble_eq_true rfl) rv_n rfl ?_
    refine g_aload (q := 27) B dJ10_put_2_25 rfl rfl rv_n ?_
    refine g_ifnull_n (tgt := 112) B dJ10_put_2_27 (by decide) ?_
    obtain ⟨wc_1, ewc_1⟩ : ∃ w : va_W, w = ([] : List va_W).flatten := ⟨_, rfl⟩
    have hwc_1 : BoxP g (kI g k) (nI k) wc_1 := by
      rw [ewc_1]
      exact kI_box g (hk)
    refine g_close (w := wc_1) [] rfl ewc_1 rfl ?_
    refine (show Go g κ 112 [some (.ref t), some (.ref (kI g k)), some (.ref v), some (.int (nI 1)), some (.ref root_a8), none, none, some (.null), none, none] [] [[(t, .inr (27, [.null, va_rf vs, .null, .ref root_a8, .int (nI n), .int (nI md), va_rf es, va_rf nk, .null]))], we, wv, wc_1] 1 6 from ?_)
    refine g_aload_n (q := 113) B dJ10_put_2_112 rfl rfl (rv_r _) ?_
    refine g_callS (q := 116) (is := []) (kc2 := 1) (ks2 := 6) B [.ref (kI g k)] (ct_J17_requireNonNull g J (a := (kI g k))  ) dJ10_put_2_113 rfl q1819 q1820 q100 q1821 rfl rfl moJ17_requireNonNull rfl rfl (by decide) (by decide) (Nat.le_of_ble_eq_true rfl) (Nat.le_of_ble_eq_true rfl) (Nat.le_of_ble_eq_true rfl) (fun _ _ hx => noX_x hx) (fun v113 L1 hp113 => ?_)
    obtain ⟨rfl, rfl⟩ := hp113
    refine (show Go g κ 116 [some (.ref t), some (.ref (kI g k)), some (.ref v), some (.int (nI 1)), some (.ref root_a8), none, none, some (.null), none, none] [.ref (kI g k)] [[(t, .inr (27, [.null, va_rf vs, .null, .ref root_a8, .int (nI n), .int (nI md), va_rf es, va_rf nk, .null]))], we, wv, wc_1] 1 6 from ?_)
    refine g_pop (q := 117) B dJ10_put_2_116 rfl rfl ?_
    refine g_aload_n (q := 118) B dJ10_put_2_117 rfl rfl (rv_r _) ?_
    refine g_castR (q := 121) B (rc_box B J (k := 3) rfl hwc_1) dJ10_put_2_118 rfl q1822 q1435 ?_
    refine g_astore (q := 123) (lv2 := [some (.ref t), some (.ref (kI g k)), some (.ref v), some (.int (nI 1)), some (.ref root_a8), none, none, some (.null), some (.ref (kI g k)), none]) B dJ10_put_2_121 rfl (Nat.le_of_ble_eq_true rfl) (rv_r _) rfl ?_
    have lp123 : ∀ (n123 : Nat) (x : Nat) , (Sk ns key lo hi k (some x)) → wid lo hi (some x) = n123 → Go g κ 123 [some (.ref t), some (.ref (kI g k)), some (.ref v), some (.int (nI 1)), some (.ref x), none, none, some (.null), some (.ref (kI g k)), none] [] [[(t, .inr (27, [.null, va_rf vs, .null, .ref root_a8, .int (nI n), .int (nI md), va_rf es, va_rf nk, .null]))], we, wv] 1 6 := by
      intro n123
      induction n123 using Nat.strongRecOn with
      | _ n123 ih123 =>
      intro x  hs hmu123
      have ham := (hs.1 x rfl).1
      have hkm := tr_k hT ham
      refine g_aload (q := 125) B dJ10_put_2_123 rfl rfl (rv_r _) ?_
      refine g_astore (q := 127) (lv2 := [some (.ref t), some (.ref (kI g k)), some (.ref v), some (.int (nI 1)), some (.ref x), none, some (.ref x), some (.null), some (.ref (kI g k)), none]) B dJ10_put_2_125 rfl (Nat.le_of_ble_eq_true rfl) (rv_r _) rfl ?_
      refine g_aload (q := 129) B dJ10_put_2_127 rfl rfl (rv_r _) ?_
      refine g_aload (q := 131) B dJ10_put_2_129 rfl rfl (rv_r _) ?_
      refine g_getM (v := .ref (kI g (key x))) (q := 134) B (ci := 28) (k := 1) (j := 0) in_J37 rfl dJ10_put_2_131 rfl rfl (EntG.mem hwe ham) (Nat.le_of_ble_eq_true rfl) q2108 rfl rfl ?_
      obtain ⟨wc_2, ewc_2⟩ : ∃ w : va_W, w = ([] : List va_W).flatten := ⟨_, rfl⟩
      have hwc_2 : BoxP g (kI g k) (nI k) wc_2 := by
        rw [ewc_2]
        exact kI_box g (hk)
      refine g_close (w := wc_2) [] rfl ewc_2 rfl ?_
      refine (show Go g κ 134 [some (.ref t), some (.ref (kI g k)), some (.ref v), some (.int (nI 1)), some (.ref x), none, some (.ref x), some (.null), some (.ref (kI g k)), none] [.ref (kI g (key x)), .ref (kI g k)] [[(t, .inr (27, [.null, va_rf vs, .null, .ref root_a8, .int (nI n), .int (nI md), va_rf es, va_rf nk, .null]))], we, wv, wc_2] 1 6 from ?_)
      obtain ⟨wc_3, ewc_3⟩ : ∃ w : va_W, w = ([] : List va_W).flatten := ⟨_, rfl⟩
      have hwc_3 : BoxP g (kI g (key x)) (nI (key x)) wc_3 := by
        rw [ewc_3]
        exact kI_box g (hkm)
      refine g_close (w := wc_3) [] rfl ewc_3 rfl ?_
      refine (show Go g κ 134 [some (.ref t), some (.ref (kI g k)), some (.ref v), some (.int (nI 1)), some (.ref x), none, some (.ref x), some (.null), some (.ref (kI g k)), none] [.ref (kI g (key x)), .ref (kI g k)] [[(t, .inr (27, [.null, va_rf vs, .null, .ref root_a8, .int (nI n), .int (nI md), va_rf es, va_rf nk, .null]))], we, wv, wc_2, wc_3] 1 6 from ?_)
      refine g_callF (q := 139) (is := [3, 3]) (kc2 := 1) (ks2 := 6) B [.ref (kI g (key x))] (ct_J26_compareTo g J (a := (kI g k)) (v := nI k) (b := (kI g (key x))) (u := nI (key x)) hwc_2 hwc_3 ) dJ10_put_2_134 rfl (ci := 35) rfl (rc_box B J (k := 3) rfl hwc_2) q1824 q1436 q1438 q111 q1440 q1434 q1433 q1439 q1437 q1435 rfl rfl mojava_lang_Comparable_compareTo__Ljava_lang_Object__I rfl rfl (by decide) (by decide) (Nat.le_of_ble_eq_true rfl) (Nat.le_of_ble_eq_true rfl) (Nat.le_of_ble_eq_true rfl) (fun _ _ hx => noX_x hx) (fun v134 L1 hp134 => ?_)
      obtain ⟨rfl, rfl⟩ := hp134
      refine (show Go g κ 139 [some (.ref t), some (.ref (kI g k)), some (.ref v), some (.int (nI 1)), some (.ref x), none, some (.ref x), some (.null), some (.ref (kI g k)), none] [.int (cmpI (nI k) (nI (key x)))] [[(t, .inr (27, [.null, va_rf vs, .null, .ref root_a8, .int (nI n), .int (nI md), va_rf es, va_rf nk, .null]))], we, wv, wc_2, wc_3] 1 6 from ?_)
      refine g_pk [0, 0, 0] rfl rfl ?_
      refine (show Go g κ 139 [some (.ref t), some (.ref (kI g k)), some (.ref v), some (.int (nI 1)), some (.ref x), none, some (.ref x), some (.null), some (.ref (kI g k)), none] [.int (cmpI (nI k) (nI (key x)))] [[(t, .inr (27, [.null, va_rf vs, .null, .ref root_a8, .int (nI n), .int (nI md), va_rf es, va_rf nk, .null]))], we, wv] 1 6 from ?_)
      refine g_istore (q := 141) (lv2 := [some (.ref t), some (.ref (kI g k)), some (.ref v), some (.int (nI 1)), some (.ref x), some (.int (cmpI (nI k) (nI (key x)))), some (.ref x), some (.null), some (.ref (kI g k)), none]) B dJ10_put_2_139 rfl (Nat.le_of_ble_eq_true rfl) rfl ?_
      refine g_iload (q := 143) B dJ10_put_2_141 rfl rfl ?_
      refine g_if_ge (tgt := 156) (q := 146) B dJ10_put_2_143 rfl (by decide) (cmp_ge hk hkm) (fun c143 => ?_) (fun c143 => ?_)
      · skip
        refine g_iload (q := 158) B dJ10_put_2_156 rfl rfl ?_
        refine g_if_le (tgt := 171) (q := 161) B dJ10_put_2_158 rfl (by decide) (cmp_le hk hkm) (fun c158 => ?_) (fun c158 => ?_)
        · skip
          refine g_aload (q := 173) B dJ10_put_2_171 rfl rfl (rv_r _) ?_
          refine g_getM (v := .ref (val x)) (q := 176) B (ci := 28) (k := 1) (j := 1) in_J37 rfl dJ10_put_2_173 rfl rfl (EntG.mem hwe ham) (Nat.le_of_ble_eq_true rfl) q2111 rfl rfl ?_
          refine g_astore (q := 178) (lv2 := [some (.ref t), some (.ref (kI g k)), some (.ref v), some (.int (nI 1)), some (.ref x), some (.int (cmpI (nI k) (nI (key x)))), some (.ref x), some (.null), some (.ref (kI g k)), some (.ref (val x))]) B dJ10_put_2_176 rfl (Nat.le_of_ble_eq_true rfl) (rv_r _) rfl ?_
          refine g_iload_n (q := 179) B dJ10_put_2_178 rfl rfl ?_
          refine g_if_ne (tgt := 187) (q := 182) B dJ10_put_2_179 rfl (by decide) (iff_true_intro (by decide)) (fun _ => ?_) (fun z => absurd trivial z)
          refine g_aload (q := 189) B dJ10_put_2_187 rfl rfl (rv_r _) ?_
          refine g_aload_n (q := 190) B dJ10_put_2_189 rfl rfl (rv_r _) ?_
          refine g_putE1 (q := 193) (k := 1) (x := v) B hwe ham dJ10_put_2_190 rfl rfl q2111 (fun we_4_190 hwe_4_190 => ?_)
          refine (show Go g κ 193 [some (.ref t), some (.ref (kI g k)), some (.ref v), some (.int (nI 1)), some (.ref x), some (.int (cmpI (nI k) (nI (key x)))), some (.ref x), some (.null), some (.ref (kI g k)), some (.ref (val x))] [] [[(t, .inr (27, [.null, va_rf vs, .null, .ref root_a8, .int (nI n), .int (nI md), va_rf es, va_rf nk, .null]))], we_4_190, wv] 1 6 from ?_)
          refine g_aload (q := 195) B dJ10_put_2_193 rfl rfl (rv_r _) ?_
          have hkx : key x = k := by omega
          have hfk : f k = some (val x) := hF.some ⟨ham, hkx⟩
          obtain ⟨wc_5, ewc_5⟩ : ∃ w : va_W, w = ([[(t, .inr (27, [.null, va_rf vs, .null, .ref root_a8, .int (nI n), .int (nI md), va_rf es, va_rf nk, .null]))], we_4_190, wv] : List va_W).flatten := ⟨_, rfl⟩
          have hwc_5 : MapP g t (fup f k (some v)) n md wc_5 := by
            rw [ewc_5]
            exact ⟨vs, es, nk, ns, key, _, l, r, p, col, lo, hi, _, _, _, hT, hn, mf_upd hF hT.1 ham hkx, hwe_4_190, hwv, rfl⟩
          refine g_close (w := wc_5) [0, 0, 0] rfl ewc_5 rfl ?_
          refine (show Go g κ 195 [some (.ref t), some (.ref (kI g k)), some (.ref v), some (.int (nI 1)), some (.ref x), some (.int (cmpI (nI k) (nI (key x)))), some (.ref x), some (.null), some (.ref (kI g k)), some (.ref (val x))] [.ref (val x)] [wc_5] 1 6 from ?_)
          exact g_aret B E dJ10_put_2_195 (by first | exact Or.inl ⟨_, rfl⟩ | exact Or.inr ⟨_, rfl⟩) (rv_r _) (⟨n, md, _, by rw [hfk]; rfl, rfl, hwc_5, by rw [hfk]; rfl, by rw [hfk]; rfl⟩)
        · skip
          refine g_aload (q := 163) B dJ10_put_2_161 rfl rfl (rv_r _) ?_
          refine g_getM (v := va_rf (r x)) (q := 166) B (ci := 28) (k := 1) (j := 3) in_J37 rfl dJ10_put_2_163 rfl rfl (EntG.mem hwe ham) (Nat.le_of_ble_eq_true rfl) q2115 rfl rfl ?_
          refine g_astore (q := 168) (lv2 := [some (.ref t), some (.ref (kI g k)), some (.ref v), some (.int (nI 1)), some (va_rf (r x)), some (.int (cmpI (nI k) (nI (key x)))), some (.ref x), some (.null), some (.ref (kI g k)), none]) B dJ10_put_2_166 rfl (Nat.le_of_ble_eq_true rfl) (rv_o _) rfl ?_
          refine g_goto (tgt := 196) B dJ10_put_2_168 (by decide) ?_
          refine g_aload (q := 198) B dJ10_put_2_196 rfl rfl (rv_o _) ?_
          refine g_ifnonnull_o (tgt := 123) (q := 201) B dJ10_put_2_198 rfl (by decide) (fun rx_a198 c198 => ?_) (fun c198 => ?_)
          · skip
            rw [c198]
            refine (show Go g κ 123 [some (.ref t), some (.ref (kI g k)), some (.ref v), some (.int (nI 1)), some (.ref rx_a198), some (.int (cmpI (nI k) (nI (key x)))), some (.ref x), some (.null), some (.ref (kI g k)), none] [] [[(t, .inr (27, [.null, va_rf vs, .null, .ref root_a8, .int (nI n), .int (nI md), va_rf es, va_rf nk, .null]))], we, wv] 1 6 from ?_)
            refine g_fg 5 rfl ?_
            refine g_fg 6 rfl ?_
            exact ih123 _ (by rw [← hmu123, ← c198]; first | exact wid_l hT ham | exact wid_r hT ham) rx_a198 (by rw [← c198]; exact sk_r hT hs (by omega)) rfl
          · skip
            rw [c198]
            refine (show Go g κ 201 [some (.ref t), some (.ref (kI g k)), some (.ref v), some (.int (nI 1)), some (.null), some (.int (cmpI (nI k) (nI (key x)))), some (.ref x), some (.null), some (.ref (kI g k)), none] [] [[(t, .inr (27, [.null, va_rf vs, .null, .ref root_a8, .int (nI n), .int (nI md), va_rf es, va_rf nk, .null]))], we, wv] 1 6 from ?_)
            refine g_aload_n (q := 202) B dJ10_put_2_201 rfl rfl (rv_r _) ?_
            refine g_aload_n (q := 203) B dJ10_put_2_202 rfl rfl (rv_r _) ?_
            refine g_aload_n (q := 204) B dJ10_put_2_203 rfl rfl (rv_r _) ?_
            refine g_aload (q := 206) B dJ10_put_2_204 rfl rfl (rv_r _) ?_
            refine g_iload (q := 208) B dJ10_put_2_206 rfl rfl ?_
            refine g_if_ge (tgt := 215) (q := 211) B dJ10_put_2_208 rfl (by decide) (iff_true_intro ((cmp_ge hk hkm).mpr c143)) (fun _ => ?_) (fun z => absurd trivial z)
            refine g_iconst (v := nI 0) (q := 216) B dJ10_put_2_215 rfl (by decide) ?_
            refine g_callV (q := 219) (is := [0, 0]) (kc2 := 0) (ks2 := 0) B [.ref (kI g k), .ref v, .ref x, .int (nI 0)] (ct_J10_addEntry_r g J (t := t) (vs := vs) (n := n) (md := md) (es := es) (nk := nk) (ns := ns) (key := key) (val := val) (l := l) (r := r) (p := p) (col := col) (lo := lo) (hi := hi) (root := some root_a8) (k := k) (v := v) (a := x) hwe (by first | assumption | omega | rfl) (by first | assumption | omega | rfl) (by first | assumption | omega | rfl) (by first | assumption | omega | rfl) (by have := hs.1 x rfl; omega) (by have := hs.1 x rfl; omega)) dJ10_put_2_216 rfl (rc_at B (ci := 27) rfl (k := 0) rfl) rfl q2133 q2135 qs18 q91 q2136 rfl rfl moJ10_addEntry rfl rfl (by decide) (by decide) (Nat.le_of_ble_eq_true rfl) (Nat.le_of_ble_eq_true rfl) (Nat.le_of_ble_eq_true rfl) (fun _ _ hx => noX_x hx) (fun v216 L1 hp216 => ?_)
            obtain ⟨m216, l2216, r2216, p2216, col2216, lo2216, hi2216, root2216, u1_216, rfl, rfl, hu1_216, hm_216, hT2_216⟩ := hp216
            refine (show Go g κ 219 [some (.ref t), some (.ref (kI g k)), some (.ref v), some (.int (nI 1)), some (.null), some (.int (cmpI (nI k) (nI (key x)))), some (.ref x), some (.null), some (.ref (kI g k)), none] [] [wv, [(t, .inr (27, [.null, va_rf vs, .null, va_rf root2216, .int (nI (n + 1)), .int (nI (md + 1)), va_rf es, va_rf nk, .null]))], u1_216] 0 0 from ?_)
            refine g_aconst_null (q := 220) B dJ10_put_2_219 rfl ?_
            have hno : ∀ b ∈ ns, key b ≠ k := by
              have z := sk_r hT hs (by omega)
              rw [c198] at z
              exact z.2 rfl
            have hfk : f k = none := hF.none hno
            obtain ⟨wc_6, ewc_6⟩ : ∃ w : va_W, w = ([[(t, .inr (27, [.null, va_rf vs, .null, va_rf root2216, .int (nI (n + 1)), .int (nI (md + 1)), va_rf es, va_rf nk, .null]))], u1_216, wv] : List va_W).flatten := ⟨_, rfl⟩
            have hwc_6 : MapP g t (fup f k (some v)) (n + 1) (md + 1) wc_6 := by
              rw [ewc_6]
              exact ⟨vs, es, nk, m216 :: ns, _, _, _, _, _, _, _, _, _, _, _, hT2_216, by simp [hn], mf_ins hF hm_216 hno, hu1_216, hwv, rfl⟩
            refine g_close (w := wc_6) [1, 1, 0] rfl ewc_6 rfl ?_
            refine (show Go g κ 220 [some (.ref t), some (.ref (kI g k)), some (.ref v), some (.int (nI 1)), some (.null), some (.int (cmpI (nI k) (nI (key x)))), some (.ref x), some (.null), some (.ref (kI g k)), none] [.null] [wc_6] 0 0 from ?_)
            exact g_aret B E dJ10_put_2_220 (by first | exact Or.inl ⟨_, rfl⟩ | exact Or.inr ⟨_, rfl⟩) rv_n (⟨n + 1, md + 1, _, by rw [hfk]; rfl, rfl, hwc_6, by rw [hfk]; rfl, by rw [hfk]; rfl⟩)
      · skip
        refine g_aload (q := 148) B dJ10_put_2_146 rfl rfl (rv_r _) ?_
        refine g_getM (v := va_rf (l x)) (q := 151) B (ci := 28) (k := 1) (j := 2) in_J37 rfl dJ10_put_2_148 rfl rfl (EntG.mem hwe ham) (Nat.le_of_ble_eq_true rfl) q2113 rfl rfl ?_
        refine g_astore (q := 153) (lv2 := [some (.ref t), some (.ref (kI g k)), some (.ref v), some (.int (nI 1)), some (va_rf (l x)), some (.int (cmpI (nI k) (nI (key x)))), some (.ref x), some (.null), some (.ref (kI g k)), none]) B dJ10_put_2_151 rfl (Nat.le_of_ble_eq_true rfl) (rv_o _) rfl ?_
        refine g_goto (tgt := 196) B dJ10_put_2_153 (by decide) ?_
        refine g_aload (q := 198) B dJ10_put_2_196 rfl rfl (rv_o _) ?_
        refine g_ifnonnull_o (tgt := 123) (q := 201) B dJ10_put_2_198 rfl (by decide) (fun lx_a198 c198 => ?_) (fun c198 => ?_)
        · skip
          rw [c198]
          refine (show Go g κ 123 [some (.ref t), some (.ref (kI g k)), some (.ref v), some (.int (nI 1)), some (.ref lx_a198), some (.int (cmpI (nI k) (nI (key x)))), some (.ref x), some (.null), some (.ref (kI g k)), none] [] [[(t, .inr (27, [.null, va_rf vs, .null, .ref root_a8, .int (nI n), .int (nI md), va_rf es, va_rf nk, .null]))], we, wv] 1 6 from ?_)
          refine g_fg 5 rfl ?_
          refine g_fg 6 rfl ?_
          exact ih123 _ (by rw [← hmu123, ← c198]; first | exact wid_l hT ham | exact wid_r hT ham) lx_a198 (by rw [← c198]; exact sk_l hT hs (by omega)) rfl
        · skip
          rw [c198]
          refine (show Go g κ 201 [some (.ref t), some (.ref (kI g k)), some (.ref v), some (.int (nI 1)), some (.null), some (.int (cmpI (nI k) (nI (key x)))), some (.ref x), some (.null), some (.ref (kI g k)), none] [] [[(t, .inr (27, [.null, va_rf vs, .null, .ref root_a8, .int (nI n), .int (nI md), va_rf es, va_rf nk, .null]))], we, wv] 1 6 from ?_)
          refine g_aload_n (q := 202) B dJ10_put_2_201 rfl rfl (rv_r _) ?_
          refine g_aload_n (q := 203) B dJ10_put_2_202 rfl rfl (rv_r _) ?_
          refine g_aload_n (q := 204) B dJ10_put_2_203 rfl rfl (rv_r _) ?_
          refine g_aload (q := 206) B dJ10_put_2_204 rfl rfl (rv_r _) ?_
          refine g_iload (q := 208) B dJ10_put_2_206 rfl rfl ?_
          refine g_if_ge (tgt := 215) (q := 211) B dJ10_put_2_208 rfl (by decide) (iff_false_intro (fun z => c143 ((cmp_ge hk hkm).mp z))) (fun z => z.elim) (fun _ => ?_)
          refine g_iconst (v := nI 1) (q := 212) B dJ10_put_2_211 rfl (by decide) ?_
          refine g_goto (tgt := 216) B dJ10_put_2_212 (by decide) ?_
          refine g_callV (q := 219) (is := [0, 0]) (kc2 := 0) (ks2 := 0) B [.ref (kI g k), .ref v, .ref x, .int (nI 1)] (ct_J10_addEntry_l g J (t := t) (vs := vs) (n := n) (md := md) (es := es) (nk := nk) (ns := ns) (key := key) (val := val) (l := l) (r := r) (p := p) (col := col) (lo := lo) (hi := hi) (root := some root_a8) (k := k) (v := v) (a := x) hwe (by first | assumption | omega | rfl) (by first | assumption | omega | rfl) (by first | assumption | omega | rfl) (by first | assumption | omega | rfl) (by have := hs.1 x rfl; omega) (by have := hs.1 x rfl; omega)) dJ10_put_2_216 rfl (rc_at B (ci := 27) rfl (k := 0) rfl) rfl q2133 q2135 qs18 q91 q2136 rfl rfl moJ10_addEntry rfl rfl (by decide) (by decide) (Nat.le_of_ble_eq_true rfl) (Nat.le_of_ble_eq_true rfl) (Nat.le_of_ble_eq_true rfl) (fun _ _ hx => noX_x hx) (fun v216 L1 hp216 => ?_)
          obtain ⟨m216, l2216, r2216, p2216, col2216, lo2216, hi2216, root2216, u1_216, rfl, rfl, hu1_216, hm_216, hT2_216⟩ := hp216
          refine (show Go g κ 219 [some (.ref t), some (.ref (kI g k)), some (.ref v), some (.int (nI 1)), some (.null), some (.int (cmpI (nI k) (nI (key x)))), some (.ref x), some (.null), some (.ref (kI g k)), none] [] [wv, [(t, .inr (27, [.null, va_rf vs, .null, va_rf root2216, .int (nI (n + 1)), .int (nI (md + 1)), va_rf es, va_rf nk, .null]))], u1_216] 0 0 from ?_)
          refine g_aconst_null (q := 220) B dJ10_put_2_219 rfl ?_
          have hno : ∀ b ∈ ns, key b ≠ k := by
            have z := sk_l hT hs (by omega)
            rw [c198] at z
            exact z.2 rfl
          have hfk : f k = none := hF.none hno
          obtain ⟨wc_7, ewc_7⟩ : ∃ w : va_W, w = ([[(t, .inr (27, [.null, va_rf vs, .null, va_rf root2216, .int (nI (n + 1)), .int (nI (md + 1)), va_rf es, va_rf nk, .null]))], u1_216, wv] : List va_W).flatten := ⟨_, rfl⟩
          have hwc_7 : MapP g t (fup f k (some v)) (n + 1) (md + 1) wc_7 := by
            rw [ewc_7]
            exact ⟨vs, es, nk, m216 :: ns, _, _, _, _, _, _, _, _, _, _, _, hT2_216, by simp [hn], mf_ins hF hm_216 hno, hu1_216, hwv, rfl⟩
          refine g_close (w := wc_7) [1, 1, 0] rfl ewc_7 rfl ?_
          refine (show Go g κ 220 [some (.ref t), some (.ref (kI g k)), some (.ref v), some (.int (nI 1)), some (.null), some (.int (cmpI (nI k) (nI (key x)))), some (.ref x), some (.null), some (.ref (kI g k)), none] [.null] [wc_7] 0 0 from ?_)
          exact g_aret B E dJ10_put_2_220 (by first | exact Or.inl ⟨_, rfl⟩ | exact Or.inr ⟨_, rfl⟩) rv_n (⟨n + 1, md + 1, _, by rw [hfk]; rfl, rfl, hwc_7, by rw [hfk]; rfl, by rw [hfk]; rfl⟩)
    refine g_pk [0, 0, 0] rfl rfl ?_
    refine (show Go g κ 123 [some (.ref t), some (.ref (kI g k)), some (.ref v), some (.int (nI 1)), some (.ref root_a8), none, none, some (.null), some (.ref (kI g k)), none] [] [[(t, .inr (27, [.null, va_rf vs, .null, .ref root_a8, .int (nI n), .int (nI md), va_rf es, va_rf nk, .null]))], we, wv] 1 6 from ?_)
    exact lp123 _ root_a8 (sk_root hT hk) rfl
  · skip
    subst c8
    refine g_aload_n (q := 12) B dJ10_put_2_11 rfl rfl (rv_r _) ?_
    refine g_aload_n (q := 13) B dJ10_put_2_12 rfl rfl (rv_r _) ?_
    refine g_aload_n (q := 14) B dJ10_put_2_13 rfl rfl (rv_r _) ?_
    refine g_callV (q := 17) (is := [0]) (kc2 := 0) (ks2 := 0) B [.ref (kI g k), .ref v] (ct_J10_addEntryToEmptyMap g J (t := t) (vs := vs) (n := n) (md := md) (es := es) (nk := nk) (k := k) (v := v)  (by first | assumption | omega | rfl)) dJ10_put_2_14 rfl (rc_at B (ci := 27) rfl (k := 0) rfl) rfl q2092 q2094 qs17 q91 q2095 rfl rfl moJ10_addEntryToEmptyMap rfl rfl (by decide) (by decide) (Nat.le_of_ble_eq_true rfl) (Nat.le_of_ble_eq_true rfl) (Nat.le_of_ble_eq_true rfl) (fun _ _ hx => noX_x hx) (fun v14 L1 hp14 => ?_)
    obtain ⟨m14, rfl, rfl⟩ := hp14
    refine (show Go g κ 17 [some (.ref t), some (.ref (kI g k)), some (.ref v), some (.int (nI 1)), some (.null), none, none, none, none, none] [] [we, wv, [(t, .inr (27, [.null, va_rf vs, .null, .ref m14, .int (nI 1), .int (nI (md + 1)), va_rf es, va_rf nk, .null]))], [(m14, .inr (28, [.ref (kI g k), .ref v, .null, .null, .null, .int (nI 1)]))]] 0 0 from ?_)
    refine g_aconst_null (q := 18) B dJ10_put_2_17 rfl ?_
    have hz : ns = [] := hT.2.2.2.2.2.2.2.2.1 rfl
    subst hz
    obtain ⟨wc_8, ewc_8⟩ : ∃ w : va_W, w = ([[(t, .inr (27, [.null, va_rf vs, .null, .ref m14, .int (nI 1), .int (nI (md + 1)), va_rf es, va_rf nk, .null]))], [(m14, .inr (28, [.ref (kI g k), .ref v, .null, .null, .null, .int (nI 1)]))], wv] : List va_W).flatten := ⟨_, rfl⟩
    have hwc_8 : MapP g t (fup f k (some v)) 1 (md + 1) wc_8 := by
      rw [ewc_8]
      exact ⟨vs, es, nk, [m14], fun _ => k, fun _ => v, fun _ => none, fun _ => none, fun _ => none, fun _ => true, fun _ => 0, fun _ => 128, some m14, _, _, tr_one hk, rfl, by have z := mf_ins (k := k) (v := v) (m := m14) hF (by simp) (by simp); refine ⟨fun a ha => ?_, fun k2 v2 e => ?_⟩; exact (by have := List.mem_singleton.mp ha; rw [fup_s]); (obtain ⟨a, ha, e2⟩ := z.2 k2 v2 e; have := List.mem_singleton.mp ha; subst this; rw [fup_s] at e2; exact ⟨a, ha, e2⟩), ⟨by simp, rfl⟩, hwv, rfl⟩
    refine g_close (w := wc_8) [2, 2, 1] rfl ewc_8 rfl ?_
    refine (show Go g κ 18 [some (.ref t), some (.ref (kI g k)), some (.ref v), some (.int (nI 1)), some (.null), none, none, none, none, none] [.null] [we, wc_8] 0 0 from ?_)
    have hfk : f k = none := hF.none (by simp)
    refine g_pk [1] rfl rfl ?_
    refine (show Go g κ 18 [some (.ref t), some (.ref (kI g k)), some (.ref v), some (.int (nI 1)), some (.null), none, none, none, none, none] [.null] [wc_8] 0 0 from ?_)
    exact g_aret B E dJ10_put_2_18 (by first | exact Or.inl ⟨_, rfl⟩ | exact Or.inr ⟨_, rfl⟩) rv_n (⟨1, md + 1, _, by rw [hfk]; rfl, rfl, hwc_8, by rw [hfk, hn]; rfl, by rw [hfk]; rfl⟩)
theorem moJ10_put_2 : Mo yJ10_put_2 3 := by
  refine ⟨by decide, by decide, by decide +kernel⟩
theorem ct_J10_put (g : Gv) (J : Jd g) {t : Nat} {f : Nat → Option Nat} {n : Nat} {md : Nat} {k : Nat} {v : Nat} {w0 : va_W} (hw0 : MapP g t f n md w0) (hk : k < 128) : Ct g yJ10_put (ws_ yJ10_put cJ10_put 3 (some (.object "java/lang/Object"))) 6 1 6 [.ref t, .ref (kI g k), .ref v] [w0] (fun (rv_ : Option Value) (rL_ : List va_W) => ∃ (n2 : Nat) (md2 : Nat) (u0 : va_W), rv_ = some (va_rf (f k)) ∧ rL_ = [u0] ∧ MapP g t (fup f k (some v)) n2 md2 u0 ∧ (n2 = n + (if f k = none then 1 else 0)) ∧ (md2 = md + (if f k = none then 1 else 0))) noX := by
  refine Ct.of "java/util/TreeMap" [some (.ref t), some (.ref (kI g k)), some (.ref v)] rfl (by decide) rfl (Nat.le_of_ble_eq_true rfl) rfl ?_
  intro κ B E tb
  refine g_aload_n (q := 1) B dJ10_put_0 rfl rfl (rv_r _) ?_
  refine g_aload_n (q := 2) B dJ10_put_1 rfl rfl (rv_r _) ?_
  refine g_aload_n (q := 3) B dJ10_put_2 rfl rfl (rv_r _) ?_
  refine g_iconst (v := nI 1) (q := 4) B dJ10_put_3 rfl (by decide) ?_
  refine g_callV (q := 7) (is := [0]) (kc2 := 0) (ks2 := 0) B [.ref (kI g k), .ref v, .int (nI 1)] (ct_J10_put_2 g J (t := t) (f := f) (n := n) (md := md) (k := k) (v := v) hw0 (by first | assumption | omega | rfl)) dJ10_put_4 rfl (rc_in B (ci := 27) rfl (k := 0) rfl (MapP.hm hw0)) rfl q2088 q2090 qs16 q91 q2091 rfl rfl moJ10_put_2 rfl rfl (by decide) (by decide) (Nat.le_of_ble_eq_true rfl) (Nat.le_of_ble_eq_true rfl) (Nat.le_of_ble_eq_true rfl) (fun _ _ hx => noX_x hx) (fun v4 L1 hp4 => ?_)
  obtain ⟨n24, md24, u0_4, rfl, rfl, hu0_4, hn2_4, hmd2_4⟩ := hp4
  refine (show Go g κ 7 [some (.ref t), some (.ref (kI g k)), some (.ref v)] [va_rf (f k)] [u0_4] 0 0 from ?_)
  exact g_aret B E dJ10_put_7 (by first | exact Or.inl ⟨_, rfl⟩ | exact Or.inr ⟨_, rfl⟩) (rv_o _) (⟨n24, md24, u0_4, rfl, rfl, hu0_4, by first | assumption | omega | rfl | simp_all, by first | assumption | omega | rfl | simp_all⟩)
