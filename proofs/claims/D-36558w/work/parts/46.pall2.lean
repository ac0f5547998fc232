set_option maxRecDepth 100000
theorem tr_e {key : Nat → Nat} {l r p : Nat → Option Nat} {lo hi : Nat → Nat} {root : Option Nat} {M : Nat} (h : Tr [] key l r p lo hi root M) : root = none := by
  cases e : root with
  | none => rfl
  | some z => exact absurd (tr_tm h e) (by simp)
theorem VwP.me {t y : Nat} {vs nk : Option Nat} {w : va_W} (h : VwP t vs (some y) nk w) : (y, .inr (31, [.ref t])) ∈ w := by
  unfold VwP at h
  rw [h]; simp
theorem ct_J46_iterator_v (g : Gv) (J : Jd g) {t : Nat} {vs : Option Nat} {n : Nat} {md : Nat} {es : Option Nat} {nk : Option Nat} {ns : List Nat} {key : Nat → Nat} {val : Nat → Nat} {l : Nat → Option Nat} {r : Nat → Option Nat} {p : Nat → Option Nat} {col : Nat → Bool} {lo : Nat → Nat} {hi : Nat → Nat} {root : Option Nat} {y : Nat} {w1 : va_W} {w2 : va_W} (hw1 : EntG g ns key val l r p col w1) (hw2 : VwP t vs (some y) nk w2) (hT : Tr ns key l r p lo hi root 128) : Ct g yJ46_iterator (ws_ yJ46_iterator cJ46_iterator 1 (some (.object "java/util/Iterator"))) 3 1 4 [.ref y] [[(t, .inr (27, [.null, va_rf vs, .null, va_rf root, .int (nI n), .int (nI md), va_rf es, va_rf nk, .null]))], w1, w2] (fun (rv_ : Option Value) (rL_ : List va_W) => ∃ (i : Nat) (e : Option Nat), rv_ = some (.ref i) ∧ rL_ = [[(t, .inr (27, [.null, va_rf vs, .null, va_rf root, .int (nI n), .int (nI md), va_rf es, va_rf nk, .null]))], w1, w2, [(i, .inr (34, [va_rf e, .null, .int (nI md), .ref t]))]] ∧ (Lf ns key 0 e)) noX := by
  refine Ct.of "java/util/TreeMap$EntrySet" [some (.ref y)] rfl (by decide) rfl (Nat.le_of_ble_eq_true rfl) rfl ?_
  intro κ B E tb
  refine g_new (q := 3) (kc2 := 0) (ks2 := 0) (fs := [.null, .null, .int (nI 0), .null]) B (ci := 34) in_J32 tyJ32_ok rfl dJ46_iterator_0 rfl q864 q865 q117 (nwJ32) (Nat.le_of_ble_eq_true rfl) (Nat.le_of_ble_eq_true rfl) (fun n0 => ?_)
  refine (show Go g κ 3 [some (.ref y)] [.ref n0] [[(t, .inr (27, [.null, va_rf vs, .null, va_rf root, .int (nI n), .int (nI md), va_rf es, va_rf nk, .null]))], w1, w2, [(n0, .inr (34, [.null, .null, .int (nI 0), .null]))]] 0 0 from ?_)
  refine g_dup (q := 4) B dJ46_iterator_3 rfl rfl ?_
  refine g_aload_n (q := 5) B dJ46_iterator_4 rfl rfl (rv_r _) ?_
  refine g_getM (q := 8) B (ci := 31) (k := 2) (j := 0) in_J46 rfl dJ46_iterator_5 rfl rfl (VwP.me hw2) (Nat.le_of_ble_eq_true rfl) q2656 rfl rfl ?_
  refine g_aload_n (q := 9) B dJ46_iterator_8 rfl rfl (rv_r _) ?_
  refine g_getM (q := 12) B (ci := 31) (k := 2) (j := 0) in_J46 rfl dJ46_iterator_9 rfl rfl (VwP.me hw2) (Nat.le_of_ble_eq_true rfl) q2656 rfl rfl ?_
  refine g_callV (q := 15) (is := [0, 0]) (kc2 := 0) (ks2 := 0) B [] (ct_J10_getFirstEntry g J (t := t) (vs := vs) (n := n) (md := md) (es := es) (nk := nk) (ns := ns) (key := key) (val := val) (l := l) (r := r) (p := p) (col := col) (lo := lo) (hi := hi) (root := root) hw1 (by first | assumption | omega | rfl)) dJ46_iterator_12 rfl (rc_at B (ci := 27) rfl (k := 0) rfl) rfl q866 q867 q868 q91 q869 rfl rfl moJ10_getFirstEntry rfl rfl (by decide) (by decide) (Nat.le_of_ble_eq_true rfl) (Nat.le_of_ble_eq_true rfl) (Nat.le_of_ble_eq_true rfl) (fun _ _ hx => noX_x hx) (fun v12 L1 hp12 => ?_)
  obtain ⟨e12, rfl, rfl, he_12⟩ := hp12
  refine (show Go g κ 15 [some (.ref y)] [va_rf e12, .ref t, .ref n0, .ref n0] [w2, [(n0, .inr (34, [.null, .null, .int (nI 0), .null]))], [(t, .inr (27, [.null, va_rf vs, .null, va_rf root, .int (nI n), .int (nI md), va_rf es, va_rf nk, .null]))], w1] 0 0 from ?_)
  refine g_callI (q := 18) (is := [2, 1]) (kc2 := 0) (ks2 := 0) B [.ref t, va_rf e12] (ct_J32_init g J (t := t) (vs := vs) (n := n) (md := md) (es := es) (nk := nk) (root := root) (i := n0) (nx := e12)  ) dJ46_iterator_15 rfl rfl q870 q871 q117 q872 rfl rfl moJ32_init rfl rfl (by decide) (by decide) (Nat.le_of_ble_eq_true rfl) (Nat.le_of_ble_eq_true rfl) (Nat.le_of_ble_eq_true rfl) (fun _ _ hx => noX_x hx) (fun v15 L1 hp15 => ?_)
  obtain ⟨rfl, rfl⟩ := hp15
  refine (show Go g κ 18 [some (.ref y)] [.ref n0] [w2, w1, [(t, .inr (27, [.null, va_rf vs, .null, va_rf root, .int (nI n), .int (nI md), va_rf es, va_rf nk, .null]))], [(n0, .inr (34, [va_rf e12, .null, .int (nI md), .ref t]))]] 0 0 from ?_)
  refine g_pk [2, 1, 0, 0] rfl rfl ?_
  refine (show Go g κ 18 [some (.ref y)] [.ref n0] [[(t, .inr (27, [.null, va_rf vs, .null, va_rf root, .int (nI n), .int (nI md), va_rf es, va_rf nk, .null]))], w1, w2, [(n0, .inr (34, [va_rf e12, .null, .int (nI md), .ref t]))]] 0 0 from ?_)
  exact g_aret B E dJ46_iterator_18 (by first | exact Or.inl ⟨_, rfl⟩ | exact Or.inr ⟨_, rfl⟩) (rv_r _) (⟨n0, e12, rfl, rfl, by first | assumption | omega | rfl | simp_all⟩)
theorem mojava_util_Map_entrySet___Ljava_util_Set_ : Mo ⟨"java/util/Map", "entrySet", "()Ljava/util/Set;"⟩ 0 := by
  refine ⟨by decide, by decide, by decide +kernel⟩
theorem mojava_util_Set_iterator___Ljava_util_Iterator_ : Mo ⟨"java/util/Set", "iterator", "()Ljava/util/Iterator;"⟩ 0 := by
  refine ⟨by decide, by decide, by decide +kernel⟩
theorem mojava_util_Iterator_hasNext___Z : Mo ⟨"java/util/Iterator", "hasNext", "()Z"⟩ 0 := by
  refine ⟨by decide, by decide, by decide +kernel⟩
theorem ct_J3_putAll (g : Gv) (J : Jd g) {b : Nat} {bvs : Option Nat} {brt : Option Nat} {bn : Nat} {bmd : Nat} {bes : Option Nat} {bnk : Option Nat} {t : Nat} {vs : Option Nat} {n : Nat} {md : Nat} {es : Option Nat} {nk : Option Nat} {ns : List Nat} {key : Nat → Nat} {val : Nat → Nat} {l : Nat → Option Nat} {r : Nat → Option Nat} {p : Nat → Option Nat} {col : Nat → Bool} {lo : Nat → Nat} {hi : Nat → Nat} {root : Option Nat} {w2 : va_W} {w3 : va_W} (hw2 : EntG g ns key val l r p col w2) (hw3 : VwP t vs es nk w3) (hT : Tr ns key l r p lo hi root 128) (hns : ns = []) : Ct g yJ3_putAll (ws_ yJ3_putAll cJ3_putAll 4 none) 5 2 5 [.ref b, .ref t] [[(b, .inr (27, [.null, va_rf bvs, .null, va_rf brt, .int (nI bn), .int (nI bmd), va_rf bes, va_rf bnk, .null]))], [(t, .inr (27, [.null, va_rf vs, .null, va_rf root, .int (nI n), .int (nI md), va_rf es, va_rf nk, .null]))], w2, w3] (fun (rv_ : Option Value) (rL_ : List va_W) => ∃ (y : Nat) (u3 : va_W), rv_ = none ∧ rL_ = [[(b, .inr (27, [.null, va_rf bvs, .null, va_rf brt, .int (nI bn), .int (nI bmd), va_rf bes, va_rf bnk, .null]))], [(t, .inr (27, [.null, va_rf vs, .null, va_rf root, .int (nI n), .int (nI md), .ref y, va_rf nk, .null]))], w2, u3] ∧ VwP t vs (some y) nk u3) noX := by
  refine Ct.of "java/util/AbstractMap" [some (.ref b), some (.ref t), none, none] rfl (by decide) rfl (Nat.le_of_ble_eq_true rfl) rfl ?_
  intro κ B E tb
  refine g_aload_n (q := 1) B dJ3_putAll_0 rfl rfl (rv_r _) ?_
  refine g_callF (q := 6) (is := [1, 2]) (kc2 := 1) (ks2 := 4) B [] (ct_J10_entrySet g J (t := t) (vs := vs) (n := n) (md := md) (es := es) (nk := nk) (root := root) hw3 ) dJ3_putAll_1 rfl (ci := 27) rfl (rc_at B (ci := 27) rfl (k := 1) rfl) q2716 q2645 q2647 q91 q2649 q2629 q2628 q2648 q2646 q2605 rfl rfl mojava_util_Map_entrySet___Ljava_util_Set_ rfl rfl (by decide) (by decide) (Nat.le_of_ble_eq_true rfl) (Nat.le_of_ble_eq_true rfl) (Nat.le_of_ble_eq_true rfl) (fun _ _ hx => noX_x hx) (fun v1 L1 hp1 => ?_)
  obtain ⟨e1, u1_1, rfl, rfl, hu1_1⟩ := hp1
  refine (show Go g κ 6 [some (.ref b), some (.ref t), none, none] [.ref e1] [[(b, .inr (27, [.null, va_rf bvs, .null, va_rf brt, .int (nI bn), .int (nI bmd), va_rf bes, va_rf bnk, .null]))], w2, [(t, .inr (27, [.null, va_rf vs, .null, va_rf root, .int (nI n), .int (nI md), .ref e1, va_rf nk, .null]))], u1_1] 1 4 from ?_)
  refine g_callF (q := 11) (is := [2, 1, 1]) (kc2 := 0) (ks2 := 0) B [] (ct_J46_iterator_v g J (t := t) (vs := vs) (n := n) (md := md) (es := some e1) (nk := nk) (ns := ns) (key := key) (val := val) (l := l) (r := r) (p := p) (col := col) (lo := lo) (hi := hi) (root := root) (y := e1) hw2 hu1_1 (by first | assumption | omega | rfl)) dJ3_putAll_6 rfl (ci := 31) rfl (rc_in B (ci := 31) rfl (k := 3) rfl ⟨_, VwP.me hu1_1⟩) q2718 q2236 q861 q145 q863 q2232 q2231 q862 q860 q2235 rfl rfl mojava_util_Set_iterator___Ljava_util_Iterator_ rfl rfl (by decide) (by decide) (Nat.le_of_ble_eq_true rfl) (Nat.le_of_ble_eq_true rfl) (Nat.le_of_ble_eq_true rfl) (fun _ _ hx => noX_x hx) (fun v6 L1 hp6 => ?_)
  obtain ⟨i6, e6, rfl, rfl, he_6⟩ := hp6
  refine (show Go g κ 11 [some (.ref b), some (.ref t), none, none] [.ref i6] [[(b, .inr (27, [.null, va_rf bvs, .null, va_rf brt, .int (nI bn), .int (nI bmd), va_rf bes, va_rf bnk, .null]))], [(t, .inr (27, [.null, va_rf vs, .null, va_rf root, .int (nI n), .int (nI md), .ref e1, va_rf nk, .null]))], w2, u1_1, [(i6, .inr (34, [va_rf e6, .null, .int (nI md), .ref t]))]] 0 0 from ?_)
  obtain rfl : e6 = none := by
    cases e6 with
    | none => rfl
    | some z => exact absurd (he_6.1 z rfl).1 (by rw [hns]; simp)
  refine (show Go g κ 11 [some (.ref b), some (.ref t), none, none] [.ref i6] [[(b, .inr (27, [.null, va_rf bvs, .null, va_rf brt, .int (nI bn), .int (nI bmd), va_rf bes, va_rf bnk, .null]))], [(t, .inr (27, [.null, va_rf vs, .null, va_rf root, .int (nI n), .int (nI md), .ref e1, va_rf nk, .null]))], w2, u1_1, [(i6, .inr (34, [.null, .null, .int (nI md), .ref t]))]] 0 0 from ?_)
  refine g_astore_n (q := 12) (lv2 := [some (.ref b), some (.ref t), some (.ref i6), none]) B dJ3_putAll_11 rfl (Nat.le_of_ble_eq_true rfl) (rv_r _) rfl ?_
  refine g_aload_n (q := 13) B dJ3_putAll_12 rfl rfl (rv_r _) ?_
  refine g_callF (q := 18) (is := [4]) (kc2 := 0) (ks2 := 0) B [] (ct_J31_hasNext_e g J (i := i6) (nx := none) (la := none) (md := md) (t := t)  ) dJ3_putAll_13 rfl (ci := 34) rfl (rc_at B (ci := 34) rfl (k := 4) rfl) q2720 q952 q954 q116 q956 q938 q937 q955 q953 q951 rfl rfl mojava_util_Iterator_hasNext___Z rfl rfl (by decide) (by decide) (Nat.le_of_ble_eq_true rfl) (Nat.le_of_ble_eq_true rfl) (Nat.le_of_ble_eq_true rfl) (fun _ _ hx => noX_x hx) (fun v13 L1 hp13 => ?_)
  obtain ⟨rfl, rfl⟩ := hp13
  refine (show Go g κ 18 [some (.ref b), some (.ref t), some (.ref i6), none] [.int (nI (if none.isSome = true then 1 else 0))] [[(b, .inr (27, [.null, va_rf bvs, .null, va_rf brt, .int (nI bn), .int (nI bmd), va_rf bes, va_rf bnk, .null]))], [(t, .inr (27, [.null, va_rf vs, .null, va_rf root, .int (nI n), .int (nI md), .ref e1, va_rf nk, .null]))], w2, u1_1, [(i6, .inr (34, [.null, .null, .int (nI md), .ref t]))]] 0 0 from ?_)
  refine g_if_eq (tgt := 51) (q := 21) B dJ3_putAll_18 rfl (by decide) (iff_true_intro (by decide)) (fun _ => ?_) (fun z => absurd trivial z)
  refine g_pk [0, 0, 0, 0] rfl rfl ?_
  refine (show Go g κ 51 [some (.ref b), some (.ref t), some (.ref i6), none] [] [[(b, .inr (27, [.null, va_rf bvs, .null, va_rf brt, .int (nI bn), .int (nI bmd), va_rf bes, va_rf bnk, .null]))], [(t, .inr (27, [.null, va_rf vs, .null, va_rf root, .int (nI n), .int (nI md), .ref e1, va_rf nk, .null]))], w2, u1_1] 0 0 from ?_)
  exact g_vret B E dJ3_putAll_51 (⟨e1, _, rfl, rfl, hu1_1⟩)
theorem ct_J10_comparator (g : Gv) (J : Jd g) {t : Nat} {vs : Option Nat} {n : Nat} {md : Nat} {es : Option Nat} {nk : Option Nat} {root : Option Nat} : Ct g yJ10_comparator (ws_ yJ10_comparator cJ10_comparator 1 (some (.object "java/util/Comparator"))) 0 0 0 [.ref t] [[(t, .inr (27, [.null, va_rf vs, .null, va_rf root, .int (nI n), .int (nI md), va_rf es, va_rf nk, .null]))]] (fun (rv_ : Option Value) (rL_ : List va_W) => rv_ = some (.null) ∧ rL_ = [[(t, .inr (27, [.null, va_rf vs, .null, va_rf root, .int (nI n), .int (nI md), va_rf es, va_rf nk, .null]))]]) noX := by
  refine Ct.of "java/util/TreeMap" [some (.ref t)] rfl (by decide) rfl (Nat.le_of_ble_eq_true rfl) rfl ?_
  intro κ B E tb
  refine g_aload_n (q := 1) B dJ10_comparator_0 rfl rfl (rv_r _) ?_
  refine g_get (q := 4) B (ci := 27) (k := 0) (j := 2) in_J10 rfl dJ10_comparator_1 rfl rfl (Nat.le_of_ble_eq_true rfl) q1870 rfl rfl ?_
  exact g_aret B E dJ10_comparator_4 (by first | exact Or.inl ⟨_, rfl⟩ | exact Or.inr ⟨_, rfl⟩) rv_n (⟨rfl, rfl⟩)
theorem ct_J17_equals (g : Gv) (J : Jd g)  : Ct g yJ17_equals (ws_ yJ17_equals cJ17_equals 2 (some .boolean)) 1 0 0 [.null, .null] [] (fun (rv_ : Option Value) (rL_ : List va_W) => rv_ = some (.int (nI 1)) ∧ rL_ = []) noX := by
  refine Ct.of "java/util/Objects" [some (.null), some (.null)] rfl (by decide) rfl (Nat.le_of_ble_eq_true rfl) rfl ?_
  intro κ B E tb
  refine g_aload_n (q := 1) B dJ17_equals_0 rfl rfl rv_n ?_
  refine g_aload_n (q := 2) B dJ17_equals_1 rfl rfl rv_n ?_
  refine g_acmp_eq (rx := none) (ry := none) (tgt := 17) (q := 5) B dJ17_equals_2 rfl (by decide) rfl rfl (iff_true_intro (rfl)) (fun _ => ?_) (fun z => absurd trivial z)
  refine g_iconst (v := nI 1) (q := 18) B dJ17_equals_17 rfl (by decide) ?_
  refine g_goto (tgt := 22) B dJ17_equals_18 (by decide) ?_
  exact g_zret B E dJ17_equals_22 (by decide) (⟨rfl, rfl⟩)
theorem ct_J10_size_o (g : Gv) (J : Jd g) {t : Nat} {vs : Option Nat} {n : Nat} {md : Nat} {es : Option Nat} {nk : Option Nat} {root : Option Nat} : Ct g yJ10_size (ws_ yJ10_size cJ10_size 1 (some .int)) 0 0 0 [.ref t] [[(t, .inr (27, [.null, va_rf vs, .null, va_rf root, .int (nI n), .int (nI md), va_rf es, va_rf nk, .null]))]] (fun (rv_ : Option Value) (rL_ : List va_W) => rv_ = some (.int (nI n)) ∧ rL_ = [[(t, .inr (27, [.null, va_rf vs, .null, va_rf root, .int (nI n), .int (nI md), va_rf es, va_rf nk, .null]))]]) noX := by
  refine Ct.of "java/util/TreeMap" [some (.ref t)] rfl (by decide) rfl (Nat.le_of_ble_eq_true rfl) rfl ?_
  intro κ B E tb
  refine g_aload_n (q := 1) B dJ10_size_0 rfl rfl (rv_r _) ?_
  refine g_get (q := 4) B (ci := 27) (k := 0) (j := 4) in_J10 rfl dJ10_size_1 rfl rfl (Nat.le_of_ble_eq_true rfl) q1872 rfl rfl ?_
  exact g_iret B E dJ10_size_4 (⟨rfl, rfl⟩)
theorem pa_T1 {k1 m1 : Nat}   (qn : k1 < 128) : Tr [m1] (fun d => if d = m1 then k1 else 0) (fun d => if d = m1 then none else none) (fun d => if d = m1 then none else none) (fun d => if d = m1 then none else none) (fun d => if d = m1 then 0 else 0) (fun d => if d = m1 then 128 else 0) (some m1) 128 := by
  refine ⟨?_, ?_, ?_, ?_, ?_, ?_, ?_, ?_, ?_, ?_⟩ <;> grind
theorem pa_E1 {g : Gv} {k1 v1 m1 : Nat}  : EntG g [m1] (fun d => if d = m1 then k1 else 0) (fun d => if d = m1 then v1 else 0) (fun d => if d = m1 then none else none) (fun d => if d = m1 then none else none) (fun d => if d = m1 then none else none) (fun d => if d = m1 then true else true) ([[(m1, .inr (28, [.ref (kI g k1), .ref v1, .null, .null, .null, .int (nI 1)]))]] : List va_W).flatten := by
  refine ⟨by simp [va_rf], ?_⟩
  simp [va_rf, va_rf]
theorem pa_F1 {ns : List Nat} {key val : Nat → Nat} {f : Nat → Option Nat} {a1 m1 : Nat}  (hF : MF ns key val f) (c1 : Lf ns key (0) (some a1)) (ce : Lf ns key (key a1 + 1) none) : MF [m1] (fun d => if d = m1 then key a1 else 0) (fun d => if d = m1 then val a1 else 0) f := by
  have y1 := hF.1 a1 (c1.1 a1 rfl).1
  refine ⟨fun d hd => ?_, fun k v e => ?_⟩
  · grind
  · obtain ⟨b, hb, rfl⟩ := hF.2 k v e
    rcases Nat.lt_or_ge (key b) (key a1 + 1) with z1 | z1
    · have w1 := c1.1 a1 rfl
      have : key b = key a1 := by have := w1.2.2 b hb (by omega); omega
      exact ⟨m1, by simp, by simp [hb]; omega⟩
    have := ce.2 rfl b hb
    omega
theorem pa_T2 {k1 m1 k2 m2 : Nat} (em1m2 : m1 ≠ m2) (q1 : k1 < k2) (qn : k2 < 128) : Tr [m1, m2] (fun d => if d = m1 then k1 else if d = m2 then k2 else 0) (fun d => if d = m1 then none else if d = m2 then none else none) (fun d => if d = m1 then (some m2) else if d = m2 then none else none) (fun d => if d = m1 then none else if d = m2 then (some m1) else none) (fun d => if d = m1 then 0 else if d = m2 then k1 + 1 else 0) (fun d => if d = m1 then 128 else if d = m2 then 128 else 0) (some m1) 128 := by
  refine ⟨?_, ?_, ?_, ?_, ?_, ?_, ?_, ?_, ?_, ?_⟩ <;> grind
theorem pa_E2 {g : Gv} {k1 v1 m1 k2 v2 m2 : Nat} (em1m2 : m1 ≠ m2) : EntG g [m1, m2] (fun d => if d = m1 then k1 else if d = m2 then k2 else 0) (fun d => if d = m1 then v1 else if d = m2 then v2 else 0) (fun d => if d = m1 then none else if d = m2 then none else none) (fun d => if d = m1 then (some m2) else if d = m2 then none else none) (fun d => if d = m1 then none else if d = m2 then (some m1) else none) (fun d => if d = m1 then true else if d = m2 then false else true) ([[(m1, .inr (28, [.ref (kI g k1), .ref v1, .null, .ref m2, .null, .int (nI 1)]))], [(m2, .inr (28, [.ref (kI g k2), .ref v2, .null, .null, .ref m1, .int (nI 0)]))]] : List va_W).flatten := by
  refine ⟨by simp [em1m2], ?_⟩
  simp [va_rf, em1m2, Ne.symm em1m2]
theorem pa_F2 {ns : List Nat} {key val : Nat → Nat} {f : Nat → Option Nat} {a1 a2 m1 m2 : Nat} (em1m2 : m1 ≠ m2) (hF : MF ns key val f) (c1 : Lf ns key (0) (some a1)) (c2 : Lf ns key (key a1 + 1) (some a2)) (ce : Lf ns key (key a2 + 1) none) : MF [m1, m2] (fun d => if d = m1 then key a1 else if d = m2 then key a2 else 0) (fun d => if d = m1 then val a1 else if d = m2 then val a2 else 0) f := by
  have y1 := hF.1 a1 (c1.1 a1 rfl).1
  have y2 := hF.1 a2 (c2.1 a2 rfl).1
  refine ⟨fun d hd => ?_, fun k v e => ?_⟩
  · grind
  · obtain ⟨b, hb, rfl⟩ := hF.2 k v e
    rcases Nat.lt_or_ge (key b) (key a1 + 1) with z1 | z1
    · have w1 := c1.1 a1 rfl
      have : key b = key a1 := by have := w1.2.2 b hb (by omega); omega
      exact ⟨m1, by simp, by simp [em1m2, Ne.symm em1m2]; omega⟩
    rcases Nat.lt_or_ge (key b) (key a2 + 1) with z2 | z2
    · have w2 := c2.1 a2 rfl
      have : key b = key a2 := by have := w2.2.2 b hb (by omega); omega
      exact ⟨m2, by simp, by simp [em1m2, Ne.symm em1m2]; omega⟩
    have := ce.2 rfl b hb
    omega
theorem pa_T3 {k1 m1 k2 m2 k3 m3 : Nat} (em1m2 : m1 ≠ m2) (em1m3 : m1 ≠ m3) (em2m3 : m2 ≠ m3) (q1 : k1 < k2) (q2 : k2 < k3) (qn : k3 < 128) : Tr [m1, m2, m3] (fun d => if d = m1 then k1 else if d = m2 then k2 else if d = m3 then k3 else 0) (fun d => if d = m1 then none else if d = m2 then (some m1) else if d = m3 then none else none) (fun d => if d = m1 then none else if d = m2 then (some m3) else if d = m3 then none else none) (fun d => if d = m1 then (some m2) else if d = m2 then none else if d = m3 then (some m2) else none) (fun d => if d = m1 then 0 else if d = m2 then 0 else if d = m3 then k2 + 1 else 0) (fun d => if d = m1 then k2 else if d = m2 then 128 else if d = m3 then 128 else 0) (some m2) 128 := by
  refine ⟨?_, ?_, ?_, ?_, ?_, ?_, ?_, ?_, ?_, ?_⟩ <;> grind
theorem pa_E3 {g : Gv} {k1 v1 m1 k2 v2 m2 k3 v3 m3 : Nat} (em1m2 : m1 ≠ m2) (em1m3 : m1 ≠ m3) (em2m3 : m2 ≠ m3) : EntG g [m1, m2, m3] (fun d => if d = m1 then k1 else if d = m2 then k2 else if d = m3 then k3 else 0) (fun d => if d = m1 then v1 else if d = m2 then v2 else if d = m3 then v3 else 0) (fun d => if d = m1 then none else if d = m2 then (some m1) else if d = m3 then none else none) (fun d => if d = m1 then none else if d = m2 then (some m3) else if d = m3 then none else none) (fun d => if d = m1 then (some m2) else if d = m2 then none else if d = m3 then (some m2) else none) (fun d => if d = m1 then true else if d = m2 then true else if d = m3 then true else true) ([[(m1, .inr (28, [.ref (kI g k1), .ref v1, .null, .null, .ref m2, .int (nI 1)]))], [(m2, .inr (28, [.ref (kI g k2), .ref v2, .ref m1, .ref m3, .null, .int (nI 1)]))], [(m3, .inr (28, [.ref (kI g k3), .ref v3, .null, .null, .ref m2, .int (nI 1)]))]] : List va_W).flatten := by
  refine ⟨by simp [em1m2, em1m3, em2m3], ?_⟩
  simp [va_rf, em1m2, em1m3, em2m3, Ne.symm em1m2, Ne.symm em1m3, Ne.symm em2m3]
theorem pa_F3 {ns : List Nat} {key val : Nat → Nat} {f : Nat → Option Nat} {a1 a2 a3 m1 m2 m3 : Nat} (em1m2 : m1 ≠ m2) (em1m3 : m1 ≠ m3) (em2m3 : m2 ≠ m3) (hF : MF ns key val f) (c1 : Lf ns key (0) (some a1)) (c2 : Lf ns key (key a1 + 1) (some a2)) (c3 : Lf ns key (key a2 + 1) (some a3)) (ce : Lf ns key (key a3 + 1) none) : MF [m1, m2, m3] (fun d => if d = m1 then key a1 else if d = m2 then key a2 else if d = m3 then key a3 else 0) (fun d => if d = m1 then val a1 else if d = m2 then val a2 else if d = m3 then val a3 else 0) f := by
  have y1 := hF.1 a1 (c1.1 a1 rfl).1
  have y2 := hF.1 a2 (c2.1 a2 rfl).1
  have y3 := hF.1 a3 (c3.1 a3 rfl).1
  refine ⟨fun d hd => ?_, fun k v e => ?_⟩
  · grind
  · obtain ⟨b, hb, rfl⟩ := hF.2 k v e
    rcases Nat.lt_or_ge (key b) (key a1 + 1) with z1 | z1
    · have w1 := c1.1 a1 rfl
      have : key b = key a1 := by have := w1.2.2 b hb (by omega); omega
      exact ⟨m1, by simp, by simp [em1m2, em1m3, em2m3, Ne.symm em1m2, Ne.symm em1m3, Ne.symm em2m3]; omega⟩
    rcases Nat.lt_or_ge (key b) (key a2 + 1) with z2 | z2
    · have w2 := c2.1 a2 rfl
      have : key b = key a2 := by have := w2.2.2 b hb (by omega); omega
      exact ⟨m2, by simp, by simp [em1m2, em1m3, em2m3, Ne.symm em1m2, Ne.symm em1m3, Ne.symm em2m3]; omega⟩
    rcases Nat.lt_or_ge (key b) (key a3 + 1) with z3 | z3
    · have w3 := c3.1 a3 rfl
      have : key b = key a3 := by have := w3.2.2 b hb (by omega); omega
      exact ⟨m3, by simp, by simp [em1m2, em1m3, em2m3, Ne.symm em1m2, Ne.symm em1m3, Ne.symm em2m3]; omega⟩
    have := ce.2 rfl b hb
    omega
theorem pa_T4 {k1 m1 k2 m2 k3 m3 k4 m4 : Nat} (em1m2 : m1 ≠ m2) (em1m3 : m1 ≠ m3) (em1m4 : m1 ≠ m4) (em2m3 : m2 ≠ m3) (em2m4 : m2 ≠ m4) (em3m4 : m3 ≠ m4) (q1 : k1 < k2) (q2 : k2 < k3) (q3 : k3 < k4) (qn : k4 < 128) : Tr [m1, m2, m3, m4] (fun d => if d = m1 then k1 else if d = m2 then k2 else if d = m3 then k3 else if d = m4 then k4 else 0) (fun d => if d = m1 then none else if d = m2 then (some m1) else if d = m3 then none else if d = m4 then none else none) (fun d => if d = m1 then none else if d = m2 then (some m3) else if d = m3 then (some m4) else if d = m4 then none else none) (fun d => if d = m1 then (some m2) else if d = m2 then none else if d = m3 then (some m2) else if d = m4 then (some m3) else none) (fun d => if d = m1 then 0 else if d = m2 then 0 else if d = m3 then k2 + 1 else if d = m4 then k3 + 1 else 0) (fun d => if d = m1 then k2 else if d = m2 then 128 else if d = m3 then 128 else if d = m4 then 128 else 0) (some m2) 128 := by
  refine ⟨?_, ?_, ?_, ?_, ?_, ?_, ?_, ?_, ?_, ?_⟩ <;> grind
theorem pa_E4 {g : Gv} {k1 v1 m1 k2 v2 m2 k3 v3 m3 k4 v4 m4 : Nat} (em1m2 : m1 ≠ m2) (em1m3 : m1 ≠ m3) (em1m4 : m1 ≠ m4) (em2m3 : m2 ≠ m3) (em2m4 : m2 ≠ m4) (em3m4 : m3 ≠ m4) : EntG g [m1, m2, m3, m4] (fun d => if d = m1 then k1 else if d = m2 then k2 else if d = m3 then k3 else if d = m4 then k4 else 0) (fun d => if d = m1 then v1 else if d = m2 then v2 else if d = m3 then v3 else if d = m4 then v4 else 0) (fun d => if d = m1 then none else if d = m2 then (some m1) else if d = m3 then none else if d = m4 then none else none) (fun d => if d = m1 then none else if d = m2 then (some m3) else if d = m3 then (some m4) else if d = m4 then none else none) (fun d => if d = m1 then (some m2) else if d = m2 then none else if d = m3 then (some m2) else if d = m4 then (some m3) else none) (fun d => if d = m1 then true else if d = m2 then true else if d = m3 then true else if d = m4 then false else true) ([[(m1, .inr (28, [.ref (kI g k1), .ref v1, .null, .null, .ref m2, .int (nI 1)]))], [(m2, .inr (28, [.ref (kI g k2), .ref v2, .ref m1, .ref m3, .null, .int (nI 1)]))], [(m3, .inr (28, [.ref (kI g k3), .ref v3, .null, .ref m4, .ref m2, .int (nI 1)]))], [(m4, .inr (28, [.ref (kI g k4), .ref v4, .null, .null, .ref m3, .int (nI 0)]))]] : List va_W).flatten := by
  refine ⟨by simp [em1m2, em1m3, em1m4, em2m3, em2m4, em3m4], ?_⟩
  simp [va_rf, em1m2, em1m3, em1m4, em2m3, em2m4, em3m4, Ne.symm em1m2, Ne.symm em1m3, Ne.symm em1m4, Ne.symm em2m3, Ne.symm em2m4, Ne.symm em3m4]
theorem pa_F4 {ns : List Nat} {key val : Nat → Nat} {f : Nat → Option Nat} {a1 a2 a3 a4 m1 m2 m3 m4 : Nat} (em1m2 : m1 ≠ m2) (em1m3 : m1 ≠ m3) (em1m4 : m1 ≠ m4) (em2m3 : m2 ≠ m3) (em2m4 : m2 ≠ m4) (em3m4 : m3 ≠ m4) (hF : MF ns key val f) (c1 : Lf ns key (0) (some a1)) (c2 : Lf ns key (key a1 + 1) (some a2)) (c3 : Lf ns key (key a2 + 1) (some a3)) (c4 : Lf ns key (key a3 + 1) (some a4)) (ce : Lf ns key (key a4 + 1) none) : MF [m1, m2, m3, m4] (fun d => if d = m1 then key a1 else if d = m2 then key a2 else if d = m3 then key a3 else if d = m4 then key a4 else 0) (fun d => if d = m1 then val a1 else if d = m2 then val a2 else if d = m3 then val a3 else if d = m4 then val a4 else 0) f := by
  have y1 := hF.1 a1 (c1.1 a1 rfl).1
  have y2 := hF.1 a2 (c2.1 a2 rfl).1
  have y3 := hF.1 a3 (c3.1 a3 rfl).1
  have y4 := hF.1 a4 (c4.1 a4 rfl).1
  refine ⟨fun d hd => ?_, fun k v e => ?_⟩
  · grind
  · obtain ⟨b, hb, rfl⟩ := hF.2 k v e
    rcases Nat.lt_or_ge (key b) (key a1 + 1) with z1 | z1
    · have w1 := c1.1 a1 rfl
      have : key b = key a1 := by have := w1.2.2 b hb (by omega); omega
      exact ⟨m1, by simp, by simp [em1m2, em1m3, em1m4, em2m3, em2m4, em3m4, Ne.symm em1m2, Ne.symm em1m3, Ne.symm em1m4, Ne.symm em2m3, Ne.symm em2m4, Ne.symm em3m4]; omega⟩
    rcases Nat.lt_or_ge (key b) (key a2 + 1) with z2 | z2
    · have w2 := c2.1 a2 rfl
      have : key b = key a2 := by have := w2.2.2 b hb (by omega); omega
      exact ⟨m2, by simp, by simp [em1m2, em1m3, em1m4, em2m3, em2m4, em3m4, Ne.symm em1m2, Ne.symm em1m3, Ne.symm em1m4, Ne.symm em2m3, Ne.symm em2m4, Ne.symm em3m4]; omega⟩
    rcases Nat.lt_or_ge (key b) (key a3 + 1) with z3 | z3
    · have w3 := c3.1 a3 rfl
      have : key b = key a3 := by have := w3.2.2 b hb (by omega); omega
      exact ⟨m3, by simp, by simp [em1m2, em1m3, em1m4, em2m3, em2m4, em3m4, Ne.symm em1m2, Ne.symm em1m3, Ne.symm em1m4, Ne.symm em2m3, Ne.symm em2m4, Ne.symm em3m4]; omega⟩
    rcases Nat.lt_or_ge (key b) (key a4 + 1) with z4 | z4
    · have w4 := c4.1 a4 rfl
      have : key b = key a4 := by have := w4.2.2 b hb (by omega); omega
      exact ⟨m4, by simp, by simp [em1m2, em1m3, em1m4, em2m3, em2m4, em3m4, Ne.symm em1m2, Ne.symm em1m3, Ne.symm em1m4, Ne.symm em2m3, Ne.symm em2m4, Ne.symm em3m4]; omega⟩
    have := ce.2 rfl b hb
    omega
theorem mojava_util_Map_size___I : Mo ⟨"java/util/Map", "size", "()I"⟩ 0 := by
  refine ⟨by decide, by decide, by decide +kernel⟩
theorem moJ3_putAll : Mo yJ3_putAll 1 := by
  refine ⟨by decide, by decide, by decide +kernel⟩
theorem mojava_util_SortedMap_comparator___Ljava_util_Comparator_ : Mo ⟨"java/util/SortedMap", "comparator", "()Ljava/util/Comparator;"⟩ 0 := by
  refine ⟨by decide, by decide, by decide +kernel⟩
theorem moJ17_equals : Mo yJ17_equals 2 := by
  refine ⟨by decide, by decide, by decide +kernel⟩
theorem moJ10_buildFromSorted : Mo yJ10_buildFromSorted 4 := by
  refine ⟨by decide, by decide, by decide +kernel⟩
theorem ct_J10_putAll (g : Gv) (J : Jd g) {b : Nat} {bmd : Nat} {t : Nat} {f : Nat → Option Nat} {n : Nat} {md : Nat} {w0 : va_W} {w1 : va_W} (hw0 : MapP g b (fun _ => none) 0 bmd w0) (hw1 : MapP g t f n md w1) (hn4 : n ≤ 4) : Ct g yJ10_putAll (wsW_ yJ10_putAll cJ10_putAll 4 none [(54, 72, 75, 46), (54, 72, 75, 48)]) 11 (n + 2) (6 * n + 5) [.ref b, .ref t] [w0, w1] (fun (rv_ : Option Value) (rL_ : List va_W) => ∃ (md2 : Nat) (u0 : va_W) (u1 : va_W), rv_ = none ∧ rL_ = [u0, u1] ∧ MapP g b f n md2 u0 ∧ MapP g t f n md u1) noX := by
  refine Ct.ofW "java/util/TreeMap" [some (.ref b), some (.ref t), none, none] rfl (by decide) rfl (Nat.le_of_ble_eq_true rfl) rfl ?_
  intro κ B E tb
  obtain ⟨vsb, esb, nkb, nsb, keyb, valb, lb, rb, pb, colb, lob, hib, rootb, web, wvb, hTb, hnb, hFb, hweb, hwvb, rfl⟩ := hw0
  refine g_open 0 rfl rfl rfl ?_
  refine (show Go g κ 0 [some (.ref b), some (.ref t), none, none] [] [w1, [(b, .inr (27, [.null, va_rf vsb, .null, va_rf rootb, .int (nI 0), .int (nI bmd), va_rf esb, va_rf nkb, .null]))], web, wvb] (n + 2) (6 * n + 5) from ?_)
  have hbe : nsb = [] := List.length_eq_zero_iff.mp hnb.symm
  subst hbe
  have hbr := tr_e hTb
  subst hbr
  refine g_pk [0, 0, 1] rfl rfl ?_
  refine (show Go g κ 0 [some (.ref b), some (.ref t), none, none] [] [w1, [(b, .inr (27, [.null, va_rf vsb, .null, .null, .int (nI 0), .int (nI bmd), va_rf esb, va_rf nkb, .null]))], wvb] (n + 2) (6 * n + 5) from ?_)
  obtain ⟨vs, es, nk, ns, key, val, l, r, p, col, lo, hi, root, we, wv, hT, hn, hF, hwe, hwv, rfl⟩ := hw1
  refine g_open 0 rfl rfl rfl ?_
  refine (show Go g κ 0 [some (.ref b), some (.ref t), none, none] [] [[(b, .inr (27, [.null, va_rf vsb, .null, .null, .int (nI 0), .int (nI bmd), va_rf esb, va_rf nkb, .null]))], wvb, [(t, .inr (27, [.null, va_rf vs, .null, va_rf root, .int (nI n), .int (nI md), va_rf es, va_rf nk, .null]))], we, wv] (n + 2) (6 * n + 5) from ?_)
  refine g_aload_n (q := 1) B dJ10_putAll_0 rfl rfl (rv_r _) ?_
  refine g_callF (q := 6) (is := [2]) (kc2 := n + 2) (ks2 := 6 * n + 5) B [] (ct_J10_size_o g J (t := t) (vs := vs) (n := n) (md := md) (es := es) (nk := nk) (root := root)  ) dJ10_putAll_1 rfl (ci := 27) rfl (rc_at B (ci := 27) rfl (k := 2) rfl) q2596 q2606 q2608 q91 q2610 q2598 q2597 q2609 q2607 q2605 rfl rfl mojava_util_Map_size___I rfl rfl (by decide) (by decide) (Nat.le_of_ble_eq_true rfl) (by omega) (by omega) (fun _ _ hx => noX_x hx) (fun v1 L1 hp1 => ?_)
  obtain ⟨rfl, rfl⟩ := hp1
  refine (show Go g κ 6 [some (.ref b), some (.ref t), none, none] [.int (nI n)] [[(b, .inr (27, [.null, va_rf vsb, .null, .null, .int (nI 0), .int (nI bmd), va_rf esb, va_rf nkb, .null]))], wvb, we, wv, [(t, .inr (27, [.null, va_rf vs, .null, va_rf root, .int (nI n), .int (nI md), va_rf es, va_rf nk, .null]))]] (n + 2) (6 * n + 5) from ?_)
  have hnd := hwe.1
  have hkM := fun a (ha : a ∈ ns) => tr_k hT ha
  have hnc : n = 0 ∨ n = 1 ∨ n = 2 ∨ n = 3 ∨ n = 4 := by omega
  rcases hnc with h0 | h1 | h2 | h3 | h4
  · skip
    subst h0
    refine (show Go g κ 6 [some (.ref b), some (.ref t), none, none] [.int (nI 0)] [[(b, .inr (27, [.null, va_rf vsb, .null, .null, .int (nI 0), .int (nI bmd), va_rf esb, va_rf nkb, .null]))], wvb, we, wv, [(t, .inr (27, [.null, va_rf vs, .null, va_rf root, .int (nI 0), .int (nI md), va_rf es, va_rf nk, .null]))]] 2 5 from ?_)
    have hns : ns = [] := List.length_eq_zero_iff.mp hn.symm
    refine g_istore_n (q := 7) (lv2 := [some (.ref b), some (.ref t), some (.int (nI 0)), none]) B dJ10_putAll_6 rfl (Nat.le_of_ble_eq_true rfl) rfl ?_
    refine g_aload_n (q := 8) B dJ10_putAll_7 rfl rfl (rv_r _) ?_
    refine g_get (q := 11) B (ci := 27) (k := 0) (j := 4) in_J10 rfl dJ10_putAll_8 rfl rfl (Nat.le_of_ble_eq_true rfl) q1872 rfl rfl ?_
    refine g_if_ne (tgt := 77) (q := 14) B dJ10_putAll_11 rfl (by decide) (iff_false_intro (by decide)) (fun z => z.elim) (fun _ => ?_)
    refine g_iload_n (q := 15) B dJ10_putAll_14 rfl rfl ?_
    refine g_if_eq (tgt := 77) (q := 18) B dJ10_putAll_15 rfl (by decide) (iff_true_intro (by decide)) (fun _ => ?_) (fun z => absurd trivial z)
    refine g_aload_n (q := 78) B dJ10_putAll_77 rfl rfl (rv_r _) ?_
    refine g_aload_n (q := 79) B dJ10_putAll_78 rfl rfl (rv_r _) ?_
    refine g_callSU (q := 82) (is := [0, 3, 1, 1]) (kc2 := 0) (ks2 := 0) B [.ref t] (ct_J3_putAll g J (b := b) (bvs := vsb) (brt := none) (bn := 0) (bmd := bmd) (bes := esb) (bnk := nkb) (t := t) (vs := vs) (n := 0) (md := md) (es := es) (nk := nk) (ns := ns) (key := key) (val := val) (l := l) (r := r) (p := p) (col := col) (lo := lo) (hi := hi) (root := root) hwe hwv (by first | assumption | omega | rfl) (by first | assumption | omega | rfl)) dJ10_putAll_79 rfl (ci := 27) rfl (rc_at B (ci := 27) rfl (k := 0) rfl) (by decide) q2712 q3664 q1893 q2713 q82 q2714 rfl rfl moJ3_putAll rfl rfl (by decide) (by decide) (Nat.le_of_ble_eq_true rfl) (Nat.le_of_ble_eq_true rfl) (Nat.le_of_ble_eq_true rfl) (fun _ _ hx => noX_x hx) (fun v79 L1 hp79 => ?_)
    obtain ⟨y79, u3_79, rfl, rfl, hu3_79⟩ := hp79
    refine (show Go g κ 82 [some (.ref b), some (.ref t), some (.int (nI 0)), none] [] [wvb, [(b, .inr (27, [.null, va_rf vsb, .null, .null, .int (nI 0), .int (nI bmd), va_rf esb, va_rf nkb, .null]))], [(t, .inr (27, [.null, va_rf vs, .null, va_rf root, .int (nI 0), .int (nI md), .ref y79, va_rf nk, .null]))], we, u3_79] 0 0 from ?_)
    obtain ⟨wc_1, ewc_1⟩ : ∃ w : va_W, w = ([[(t, .inr (27, [.null, va_rf vs, .null, va_rf root, .int (nI 0), .int (nI md), .ref y79, va_rf nk, .null]))], we, u3_79] : List va_W).flatten := ⟨_, rfl⟩
    have hwc_1 : MapP g t f 0 md wc_1 := by
      rw [ewc_1]
      exact ⟨vs, some y79, nk, ns, key, val, l, r, p, col, lo, hi, root, _, _, hT, hn, hF, hwe, hu3_79, rfl⟩
    refine g_close (w := wc_1) [2, 2, 2] rfl ewc_1 rfl ?_
    refine (show Go g κ 82 [some (.ref b), some (.ref t), some (.int (nI 0)), none] [] [wvb, [(b, .inr (27, [.null, va_rf vsb, .null, .null, .int (nI 0), .int (nI bmd), va_rf esb, va_rf nkb, .null]))], wc_1] 0 0 from ?_)
    obtain ⟨wc_2, ewc_2⟩ : ∃ w : va_W, w = ([[(b, .inr (27, [.null, va_rf vsb, .null, .null, .int (nI 0), .int (nI bmd), va_rf esb, va_rf nkb, .null]))], wvb] : List va_W).flatten := ⟨_, rfl⟩
    have hwc_2 : MapP g b f 0 bmd wc_2 := by
      rw [ewc_2]
      exact ⟨vsb, esb, nkb, [], fun _ => 0, fun _ => 0, fun _ => none, fun _ => none, fun _ => none, fun _ => true, fun _ => 0, fun _ => 0, none, [], _, tr_nil, rfl, ⟨fun a h => absurd h (by simp), fun k v e => by obtain ⟨a, ha, _⟩ := hF.2 k v e; rw [hns] at ha; exact absurd ha (by simp)⟩, ⟨List.nodup_nil, rfl⟩, hwvb, rfl⟩
    refine g_close (w := wc_2) [1, 0] rfl ewc_2 rfl ?_
    refine (show Go g κ 82 [some (.ref b), some (.ref t), some (.int (nI 0)), none] [] [wc_1, wc_2] 0 0 from ?_)
    refine g_pk [1, 0] rfl rfl ?_
    refine (show Go g κ 82 [some (.ref b), some (.ref t), some (.int (nI 0)), none] [] [wc_2, wc_1] 0 0 from ?_)
    exact g_vret B E dJ10_putAll_82 (⟨_, _, _, rfl, rfl, hwc_2, hwc_1⟩)
  · skip
    subst h1
    refine (show Go g κ 6 [some (.ref b), some (.ref t), none, none] [.int (nI 1)] [[(b, .inr (27, [.null, va_rf vsb, .null, .null, .int (nI 0), .int (nI bmd), va_rf esb, va_rf nkb, .null]))], wvb, we, wv, [(t, .inr (27, [.null, va_rf vs, .null, va_rf root, .int (nI 1), .int (nI md), va_rf es, va_rf nk, .null]))]] 3 11 from ?_)
    obtain ⟨a1, ch1, r1⟩ := lf_step (j := 0) (c := 0) hkM hT.1 hnd (by rw [lf_all]; omega)
    have che := lf_stop hkM hT.1 hnd r1
    refine g_istore_n (q := 7) (lv2 := [some (.ref b), some (.ref t), some (.int (nI 1)), none]) B dJ10_putAll_6 rfl (Nat.le_of_ble_eq_true rfl) rfl ?_
    refine g_aload_n (q := 8) B dJ10_putAll_7 rfl rfl (rv_r _) ?_
    refine g_get (q := 11) B (ci := 27) (k := 0) (j := 4) in_J10 rfl dJ10_putAll_8 rfl rfl (Nat.le_of_ble_eq_true rfl) q1872 rfl rfl ?_
    refine g_if_ne (tgt := 77) (q := 14) B dJ10_putAll_11 rfl (by decide) (iff_false_intro (by decide)) (fun z => z.elim) (fun _ => ?_)
    refine g_iload_n (q := 15) B dJ10_putAll_14 rfl rfl ?_
    refine g_if_eq (tgt := 77) (q := 18) B dJ10_putAll_15 rfl (by decide) (iff_false_intro (by decide)) (fun z => z.elim) (fun _ => ?_)
    refine g_aload_n (q := 19) B dJ10_putAll_18 rfl rfl (rv_r _) ?_
    refine g_instR (q := 22) B (rc_at B (ci := 27) rfl (k := 4) rfl) dJ10_putAll_19 rfl q2611 q2616 ?_
    refine g_if_eq (tgt := 77) (q := 25) B dJ10_putAll_22 rfl (by decide) (iff_false_intro (by decide)) (fun z => z.elim) (fun _ => ?_)
    refine g_aload_n (q := 26) B dJ10_putAll_25 rfl rfl (rv_r _) ?_
    refine g_get (q := 29) B (ci := 27) (k := 0) (j := 2) in_J10 rfl dJ10_putAll_26 rfl rfl (Nat.le_of_ble_eq_true rfl) q1870 rfl rfl ?_
    refine g_aload_n (q := 30) B dJ10_putAll_29 rfl rfl (rv_r _) ?_
    refine g_castR (q := 33) B (rc_at B (ci := 27) rfl (k := 4) rfl) dJ10_putAll_30 rfl q2611 q2616 ?_
    refine g_callF (q := 38) (is := [4]) (kc2 := 3) (ks2 := 11) B [] (ct_J10_comparator g J (t := t) (vs := vs) (n := 1) (md := md) (es := es) (nk := nk) (root := root)  ) dJ10_putAll_33 rfl (ci := 27) rfl (rc_at B (ci := 27) rfl (k := 4) rfl) q2613 q2617 q2619 q91 q2621 q2615 q2614 q2620 q2618 q2616 rfl rfl mojava_util_SortedMap_comparator___Ljava_util_Comparator_ rfl rfl (by decide) (by decide) (Nat.le_of_ble_eq_true rfl) (Nat.le_of_ble_eq_true rfl) (Nat.le_of_ble_eq_true rfl) (fun _ _ hx => noX_x hx) (fun v33 L1 hp33 => ?_)
    obtain ⟨rfl, rfl⟩ := hp33
    refine (show Go g κ 38 [some (.ref b), some (.ref t), some (.int (nI 1)), none] [.null, .null] [[(b, .inr (27, [.null, va_rf vsb, .null, .null, .int (nI 0), .int (nI bmd), va_rf esb, va_rf nkb, .null]))], wvb, we, wv, [(t, .inr (27, [.null, va_rf vs, .null, va_rf root, .int (nI 1), .int (nI md), va_rf es, va_rf nk, .null]))]] 3 11 from ?_)
    refine g_callS (q := 41) (is := []) (kc2 := 3) (ks2 := 11) B [.null, .null] (ct_J17_equals g J   ) dJ10_putAll_38 rfl q2622 q2623 q100 q2624 rfl rfl moJ17_equals rfl rfl (by decide) (by decide) (Nat.le_of_ble_eq_true rfl) (Nat.le_of_ble_eq_true rfl) (Nat.le_of_ble_eq_true rfl) (fun _ _ hx => noX_x hx) (fun v38 L1 hp38 => ?_)
    obtain ⟨rfl, rfl⟩ := hp38
    refine (show Go g κ 41 [some (.ref b), some (.ref t), some (.int (nI 1)), none] [.int (nI 1)] [[(b, .inr (27, [.null, va_rf vsb, .null, .null, .int (nI 0), .int (nI bmd), va_rf esb, va_rf nkb, .null]))], wvb, we, wv, [(t, .inr (27, [.null, va_rf vs, .null, va_rf root, .int (nI 1), .int (nI md), va_rf es, va_rf nk, .null]))]] 3 11 from ?_)
    refine g_if_eq (tgt := 77) (q := 44) B dJ10_putAll_41 rfl (by decide) (iff_false_intro (by decide)) (fun z => z.elim) (fun _ => ?_)
    refine g_aload_n (q := 45) B dJ10_putAll_44 rfl rfl (rv_r _) ?_
    refine g_dup (q := 46) B dJ10_putAll_45 rfl rfl ?_
    refine g_get (q := 49) B (ci := 27) (k := 0) (j := 5) in_J10 rfl dJ10_putAll_46 rfl rfl (Nat.le_of_ble_eq_true rfl) q1873 rfl rfl ?_
    refine g_iconst (v := nI 1) (q := 50) B dJ10_putAll_49 rfl (by decide) ?_
    refine g_iadd (v := nI (bmd + 1)) (q := 51) B dJ10_putAll_50 rfl (nI_add _ _) ?_
    refine g_put (q := 54) (L2 := [[(b, .inr (27, [.null, va_rf vsb, .null, .null, .int (nI 0), .int (nI (bmd + 1)), va_rf esb, va_rf nkb, .null]))], wvb, we, wv, [(t, .inr (27, [.null, va_rf vs, .null, va_rf root, .int (nI 1), .int (nI md), va_rf es, va_rf nk, .null]))]]) B (ci := 27) (k := 0) (j := 5) in_J10 tyJ10 tyJ10_ok nmJ10 rfl dJ10_putAll_51 rfl rfl (Nat.le_of_ble_eq_true rfl) q1873 rfl rfl rfl rfl (Nat.le_of_ble_eq_true rfl) rfl ?_
    refine g_aload_n (q := 55) B dJ10_putAll_54 rfl rfl (rv_r _) ?_
    refine g_iload_n (q := 56) B dJ10_putAll_55 rfl rfl ?_
    refine g_aload_n (q := 57) B dJ10_putAll_56 rfl rfl (rv_r _) ?_
    refine g_callF (q := 62) (is := [4, 3]) (kc2 := 2) (ks2 := 10) B [] (ct_J10_entrySet g J (t := t) (vs := vs) (n := 1) (md := md) (es := es) (nk := nk) (root := root) hwv ) dJ10_putAll_57 rfl (ci := 27) rfl (rc_at B (ci := 27) rfl (k := 4) rfl) q2627 q2645 q2647 q91 q2649 q2629 q2628 q2648 q2646 q2605 rfl rfl mojava_util_Map_entrySet___Ljava_util_Set_ rfl rfl (by decide) (by decide) (Nat.le_of_ble_eq_true rfl) (Nat.le_of_ble_eq_true rfl) (Nat.le_of_ble_eq_true rfl) (fun _ _ hx => noX_x hx) (fun v57 L1 hp57 => ?_)
    obtain ⟨e57, u1_57, rfl, rfl, hu1_57⟩ := hp57
    refine (show Go g κ 62 [some (.ref b), some (.ref t), some (.int (nI 1)), none] [.ref e57, .int (nI 1), .ref b] [[(b, .inr (27, [.null, va_rf vsb, .null, .null, .int (nI 0), .int (nI (bmd + 1)), va_rf esb, va_rf nkb, .null]))], wvb, we, [(t, .inr (27, [.null, va_rf vs, .null, va_rf root, .int (nI 1), .int (nI md), .ref e57, va_rf nk, .null]))], u1_57] 2 10 from ?_)
    refine g_callF (q := 67) (is := [3, 2, 2]) (kc2 := 1) (ks2 := 6) B [] (ct_J46_iterator_v g J (t := t) (vs := vs) (n := 1) (md := md) (es := some e57) (nk := nk) (ns := ns) (key := key) (val := val) (l := l) (r := r) (p := p) (col := col) (lo := lo) (hi := hi) (root := root) (y := e57) hwe hu1_57 (by first | assumption | omega | rfl)) dJ10_putAll_62 rfl (ci := 31) rfl (rc_in B (ci := 31) rfl (k := 4) rfl ⟨_, VwP.me hu1_57⟩) q2661 q2236 q861 q145 q863 q2232 q2231 q862 q860 q2235 rfl rfl mojava_util_Set_iterator___Ljava_util_Iterator_ rfl rfl (by decide) (by decide) (Nat.le_of_ble_eq_true rfl) (Nat.le_of_ble_eq_true rfl) (Nat.le_of_ble_eq_true rfl) (fun _ _ hx => noX_x hx) (fun v62 L1 hp62 => ?_)
    obtain ⟨i62, e62, rfl, rfl, he_62⟩ := hp62
    refine (show Go g κ 67 [some (.ref b), some (.ref t), some (.int (nI 1)), none] [.ref i62, .int (nI 1), .ref b] [[(b, .inr (27, [.null, va_rf vsb, .null, .null, .int (nI 0), .int (nI (bmd + 1)), va_rf esb, va_rf nkb, .null]))], wvb, [(t, .inr (27, [.null, va_rf vs, .null, va_rf root, .int (nI 1), .int (nI md), .ref e57, va_rf nk, .null]))], we, u1_57, [(i62, .inr (34, [va_rf e62, .null, .int (nI md), .ref t]))]] 1 6 from ?_)
    obtain rfl : e62 = some a1 := lf_uq hT.1 he_62 ch1
    refine (show Go g κ 67 [some (.ref b), some (.ref t), some (.int (nI 1)), none] [.ref i62, .int (nI 1), .ref b] [[(b, .inr (27, [.null, va_rf vsb, .null, .null, .int (nI 0), .int (nI (bmd + 1)), va_rf esb, va_rf nkb, .null]))], wvb, [(t, .inr (27, [.null, va_rf vs, .null, va_rf root, .int (nI 1), .int (nI md), .ref e57, va_rf nk, .null]))], we, u1_57, [(i62, .inr (34, [.ref a1, .null, .int (nI md), .ref t]))]] 1 6 from ?_)
    refine g_aconst_null (q := 68) B dJ10_putAll_67 rfl ?_
    refine g_aconst_null (q := 69) B dJ10_putAll_68 rfl ?_
    refine g_callV (q := 72) (is := [0, 1, 1, 2]) (kc2 := 0) (ks2 := 0) B [.int (nI 1), .ref i62, .null, .null] (ct_bfs_1 g J (b := b) (bvs := vsb) (brt := none) (bn := 0) (bmd := bmd + 1) (bes := esb) (bnk := nkb) (t := t) (vs := vs) (n := 1) (md := md) (es := some e57) (nk := nk) (ns := ns) (key := key) (val := val) (l := l) (r := r) (p := p) (col := col) (lo := lo) (hi := hi) (root := root) (i := i62) (la := none) (a1 := a1) hwe (hT) ((ch1.1 a1 rfl).1)) dJ10_putAll_69 rfl (rc_at B (ci := 27) rfl (k := 0) rfl) rfl q2662 q2664 qs40 q91 q2665 rfl rfl moJ10_buildFromSorted rfl rfl (by decide) (by decide) (Nat.le_of_ble_eq_true rfl) (Nat.le_of_ble_eq_true rfl) (Nat.le_of_ble_eq_true rfl) (fun _ _ hx => noX_x hx) (fun v69 L1 hp69 => ?_)
    obtain ⟨m1, e69, rfl, rfl, he_69⟩ := hp69
    refine (show Go g κ 72 [some (.ref b), some (.ref t), some (.int (nI 1)), none] [] [wvb, u1_57, [(b, .inr (27, [.null, va_rf vsb, .null, .ref m1, .int (nI 1), .int (nI (bmd + 1)), va_rf esb, va_rf nkb, .null]))], [(t, .inr (27, [.null, va_rf vs, .null, va_rf root, .int (nI 1), .int (nI md), .ref e57, va_rf nk, .null]))], we, [(i62, .inr (34, [va_rf e69, .ref a1, .int (nI md), .ref t]))], [(m1, .inr (28, [.ref (kI g (key a1)), .ref (val a1), .null, .null, .null, .int (nI 1)]))]] 0 0 from ?_)
    refine g_goto (tgt := 76) B dJ10_putAll_72 (by decide) ?_
    obtain ⟨wc_3, ewc_3⟩ : ∃ w : va_W, w = ([[(t, .inr (27, [.null, va_rf vs, .null, va_rf root, .int (nI 1), .int (nI md), .ref e57, va_rf nk, .null]))], we, u1_57] : List va_W).flatten := ⟨_, rfl⟩
    have hwc_3 : MapP g t f 1 md wc_3 := by
      rw [ewc_3]
      exact ⟨vs, some e57, nk, ns, key, val, l, r, p, col, lo, hi, root, _, _, hT, hn, hF, hwe, hu1_57, rfl⟩
    refine g_close (w := wc_3) [3, 3, 1] rfl ewc_3 rfl ?_
    refine (show Go g κ 76 [some (.ref b), some (.ref t), some (.int (nI 1)), none] [] [wvb, [(b, .inr (27, [.null, va_rf vsb, .null, .ref m1, .int (nI 1), .int (nI (bmd + 1)), va_rf esb, va_rf nkb, .null]))], [(i62, .inr (34, [va_rf e69, .ref a1, .int (nI md), .ref t]))], [(m1, .inr (28, [.ref (kI g (key a1)), .ref (val a1), .null, .null, .null, .int (nI 1)]))], wc_3] 0 0 from ?_)
    have hqs : True := by
      trivial
    obtain ⟨wnew, ewnew⟩ : ∃ w : va_W, w = ([[(m1, .inr (28, [.ref (kI g (key a1)), .ref (val a1), .null, .null, .null, .int (nI 1)]))]] : List va_W).flatten := ⟨_, rfl⟩
    have hwnew : EntG g ([m1]) (fun d => if d = m1 then (key a1) else 0) (fun d => if d = m1 then (val a1) else 0) (fun d => if d = m1 then none else none) (fun d => if d = m1 then none else none) (fun d => if d = m1 then none else none) (fun d => if d = m1 then true else true) wnew := by
      rw [ewnew]
      exact pa_E1 
    refine g_close (w := wnew) [3] rfl ewnew rfl ?_
    refine (show Go g κ 76 [some (.ref b), some (.ref t), some (.int (nI 1)), none] [] [wvb, [(b, .inr (27, [.null, va_rf vsb, .null, .ref m1, .int (nI 1), .int (nI (bmd + 1)), va_rf esb, va_rf nkb, .null]))], [(i62, .inr (34, [va_rf e69, .ref a1, .int (nI md), .ref t]))], wc_3, wnew] 0 0 from ?_)
    obtain ⟨wc_4, ewc_4⟩ : ∃ w : va_W, w = ([[(b, .inr (27, [.null, va_rf vsb, .null, .ref m1, .int (nI 1), .int (nI (bmd + 1)), va_rf esb, va_rf nkb, .null]))], wnew, wvb] : List va_W).flatten := ⟨_, rfl⟩
    have hwc_4 : MapP g b f 1 (bmd + 1) wc_4 := by
      rw [ewc_4]
      exact ⟨vsb, esb, nkb, [m1], _, _, _, _, _, _, _, _, some m1, _, _, pa_T1   (hkM _ (ch1.1 a1 rfl).1), rfl, pa_F1  hF ch1 che, hwnew, hwvb, rfl⟩
    refine g_close (w := wc_4) [1, 3, 0] rfl ewc_4 rfl ?_
    refine (show Go g κ 76 [some (.ref b), some (.ref t), some (.int (nI 1)), none] [] [[(i62, .inr (34, [va_rf e69, .ref a1, .int (nI md), .ref t]))], wc_3, wc_4] 0 0 from ?_)
    refine g_pk [2, 1] rfl rfl ?_
    refine (show Go g κ 76 [some (.ref b), some (.ref t), some (.int (nI 1)), none] [] [wc_4, wc_3] 0 0 from ?_)
    exact g_vret B E dJ10_putAll_76 (⟨_, _, _, rfl, rfl, hwc_4, hwc_3⟩)
  · skip
    subst h2
    refine (show Go g κ 6 [some (.ref b), some (.ref t), none, none] [.int (nI 2)] [[(b, .inr (27, [.null, va_rf vsb, .null, .null, .int (nI 0), .int (nI bmd), va_rf esb, va_rf nkb, .null]))], wvb, we, wv, [(t, .inr (27, [.null, va_rf vs, .null, va_rf root, .int (nI 2), .int (nI md), va_rf es, va_rf nk, .null]))]] 4 17 from ?_)
    obtain ⟨a1, ch1, r1⟩ := lf_step (j := 0) (c := 1) hkM hT.1 hnd (by rw [lf_all]; omega)
    obtain ⟨a2, ch2, r2⟩ := lf_step (j := key a1 + 1) (c := 0) hkM hT.1 hnd r1
    have che := lf_stop hkM hT.1 hnd r2
    refine g_istore_n (q := 7) (lv2 := [some (.ref b), some (.ref t), some (.int (nI 2)), none]) B dJ10_putAll_6 rfl (Nat.le_of_ble_eq_true rfl) rfl ?_
    refine g_aload_n (q := 8) B dJ10_putAll_7 rfl rfl (rv_r _) ?_
    refine g_get (q := 11) B (ci := 27) (k := 0) (j := 4) in_J10 rfl dJ10_putAll_8 rfl rfl (Nat.le_of_ble_eq_true rfl) q1872 rfl rfl ?_
    refine g_if_ne (tgt := 77) (q := 14) B dJ10_putAll_11 rfl (by decide) (iff_false_intro (by decide)) (fun z => z.elim) (fun _ => ?_)
    refine g_iload_n (q := 15) B dJ10_putAll_14 rfl rfl ?_
    refine g_if_eq (tgt := 77) (q := 18) B dJ10_putAll_15 rfl (by decide) (iff_false_intro (by decide)) (fun z => z.elim) (fun _ => ?_)
    refine g_aload_n (q := 19) B dJ10_putAll_18 rfl rfl (rv_r _) ?_
    refine g_instR (q := 22) B (rc_at B (ci := 27) rfl (k := 4) rfl) dJ10_putAll_19 rfl q2611 q2616 ?_
    refine g_if_eq (tgt := 77) (q := 25) B dJ10_putAll_22 rfl (by decide) (iff_false_intro (by decide)) (fun z => z.elim) (fun _ => ?_)
    refine g_aload_n (q := 26) B dJ10_putAll_25 rfl rfl (rv_r _) ?_
    refine g_get (q := 29) B (ci := 27) (k := 0) (j := 2) in_J10 rfl dJ10_putAll_26 rfl rfl (Nat.le_of_ble_eq_true rfl) q1870 rfl rfl ?_
    refine g_aload_n (q := 30) B dJ10_putAll_29 rfl rfl (rv_r _) ?_
    refine g_castR (q := 33) B (rc_at B (ci := 27) rfl (k := 4) rfl) dJ10_putAll_30 rfl q2611 q2616 ?_
    refine g_callF (q := 38) (is := [4]) (kc2 := 4) (ks2 := 17) B [] (ct_J10_comparator g J (t := t) (vs := vs) (n := 2) (md := md) (es := es) (nk := nk) (root := root)  ) dJ10_putAll_33 rfl (ci := 27) rfl (rc_at B (ci := 27) rfl (k := 4) rfl) q2613 q2617 q2619 q91 q2621 q2615 q2614 q2620 q2618 q2616 rfl rfl mojava_util_SortedMap_comparator___Ljava_util_Comparator_ rfl rfl (by decide) (by decide) (Nat.le_of_ble_eq_true rfl) (Nat.le_of_ble_eq_true rfl) (Nat.le_of_ble_eq_true rfl) (fun _ _ hx => noX_x hx) (fun v33 L1 hp33 => ?_)
    obtain ⟨rfl, rfl⟩ := hp33
    refine (show Go g κ 38 [some (.ref b), some (.ref t), some (.int (nI 2)), none] [.null, .null] [[(b, .inr (27, [.null, va_rf vsb, .null, .null, .int (nI 0), .int (nI bmd), va_rf esb, va_rf nkb, .null]))], wvb, we, wv, [(t, .inr (27, [.null, va_rf vs, .null, va_rf root, .int (nI 2), .int (nI md), va_rf es, va_rf nk, .null]))]] 4 17 from ?_)
    refine g_callS (q := 41) (is := []) (kc2 := 4) (ks2 := 17) B [.null, .null] (ct_J17_equals g J   ) dJ10_putAll_38 rfl q2622 q2623 q100 q2624 rfl rfl moJ17_equals rfl rfl (by decide) (by decide) (Nat.le_of_ble_eq_true rfl) (Nat.le_of_ble_eq_true rfl) (Nat.le_of_ble_eq_true rfl) (fun _ _ hx => noX_x hx) (fun v38 L1 hp38 => ?_)
    obtain ⟨rfl, rfl⟩ := hp38
    refine (show Go g κ 41 [some (.ref b), some (.ref t), some (.int (nI 2)), none] [.int (nI 1)] [[(b, .inr (27, [.null, va_rf vsb, .null, .null, .int (nI 0), .int (nI bmd), va_rf esb, va_rf nkb, .null]))], wvb, we, wv, [(t, .inr (27, [.null, va_rf vs, .null, va_rf root, .int (nI 2), .int (nI md), va_rf es, va_rf nk, .null]))]] 4 17 from ?_)
    refine g_if_eq (tgt := 77) (q := 44) B dJ10_putAll_41 rfl (by decide) (iff_false_intro (by decide)) (fun z => z.elim) (fun _ => ?_)
    refine g_aload_n (q := 45) B dJ10_putAll_44 rfl rfl (rv_r _) ?_
    refine g_dup (q := 46) B dJ10_putAll_45 rfl rfl ?_
    refine g_get (q := 49) B (ci := 27) (k := 0) (j := 5) in_J10 rfl dJ10_putAll_46 rfl rfl (Nat.le_of_ble_eq_true rfl) q1873 rfl rfl ?_
    refine g_iconst (v := nI 1) (q := 50) B dJ10_putAll_49 rfl (by decide) ?_
    refine g_iadd (v := nI (bmd + 1)) (q := 51) B dJ10_putAll_50 rfl (nI_add _ _) ?_
    refine g_put (q := 54) (L2 := [[(b, .inr (27, [.null, va_rf vsb, .null, .null, .int (nI 0), .int (nI (bmd + 1)), va_rf esb, va_rf nkb, .null]))], wvb, we, wv, [(t, .inr (27, [.null, va_rf vs, .null, va_rf root, .int (nI 2), .int (nI md), va_rf es, va_rf nk, .null]))]]) B (ci := 27) (k := 0) (j := 5) in_J10 tyJ10 tyJ10_ok nmJ10 rfl dJ10_putAll_51 rfl rfl (Nat.le_of_ble_eq_true rfl) q1873 rfl rfl rfl rfl (Nat.le_of_ble_eq_true rfl) rfl ?_
    refine g_aload_n (q := 55) B dJ10_putAll_54 rfl rfl (rv_r _) ?_
    refine g_iload_n (q := 56) B dJ10_putAll_55 rfl rfl ?_
    refine g_aload_n (q := 57) B dJ10_putAll_56 rfl rfl (rv_r _) ?_
    refine g_callF (q := 62) (is := [4, 3]) (kc2 := 3) (ks2 := 16) B [] (ct_J10_entrySet g J (t := t) (vs := vs) (n := 2) (md := md) (es := es) (nk := nk) (root := root) hwv ) dJ10_putAll_57 rfl (ci := 27) rfl (rc_at B (ci := 27) rfl (k := 4) rfl) q2627 q2645 q2647 q91 q2649 q2629 q2628 q2648 q2646 q2605 rfl rfl mojava_util_Map_entrySet___Ljava_util_Set_ rfl rfl (by decide) (by decide) (Nat.le_of_ble_eq_true rfl) (Nat.le_of_ble_eq_true rfl) (Nat.le_of_ble_eq_true rfl) (fun _ _ hx => noX_x hx) (fun v57 L1 hp57 => ?_)
    obtain ⟨e57, u1_57, rfl, rfl, hu1_57⟩ := hp57
    refine (show Go g κ 62 [some (.ref b), some (.ref t), some (.int (nI 2)), none] [.ref e57, .int (nI 2), .ref b] [[(b, .inr (27, [.null, va_rf vsb, .null, .null, .int (nI 0), .int (nI (bmd + 1)), va_rf esb, va_rf nkb, .null]))], wvb, we, [(t, .inr (27, [.null, va_rf vs, .null, va_rf root, .int (nI 2), .int (nI md), .ref e57, va_rf nk, .null]))], u1_57] 3 16 from ?_)
    refine g_callF (q := 67) (is := [3, 2, 2]) (kc2 := 2) (ks2 := 12) B [] (ct_J46_iterator_v g J (t := t) (vs := vs) (n := 2) (md := md) (es := some e57) (nk := nk) (ns := ns) (key := key) (val := val) (l := l) (r := r) (p := p) (col := col) (lo := lo) (hi := hi) (root := root) (y := e57) hwe hu1_57 (by first | assumption | omega | rfl)) dJ10_putAll_62 rfl (ci := 31) rfl (rc_in B (ci := 31) rfl (k := 4) rfl ⟨_, VwP.me hu1_57⟩) q2661 q2236 q861 q145 q863 q2232 q2231 q862 q860 q2235 rfl rfl mojava_util_Set_iterator___Ljava_util_Iterator_ rfl rfl (by decide) (by decide) (Nat.le_of_ble_eq_true rfl) (Nat.le_of_ble_eq_true rfl) (Nat.le_of_ble_eq_true rfl) (fun _ _ hx => noX_x hx) (fun v62 L1 hp62 => ?_)
    obtain ⟨i62, e62, rfl, rfl, he_62⟩ := hp62
    refine (show Go g κ 67 [some (.ref b), some (.ref t), some (.int (nI 2)), none] [.ref i62, .int (nI 2), .ref b] [[(b, .inr (27, [.null, va_rf vsb, .null, .null, .int (nI 0), .int (nI (bmd + 1)), va_rf esb, va_rf nkb, .null]))], wvb, [(t, .inr (27, [.null, va_rf vs, .null, va_rf root, .int (nI 2), .int (nI md), .ref e57, va_rf nk, .null]))], we, u1_57, [(i62, .inr (34, [va_rf e62, .null, .int (nI md), .ref t]))]] 2 12 from ?_)
    obtain rfl : e62 = some a1 := lf_uq hT.1 he_62 ch1
    refine (show Go g κ 67 [some (.ref b), some (.ref t), some (.int (nI 2)), none] [.ref i62, .int (nI 2), .ref b] [[(b, .inr (27, [.null, va_rf vsb, .null, .null, .int (nI 0), .int (nI (bmd + 1)), va_rf esb, va_rf nkb, .null]))], wvb, [(t, .inr (27, [.null, va_rf vs, .null, va_rf root, .int (nI 2), .int (nI md), .ref e57, va_rf nk, .null]))], we, u1_57, [(i62, .inr (34, [.ref a1, .null, .int (nI md), .ref t]))]] 2 12 from ?_)
    refine g_aconst_null (q := 68) B dJ10_putAll_67 rfl ?_
    refine g_aconst_null (q := 69) B dJ10_putAll_68 rfl ?_
    refine g_callV (q := 72) (is := [0, 1, 1, 2]) (kc2 := 0) (ks2 := 0) B [.int (nI 2), .ref i62, .null, .null] (ct_bfs_2 g J (b := b) (bvs := vsb) (brt := none) (bn := 0) (bmd := bmd + 1) (bes := esb) (bnk := nkb) (t := t) (vs := vs) (n := 2) (md := md) (es := some e57) (nk := nk) (ns := ns) (key := key) (val := val) (l := l) (r := r) (p := p) (col := col) (lo := lo) (hi := hi) (root := root) (i := i62) (la := none) (a1 := a1) (a2 := a2) hwe (hT) ((ch1.1 a1 rfl).1) (ch2)) dJ10_putAll_69 rfl (rc_at B (ci := 27) rfl (k := 0) rfl) rfl q2662 q2664 qs40 q91 q2665 rfl rfl moJ10_buildFromSorted rfl rfl (by decide) (by decide) (Nat.le_of_ble_eq_true rfl) (Nat.le_of_ble_eq_true rfl) (Nat.le_of_ble_eq_true rfl) (fun _ _ hx => noX_x hx) (fun v69 L1 hp69 => ?_)
    obtain ⟨m1, m2, e69, rfl, rfl, he_69⟩ := hp69
    refine (show Go g κ 72 [some (.ref b), some (.ref t), some (.int (nI 2)), none] [] [wvb, u1_57, [(b, .inr (27, [.null, va_rf vsb, .null, .ref m1, .int (nI 2), .int (nI (bmd + 1)), va_rf esb, va_rf nkb, .null]))], [(t, .inr (27, [.null, va_rf vs, .null, va_rf root, .int (nI 2), .int (nI md), .ref e57, va_rf nk, .null]))], we, [(i62, .inr (34, [va_rf e69, .ref a2, .int (nI md), .ref t]))], [(m1, .inr (28, [.ref (kI g (key a1)), .ref (val a1), .null, .ref m2, .null, .int (nI 1)]))], [(m2, .inr (28, [.ref (kI g (key a2)), .ref (val a2), .null, .null, .ref m1, .int (nI 0)]))]] 0 0 from ?_)
    refine g_goto (tgt := 76) B dJ10_putAll_72 (by decide) ?_
    obtain ⟨wc_5, ewc_5⟩ : ∃ w : va_W, w = ([[(t, .inr (27, [.null, va_rf vs, .null, va_rf root, .int (nI 2), .int (nI md), .ref e57, va_rf nk, .null]))], we, u1_57] : List va_W).flatten := ⟨_, rfl⟩
    have hwc_5 : MapP g t f 2 md wc_5 := by
      rw [ewc_5]
      exact ⟨vs, some e57, nk, ns, key, val, l, r, p, col, lo, hi, root, _, _, hT, hn, hF, hwe, hu1_57, rfl⟩
    refine g_close (w := wc_5) [3, 3, 1] rfl ewc_5 rfl ?_
    refine (show Go g κ 76 [some (.ref b), some (.ref t), some (.int (nI 2)), none] [] [wvb, [(b, .inr (27, [.null, va_rf vsb, .null, .ref m1, .int (nI 2), .int (nI (bmd + 1)), va_rf esb, va_rf nkb, .null]))], [(i62, .inr (34, [va_rf e69, .ref a2, .int (nI md), .ref t]))], [(m1, .inr (28, [.ref (kI g (key a1)), .ref (val a1), .null, .ref m2, .null, .int (nI 1)]))], [(m2, .inr (28, [.ref (kI g (key a2)), .ref (val a2), .null, .null, .ref m1, .int (nI 0)]))], wc_5] 0 0 from ?_)
    refine g_ne (La := []) (Lb := []) 3 3 rfl List.mem_cons_self List.mem_cons_self (fun em1m2 => ?_)
    have hqs : key a1 < key a2 := by
      have := (ch2.1 a2 rfl).2.1; omega
    obtain ⟨wnew, ewnew⟩ : ∃ w : va_W, w = ([[(m1, .inr (28, [.ref (kI g (key a1)), .ref (val a1), .null, .ref m2, .null, .int (nI 1)]))], [(m2, .inr (28, [.ref (kI g (key a2)), .ref (val a2), .null, .null, .ref m1, .int (nI 0)]))]] : List va_W).flatten := ⟨_, rfl⟩
    have hwnew : EntG g ([m1, m2]) (fun d => if d = m1 then (key a1) else if d = m2 then (key a2) else 0) (fun d => if d = m1 then (val a1) else if d = m2 then (val a2) else 0) (fun d => if d = m1 then none else if d = m2 then none else none) (fun d => if d = m1 then (some m2) else if d = m2 then none else none) (fun d => if d = m1 then none else if d = m2 then (some m1) else none) (fun d => if d = m1 then true else if d = m2 then false else true) wnew := by
      rw [ewnew]
      exact pa_E2 em1m2
    refine g_close (w := wnew) [3, 3] rfl ewnew rfl ?_
    refine (show Go g κ 76 [some (.ref b), some (.ref t), some (.int (nI 2)), none] [] [wvb, [(b, .inr (27, [.null, va_rf vsb, .null, .ref m1, .int (nI 2), .int (nI (bmd + 1)), va_rf esb, va_rf nkb, .null]))], [(i62, .inr (34, [va_rf e69, .ref a2, .int (nI md), .ref t]))], wc_5, wnew] 0 0 from ?_)
    obtain ⟨wc_6, ewc_6⟩ : ∃ w : va_W, w = ([[(b, .inr (27, [.null, va_rf vsb, .null, .ref m1, .int (nI 2), .int (nI (bmd + 1)), va_rf esb, va_rf nkb, .null]))], wnew, wvb] : List va_W).flatten := ⟨_, rfl⟩
    have hwc_6 : MapP g b f 2 (bmd + 1) wc_6 := by
      rw [ewc_6]
      exact ⟨vsb, esb, nkb, [m1, m2], _, _, _, _, _, _, _, _, some m1, _, _, pa_T2 em1m2 hqs (hkM _ (ch2.1 a2 rfl).1), rfl, pa_F2 em1m2 hF ch1 ch2 che, hwnew, hwvb, rfl⟩
    refine g_close (w := wc_6) [1, 3, 0] rfl ewc_6 rfl ?_
    refine (show Go g κ 76 [some (.ref b), some (.ref t), some (.int (nI 2)), none] [] [[(i62, .inr (34, [va_rf e69, .ref a2, .int (nI md), .ref t]))], wc_5, wc_6] 0 0 from ?_)
    refine g_pk [2, 1] rfl rfl ?_
    refine (show Go g κ 76 [some (.ref b), some (.ref t), some (.int (nI 2)), none] [] [wc_6, wc_5] 0 0 from ?_)
    exact g_vret B E dJ10_putAll_76 (⟨_, _, _, rfl, rfl, hwc_6, hwc_5⟩)
  · skip
    subst h3
    refine (show Go g κ 6 [some (.ref b), some (.ref t), none, none] [.int (nI 3)] [[(b, .inr (27, [.null, va_rf vsb, .null, .null, .int (nI 0), .int (nI bmd), va_rf esb, va_rf nkb, .null]))], wvb, we, wv, [(t, .inr (27, [.null, va_rf vs, .null, va_rf root, .int (nI 3), .int (nI md), va_rf es, va_rf nk, .null]))]] 5 23 from ?_)
    obtain ⟨a1, ch1, r1⟩ := lf_step (j := 0) (c := 2) hkM hT.1 hnd (by rw [lf_all]; omega)
    obtain ⟨a2, ch2, r2⟩ := lf_step (j := key a1 + 1) (c := 1) hkM hT.1 hnd r1
    obtain ⟨a3, ch3, r3⟩ := lf_step (j := key a2 + 1) (c := 0) hkM hT.1 hnd r2
    have che := lf_stop hkM hT.1 hnd r3
    refine g_istore_n (q := 7) (lv2 := [some (.ref b), some (.ref t), some (.int (nI 3)), none]) B dJ10_putAll_6 rfl (Nat.le_of_ble_eq_true rfl) rfl ?_
    refine g_aload_n (q := 8) B dJ10_putAll_7 rfl rfl (rv_r _) ?_
    refine g_get (q := 11) B (ci := 27) (k := 0) (j := 4) in_J10 rfl dJ10_putAll_8 rfl rfl (Nat.le_of_ble_eq_true rfl) q1872 rfl rfl ?_
    refine g_if_ne (tgt := 77) (q := 14) B dJ10_putAll_11 rfl (by decide) (iff_false_intro (by decide)) (fun z => z.elim) (fun _ => ?_)
    refine g_iload_n (q := 15) B dJ10_putAll_14 rfl rfl ?_
    refine g_if_eq (tgt := 77) (q := 18) B dJ10_putAll_15 rfl (by decide) (iff_false_intro (by decide)) (fun z => z.elim) (fun _ => ?_)
    refine g_aload_n (q := 19) B dJ10_putAll_18 rfl rfl (rv_r _) ?_
    refine g_instR (q := 22) B (rc_at B (ci := 27) rfl (k := 4) rfl) dJ10_putAll_19 rfl q2611 q2616 ?_
    refine g_if_eq (tgt := 77) (q := 25) B dJ10_putAll_22 rfl (by decide) (iff_false_intro (by decide)) (fun z => z.elim) (fun _ => ?_)
    refine g_aload_n (q := 26) B dJ10_putAll_25 rfl rfl (rv_r _) ?_
    refine g_get (q := 29) B (ci := 27) (k := 0) (j := 2) in_J10 rfl dJ10_putAll_26 rfl rfl (Nat.le_of_ble_eq_true rfl) q1870 rfl rfl ?_
    refine g_aload_n (q := 30) B dJ10_putAll_29 rfl rfl (rv_r _) ?_
    refine g_castR (q := 33) B (rc_at B (ci := 27) rfl (k := 4) rfl) dJ10_putAll_30 rfl q2611 q2616 ?_
    refine g_callF (q := 38) (is := [4]) (kc2 := 5) (ks2 := 23) B [] (ct_J10_comparator g J (t := t) (vs := vs) (n := 3) (md := md) (es := es) (nk := nk) (root := root)  ) dJ10_putAll_33 rfl (ci := 27) rfl (rc_at B (ci := 27) rfl (k := 4) rfl) q2613 q2617 q2619 q91 q2621 q2615 q2614 q2620 q2618 q2616 rfl rfl mojava_util_SortedMap_comparator___Ljava_util_Comparator_ rfl rfl (by decide) (by decide) (Nat.le_of_ble_eq_true rfl) (Nat.le_of_ble_eq_true rfl) (Nat.le_of_ble_eq_true rfl) (fun _ _ hx => noX_x hx) (fun v33 L1 hp33 => ?_)
    obtain ⟨rfl, rfl⟩ := hp33
    refine (show Go g κ 38 [some (.ref b), some (.ref t), some (.int (nI 3)), none] [.null, .null] [[(b, .inr (27, [.null, va_rf vsb, .null, .null, .int (nI 0), .int (nI bmd), va_rf esb, va_rf nkb, .null]))], wvb, we, wv, [(t, .inr (27, [.null, va_rf vs, .null, va_rf root, .int (nI 3), .int (nI md), va_rf es, va_rf nk, .null]))]] 5 23 from ?_)
    refine g_callS (q := 41) (is := []) (kc2 := 5) (ks2 := 23) B [.null, .null] (ct_J17_equals g J   ) dJ10_putAll_38 rfl q2622 q2623 q100 q2624 rfl rfl moJ17_equals rfl rfl (by decide) (by decide) (Nat.le_of_ble_eq_true rfl) (Nat.le_of_ble_eq_true rfl) (Nat.le_of_ble_eq_true rfl) (fun _ _ hx => noX_x hx) (fun v38 L1 hp38 => ?_)
    obtain ⟨rfl, rfl⟩ := hp38
    refine (show Go g κ 41 [some (.ref b), some (.ref t), some (.int (nI 3)), none] [.int (nI 1)] [[(b, .inr (27, [.null, va_rf vsb, .null, .null, .int (nI 0), .int (nI bmd), va_rf esb, va_rf nkb, .null]))], wvb, we, wv, [(t, .inr (27, [.null, va_rf vs, .null, va_rf root, .int (nI 3), .int (nI md), va_rf es, va_rf nk, .null]))]] 5 23 from ?_)
    refine g_if_eq (tgt := 77) (q := 44) B dJ10_putAll_41 rfl (by decide) (iff_false_intro (by decide)) (fun z => z.elim) (fun _ => ?_)
    refine g_aload_n (q := 45) B dJ10_putAll_44 rfl rfl (rv_r _) ?_
    refine g_dup (q := 46) B dJ10_putAll_45 rfl rfl ?_
    refine g_get (q := 49) B (ci := 27) (k := 0) (j := 5) in_J10 rfl dJ10_putAll_46 rfl rfl (Nat.le_of_ble_eq_true rfl) q1873 rfl rfl ?_
    refine g_iconst (v := nI 1) (q := 50) B dJ10_putAll_49 rfl (by decide) ?_
    refine g_iadd (v := nI (bmd + 1)) (q := 51) B dJ10_putAll_50 rfl (nI_add _ _) ?_
    refine g_put (q := 54) (L2 := [[(b, .inr (27, [.null, va_rf vsb, .null, .null, .int (nI 0), .int (nI (bmd + 1)), va_rf esb, va_rf nkb, .null]))], wvb, we, wv, [(t, .inr (27, [.null, va_rf vs, .null, va_rf root, .int (nI 3), .int (nI md), va_rf es, va_rf nk, .null]))]]) B (ci := 27) (k := 0) (j := 5) in_J10 tyJ10 tyJ10_ok nmJ10 rfl dJ10_putAll_51 rfl rfl (Nat.le_of_ble_eq_true rfl) q1873 rfl rfl rfl rfl (Nat.le_of_ble_eq_true rfl) rfl ?_
    refine g_aload_n (q := 55) B dJ10_putAll_54 rfl rfl (rv_r _) ?_
    refine g_iload_n (q := 56) B dJ10_putAll_55 rfl rfl ?_
    refine g_aload_n (q := 57) B dJ10_putAll_56 rfl rfl (rv_r _) ?_
    refine g_callF (q := 62) (is := [4, 3]) (kc2 := 4) (ks2 := 22) B [] (ct_J10_entrySet g J (t := t) (vs := vs) (n := 3) (md := md) (es := es) (nk := nk) (root := root) hwv ) dJ10_putAll_57 rfl (ci := 27) rfl (rc_at B (ci := 27) rfl (k := 4) rfl) q2627 q2645 q2647 q91 q2649 q2629 q2628 q2648 q2646 q2605 rfl rfl mojava_util_Map_entrySet___Ljava_util_Set_ rfl rfl (by decide) (by decide) (Nat.le_of_ble_eq_true rfl) (Nat.le_of_ble_eq_true rfl) (Nat.le_of_ble_eq_true rfl) (fun _ _ hx => noX_x hx) (fun v57 L1 hp57 => ?_)
    obtain ⟨e57, u1_57, rfl, rfl, hu1_57⟩ := hp57
    refine (show Go g κ 62 [some (.ref b), some (.ref t), some (.int (nI 3)), none] [.ref e57, .int (nI 3), .ref b] [[(b, .inr (27, [.null, va_rf vsb, .null, .null, .int (nI 0), .int (nI (bmd + 1)), va_rf esb, va_rf nkb, .null]))], wvb, we, [(t, .inr (27, [.null, va_rf vs, .null, va_rf root, .int (nI 3), .int (nI md), .ref e57, va_rf nk, .null]))], u1_57] 4 22 from ?_)
    refine g_callF (q := 67) (is := [3, 2, 2]) (kc2 := 3) (ks2 := 18) B [] (ct_J46_iterator_v g J (t := t) (vs := vs) (n := 3) (md := md) (es := some e57) (nk := nk) (ns := ns) (key := key) (val := val) (l := l) (r := r) (p := p) (col := col) (lo := lo) (hi := hi) (root := root) (y := e57) hwe hu1_57 (by first | assumption | omega | rfl)) dJ10_putAll_62 rfl (ci := 31) rfl (rc_in B (ci := 31) rfl (k := 4) rfl ⟨_, VwP.me hu1_57⟩) q2661 q2236 q861 q145 q863 q2232 q2231 q862 q860 q2235 rfl rfl mojava_util_Set_iterator___Ljava_util_Iterator_ rfl rfl (by decide) (by decide) (Nat.le_of_ble_eq_true rfl) (Nat.le_of_ble_eq_true rfl) (Nat.le_of_ble_eq_true rfl) (fun _ _ hx => noX_x hx) (fun v62 L1 hp62 => ?_)
    obtain ⟨i62, e62, rfl, rfl, he_62⟩ := hp62
    refine (show Go g κ 67 [some (.ref b), some (.ref t), some (.int (nI 3)), none] [.ref i62, .int (nI 3), .ref b] [[(b, .inr (27, [.null, va_rf vsb, .null, .null, .int (nI 0), .int (nI (bmd + 1)), va_rf esb, va_rf nkb, .null]))], wvb, [(t, .inr (27, [.null, va_rf vs, .null, va_rf root, .int (nI 3), .int (nI md), .ref e57, va_rf nk, .null]))], we, u1_57, [(i62, .inr (34, [va_rf e62, .null, .int (nI md), .ref t]))]] 3 18 from ?_)
    obtain rfl : e62 = some a1 := lf_uq hT.1 he_62 ch1
    refine (show Go g κ 67 [some (.ref b), some (.ref t), some (.int (nI 3)), none] [.ref i62, .int (nI 3), .ref b] [[(b, .inr (27, [.null, va_rf vsb, .null, .null, .int (nI 0), .int (nI (bmd + 1)), va_rf esb, va_rf nkb, .null]))], wvb, [(t, .inr (27, [.null, va_rf vs, .null, va_rf root, .int (nI 3), .int (nI md), .ref e57, va_rf nk, .null]))], we, u1_57, [(i62, .inr (34, [.ref a1, .null, .int (nI md), .ref t]))]] 3 18 from ?_)
    refine g_aconst_null (q := 68) B dJ10_putAll_67 rfl ?_
    refine g_aconst_null (q := 69) B dJ10_putAll_68 rfl ?_
    refine g_callV (q := 72) (is := [0, 1, 1, 2]) (kc2 := 0) (ks2 := 0) B [.int (nI 3), .ref i62, .null, .null] (ct_bfs_3 g J (b := b) (bvs := vsb) (brt := none) (bn := 0) (bmd := bmd + 1) (bes := esb) (bnk := nkb) (t := t) (vs := vs) (n := 3) (md := md) (es := some e57) (nk := nk) (ns := ns) (key := key) (val := val) (l := l) (r := r) (p := p) (col := col) (lo := lo) (hi := hi) (root := root) (i := i62) (la := none) (a1 := a1) (a2 := a2) (a3 := a3) hwe (hT) ((ch1.1 a1 rfl).1) (ch2) (ch3)) dJ10_putAll_69 rfl (rc_at B (ci := 27) rfl (k := 0) rfl) rfl q2662 q2664 qs40 q91 q2665 rfl rfl moJ10_buildFromSorted rfl rfl (by decide) (by decide) (Nat.le_of_ble_eq_true rfl) (Nat.le_of_ble_eq_true rfl) (Nat.le_of_ble_eq_true rfl) (fun _ _ hx => noX_x hx) (fun v69 L1 hp69 => ?_)
    obtain ⟨m1, m2, m3, e69, rfl, rfl, he_69⟩ := hp69
    refine (show Go g κ 72 [some (.ref b), some (.ref t), some (.int (nI 3)), none] [] [wvb, u1_57, [(b, .inr (27, [.null, va_rf vsb, .null, .ref m2, .int (nI 3), .int (nI (bmd + 1)), va_rf esb, va_rf nkb, .null]))], [(t, .inr (27, [.null, va_rf vs, .null, va_rf root, .int (nI 3), .int (nI md), .ref e57, va_rf nk, .null]))], we, [(i62, .inr (34, [va_rf e69, .ref a3, .int (nI md), .ref t]))], [(m1, .inr (28, [.ref (kI g (key a1)), .ref (val a1), .null, .null, .ref m2, .int (nI 1)]))], [(m2, .inr (28, [.ref (kI g (key a2)), .ref (val a2), .ref m1, .ref m3, .null, .int (nI 1)]))], [(m3, .inr (28, [.ref (kI g (key a3)), .ref (val a3), .null, .null, .ref m2, .int (nI 1)]))]] 0 0 from ?_)
    refine g_goto (tgt := 76) B dJ10_putAll_72 (by decide) ?_
    obtain ⟨wc_7, ewc_7⟩ : ∃ w : va_W, w = ([[(t, .inr (27, [.null, va_rf vs, .null, va_rf root, .int (nI 3), .int (nI md), .ref e57, va_rf nk, .null]))], we, u1_57] : List va_W).flatten := ⟨_, rfl⟩
    have hwc_7 : MapP g t f 3 md wc_7 := by
      rw [ewc_7]
      exact ⟨vs, some e57, nk, ns, key, val, l, r, p, col, lo, hi, root, _, _, hT, hn, hF, hwe, hu1_57, rfl⟩
    refine g_close (w := wc_7) [3, 3, 1] rfl ewc_7 rfl ?_
    refine (show Go g κ 76 [some (.ref b), some (.ref t), some (.int (nI 3)), none] [] [wvb, [(b, .inr (27, [.null, va_rf vsb, .null, .ref m2, .int (nI 3), .int (nI (bmd + 1)), va_rf esb, va_rf nkb, .null]))], [(i62, .inr (34, [va_rf e69, .ref a3, .int (nI md), .ref t]))], [(m1, .inr (28, [.ref (kI g (key a1)), .ref (val a1), .null, .null, .ref m2, .int (nI 1)]))], [(m2, .inr (28, [.ref (kI g (key a2)), .ref (val a2), .ref m1, .ref m3, .null, .int (nI 1)]))], [(m3, .inr (28, [.ref (kI g (key a3)), .ref (val a3), .null, .null, .ref m2, .int (nI 1)]))], wc_7] 0 0 from ?_)
    refine g_ne (La := []) (Lb := []) 3 3 rfl List.mem_cons_self List.mem_cons_self (fun em1m2 => ?_)
    refine g_ne (La := []) (Lb := []) 3 4 rfl List.mem_cons_self List.mem_cons_self (fun em1m3 => ?_)
    refine g_ne (La := []) (Lb := []) 4 4 rfl List.mem_cons_self List.mem_cons_self (fun em2m3 => ?_)
    have hqs : key a1 < key a2 ∧ key a2 < key a3 := by
      exact ⟨by have := (ch2.1 a2 rfl).2.1; omega, by have := (ch3.1 a3 rfl).2.1; omega⟩
    obtain ⟨wnew, ewnew⟩ : ∃ w : va_W, w = ([[(m1, .inr (28, [.ref (kI g (key a1)), .ref (val a1), .null, .null, .ref m2, .int (nI 1)]))], [(m2, .inr (28, [.ref (kI g (key a2)), .ref (val a2), .ref m1, .ref m3, .null, .int (nI 1)]))], [(m3, .inr (28, [.ref (kI g (key a3)), .ref (val a3), .null, .null, .ref m2, .int (nI 1)]))]] : List va_W).flatten := ⟨_, rfl⟩
    have hwnew : EntG g ([m1, m2, m3]) (fun d => if d = m1 then (key a1) else if d = m2 then (key a2) else if d = m3 then (key a3) else 0) (fun d => if d = m1 then (val a1) else if d = m2 then (val a2) else if d = m3 then (val a3) else 0) (fun d => if d = m1 then none else if d = m2 then (some m1) else if d = m3 then none else none) (fun d => if d = m1 then none else if d = m2 then (some m3) else if d = m3 then none else none) (fun d => if d = m1 then (some m2) else if d = m2 then none else if d = m3 then (some m2) else none) (fun d => if d = m1 then true else if d = m2 then true else if d = m3 then true else true) wnew := by
      rw [ewnew]
      exact pa_E3 em1m2 em1m3 em2m3
    refine g_close (w := wnew) [3, 3, 3] rfl ewnew rfl ?_
    refine (show Go g κ 76 [some (.ref b), some (.ref t), some (.int (nI 3)), none] [] [wvb, [(b, .inr (27, [.null, va_rf vsb, .null, .ref m2, .int (nI 3), .int (nI (bmd + 1)), va_rf esb, va_rf nkb, .null]))], [(i62, .inr (34, [va_rf e69, .ref a3, .int (nI md), .ref t]))], wc_7, wnew] 0 0 from ?_)
    obtain ⟨wc_8, ewc_8⟩ : ∃ w : va_W, w = ([[(b, .inr (27, [.null, va_rf vsb, .null, .ref m2, .int (nI 3), .int (nI (bmd + 1)), va_rf esb, va_rf nkb, .null]))], wnew, wvb] : List va_W).flatten := ⟨_, rfl⟩
    have hwc_8 : MapP g b f 3 (bmd + 1) wc_8 := by
      rw [ewc_8]
      exact ⟨vsb, esb, nkb, [m1, m2, m3], _, _, _, _, _, _, _, _, some m2, _, _, pa_T3 em1m2 em1m3 em2m3 hqs.1 hqs.2 (hkM _ (ch3.1 a3 rfl).1), rfl, pa_F3 em1m2 em1m3 em2m3 hF ch1 ch2 ch3 che, hwnew, hwvb, rfl⟩
    refine g_close (w := wc_8) [1, 3, 0] rfl ewc_8 rfl ?_
    refine (show Go g κ 76 [some (.ref b), some (.ref t), some (.int (nI 3)), none] [] [[(i62, .inr (34, [va_rf e69, .ref a3, .int (nI md), .ref t]))], wc_7, wc_8] 0 0 from ?_)
    refine g_pk [2, 1] rfl rfl ?_
    refine (show Go g κ 76 [some (.ref b), some (.ref t), some (.int (nI 3)), none] [] [wc_8, wc_7] 0 0 from ?_)
    exact g_vret B E dJ10_putAll_76 (⟨_, _, _, rfl, rfl, hwc_8, hwc_7⟩)
  · skip
    subst h4
    refine (show Go g κ 6 [some (.ref b), some (.ref t), none, none] [.int (nI 4)] [[(b, .inr (27, [.null, va_rf vsb, .null, .null, .int (nI 0), .int (nI bmd), va_rf esb, va_rf nkb, .null]))], wvb, we, wv, [(t, .inr (27, [.null, va_rf vs, .null, va_rf root, .int (nI 4), .int (nI md), va_rf es, va_rf nk, .null]))]] 6 29 from ?_)
    obtain ⟨a1, ch1, r1⟩ := lf_step (j := 0) (c := 3) hkM hT.1 hnd (by rw [lf_all]; omega)
    obtain ⟨a2, ch2, r2⟩ := lf_step (j := key a1 + 1) (c := 2) hkM hT.1 hnd r1
    obtain ⟨a3, ch3, r3⟩ := lf_step (j := key a2 + 1) (c := 1) hkM hT.1 hnd r2
    obtain ⟨a4, ch4, r4⟩ := lf_step (j := key a3 + 1) (c := 0) hkM hT.1 hnd r3
    have che := lf_stop hkM hT.1 hnd r4
    refine g_istore_n (q := 7) (lv2 := [some (.ref b), some (.ref t), some (.int (nI 4)), none]) B dJ10_putAll_6 rfl (Nat.le_of_ble_eq_true rfl) rfl ?_
    refine g_aload_n (q := 8) B dJ10_putAll_7 rfl rfl (rv_r _) ?_
    refine g_get (q := 11) B (ci := 27) (k := 0) (j := 4) in_J10 rfl dJ10_putAll_8 rfl rfl (Nat.le_of_ble_eq_true rfl) q1872 rfl rfl ?_
    refine g_if_ne (tgt := 77) (q := 14) B dJ10_putAll_11 rfl (by decide) (iff_false_intro (by decide)) (fun z => z.elim) (fun _ => ?_)
    refine g_iload_n (q := 15) B dJ10_putAll_14 rfl rfl ?_
    refine g_if_eq (tgt := 77) (q := 18) B dJ10_putAll_15 rfl (by decide) (iff_false_intro (by decide)) (fun z => z.elim) (fun _ => ?_)
    refine g_aload_n (q := 19) B dJ10_putAll_18 rfl rfl (rv_r _) ?_
    refine g_instR (q := 22) B (rc_at B (ci := 27) rfl (k := 4) rfl) dJ10_putAll_19 rfl q2611 q2616 ?_
    refine g_if_eq (tgt := 77) (q := 25) B dJ10_putAll_22 rfl (by decide) (iff_false_intro (by decide)) (fun z => z.elim) (fun _ => ?_)
    refine g_aload_n (q := 26) B dJ10_putAll_25 rfl rfl (rv_r _) ?_
    refine g_get (q := 29) B (ci := 27) (k := 0) (j := 2) in_J10 rfl dJ10_putAll_26 rfl rfl (Nat.le_of_ble_eq_true rfl) q1870 rfl rfl ?_
    refine g_aload_n (q := 30) B dJ10_putAll_29 rfl rfl (rv_r _) ?_
    refine g_castR (q := 33) B (rc_at B (ci := 27) rfl (k := 4) rfl) dJ10_putAll_30 rfl q2611 q2616 ?_
    refine g_callF (q := 38) (is := [4]) (kc2 := 6) (ks2 := 29) B [] (ct_J10_comparator g J (t := t) (vs := vs) (n := 4) (md := md) (es := es) (nk := nk) (root := root)  ) dJ10_putAll_33 rfl (ci := 27) rfl (rc_at B (ci := 27) rfl (k := 4) rfl) q2613 q2617 q2619 q91 q2621 q2615 q2614 q2620 q2618 q2616 rfl rfl mojava_util_SortedMap_comparator___Ljava_util_Comparator_ rfl rfl (by decide) (by decide) (Nat.le_of_ble_eq_true rfl) (Nat.le_of_ble_eq_true rfl) (Nat.le_of_ble_eq_true rfl) (fun _ _ hx => noX_x hx) (fun v33 L1 hp33 => ?_)
    obtain ⟨rfl, rfl⟩ := hp33
    refine (show Go g κ 38 [some (.ref b), some (.ref t), some (.int (nI 4)), none] [.null, .null] [[(b, .inr (27, [.null, va_rf vsb, .null, .null, .int (nI 0), .int (nI bmd), va_rf esb, va_rf nkb, .null]))], wvb, we, wv, [(t, .inr (27, [.null, va_rf vs, .null, va_rf root, .int (nI 4), .int (nI md), va_rf es, va_rf nk, .null]))]] 6 29 from ?_)
    refine g_callS (q := 41) (is := []) (kc2 := 6) (ks2 := 29) B [.null, .null] (ct_J17_equals g J   ) dJ10_putAll_38 rfl q2622 q2623 q100 q2624 rfl rfl moJ17_equals rfl rfl (by decide) (by decide) (Nat.le_of_ble_eq_true rfl) (Nat.le_of_ble_eq_true rfl) (Nat.le_of_ble_eq_true rfl) (fun _ _ hx => noX_x hx) (fun v38 L1 hp38 => ?_)
    obtain ⟨rfl, rfl⟩ := hp38
    refine (show Go g κ 41 [some (.ref b), some (.ref t), some (.int (nI 4)), none] [.int (nI 1)] [[(b, .inr (27, [.null, va_rf vsb, .null, .null, .int (nI 0), .int (nI bmd), va_rf esb, va_rf nkb, .null]))], wvb, we, wv, [(t, .inr (27, [.null, va_rf vs, .null, va_rf root, .int (nI 4), .int (nI md), va_rf es, va_rf nk, .null]))]] 6 29 from ?_)
    refine g_if_eq (tgt := 77) (q := 44) B dJ10_putAll_41 rfl (by decide) (iff_false_intro (by decide)) (fun z => z.elim) (fun _ => ?_)
    refine g_aload_n (q := 45) B dJ10_putAll_44 rfl rfl (rv_r _) ?_
    refine g_dup (q := 46) B dJ10_putAll_45 rfl rfl ?_
    refine g_get (q := 49) B (ci := 27) (k := 0) (j := 5) in_J10 rfl dJ10_putAll_46 rfl rfl (Nat.le_of_ble_eq_true rfl) q1873 rfl rfl ?_
    refine g_iconst (v := nI 1) (q := 50) B dJ10_putAll_49 rfl (by decide) ?_
    refine g_iadd (v := nI (bmd + 1)) (q := 51) B dJ10_putAll_50 rfl (nI_add _ _) ?_
    refine g_put (q := 54) (L2 := [[(b, .inr (27, [.null, va_rf vsb, .null, .null, .int (nI 0), .int (nI (bmd + 1)), va_rf esb, va_rf nkb, .null]))], wvb, we, wv, [(t, .inr (27, [.null, va_rf vs, .null, va_rf root, .int (nI 4), .int (nI md), va_rf es, va_rf nk, .null]))]]) B (ci := 27) (k := 0) (j := 5) in_J10 tyJ10 tyJ10_ok nmJ10 rfl dJ10_putAll_51 rfl rfl (Nat.le_of_ble_eq_true rfl) q1873 rfl rfl rfl rfl (Nat.le_of_ble_eq_true rfl) rfl ?_
    refine g_aload_n (q := 55) B dJ10_putAll_54 rfl rfl (rv_r _) ?_
    refine g_iload_n (q := 56) B dJ10_putAll_55 rfl rfl ?_
    refine g_aload_n (q := 57) B dJ10_putAll_56 rfl rfl (rv_r _) ?_
    refine g_callF (q := 62) (is := [4, 3]) (kc2 := 5) (ks2 := 28) B [] (ct_J10_entrySet g J (t := t) (vs := vs) (n := 4) (md := md) (es := es) (nk := nk) (root := root) hwv ) dJ10_putAll_57 rfl (ci := 27) rfl (rc_at B (ci := 27) rfl (k := 4) rfl) q2627 q2645 q2647 q91 q2649 q2629 q2628 q2648 q2646 q2605 rfl rfl mojava_util_Map_entrySet___Ljava_util_Set_ rfl rfl (by decide) (by decide) (Nat.le_of_ble_eq_true rfl) (Nat.le_of_ble_eq_true rfl) (Nat.le_of_ble_eq_true rfl) (fun _ _ hx => noX_x hx) (fun v57 L1 hp57 => ?_)
    obtain ⟨e57, u1_57, rfl, rfl, hu1_57⟩ := hp57
    refine (show Go g κ 62 [some (.ref b), some (.ref t), some (.int (nI 4)), none] [.ref e57, .int (nI 4), .ref b] [[(b, .inr (27, [.null, va_rf vsb, .null, .null, .int (nI 0), .int (nI (bmd + 1)), va_rf esb, va_rf nkb, .null]))], wvb, we, [(t, .inr (27, [.null, va_rf vs, .null, va_rf root, .int (nI 4), .int (nI md), .ref e57, va_rf nk, .null]))], u1_57] 5 28 from ?_)
    refine g_callF (q := 67) (is := [3, 2, 2]) (kc2 := 4) (ks2 := 24) B [] (ct_J46_iterator_v g J (t := t) (vs := vs) (n := 4) (md := md) (es := some e57) (nk := nk) (ns := ns) (key := key) (val := val) (l := l) (r := r) (p := p) (col := col) (lo := lo) (hi := hi) (root := root) (y := e57) hwe hu1_57 (by first | assumption | omega | rfl)) dJ10_putAll_62 rfl (ci := 31) rfl (rc_in B (ci := 31) rfl (k := 4) rfl ⟨_, VwP.me hu1_57⟩) q2661 q2236 q861 q145 q863 q2232 q2231 q862 q860 q2235 rfl rfl mojava_util_Set_iterator___Ljava_util_Iterator_ rfl rfl (by decide) (by decide) (Nat.le_of_ble_eq_true rfl) (Nat.le_of_ble_eq_true rfl) (Nat.le_of_ble_eq_true rfl) (fun _ _ hx => noX_x hx) (fun v62 L1 hp62 => ?_)
    obtain ⟨i62, e62, rfl, rfl, he_62⟩ := hp62
    refine (show Go g κ 67 [some (.ref b), some (.ref t), some (.int (nI 4)), none] [.ref i62, .int (nI 4), .ref b] [[(b, .inr (27, [.null, va_rf vsb, .null, .null, .int (nI 0), .int (nI (bmd + 1)), va_rf esb, va_rf nkb, .null]))], wvb, [(t, .inr (27, [.null, va_rf vs, .null, va_rf root, .int (nI 4), .int (nI md), .ref e57, va_rf nk, .null]))], we, u1_57, [(i62, .inr (34, [va_rf e62, .null, .int (nI md), .ref t]))]] 4 24 from ?_)
    obtain rfl : e62 = some a1 := lf_uq hT.1 he_62 ch1
    refine (show Go g κ 67 [some (.ref b), some (.ref t), some (.int (nI 4)), none] [.ref i62, .int (nI 4), .ref b] [[(b, .inr (27, [.null, va_rf vsb, .null, .null, .int (nI 0), .int (nI (bmd + 1)), va_rf esb, va_rf nkb, .null]))], wvb, [(t, .inr (27, [.null, va_rf vs, .null, va_rf root, .int (nI 4), .int (nI md), .ref e57, va_rf nk, .null]))], we, u1_57, [(i62, .inr (34, [.ref a1, .null, .int (nI md), .ref t]))]] 4 24 from ?_)
    refine g_aconst_null (q := 68) B dJ10_putAll_67 rfl ?_
    refine g_aconst_null (q := 69) B dJ10_putAll_68 rfl ?_
    refine g_callV (q := 72) (is := [0, 1, 1, 2]) (kc2 := 0) (ks2 := 0) B [.int (nI 4), .ref i62, .null, .null] (ct_bfs_4 g J (b := b) (bvs := vsb) (brt := none) (bn := 0) (bmd := bmd + 1) (bes := esb) (bnk := nkb) (t := t) (vs := vs) (n := 4) (md := md) (es := some e57) (nk := nk) (ns := ns) (key := key) (val := val) (l := l) (r := r) (p := p) (col := col) (lo := lo) (hi := hi) (root := root) (i := i62) (la := none) (a1 := a1) (a2 := a2) (a3 := a3) (a4 := a4) hwe (hT) ((ch1.1 a1 rfl).1) (ch2) (ch3) (ch4)) dJ10_putAll_69 rfl (rc_at B (ci := 27) rfl (k := 0) rfl) rfl q2662 q2664 qs40 q91 q2665 rfl rfl moJ10_buildFromSorted rfl rfl (by decide) (by decide) (Nat.le_of_ble_eq_true rfl) (Nat.le_of_ble_eq_true rfl) (Nat.le_of_ble_eq_true rfl) (fun _ _ hx => noX_x hx) (fun v69 L1 hp69 => ?_)
    obtain ⟨m1, m2, m3, m4, e69, rfl, rfl, he_69⟩ := hp69
    refine (show Go g κ 72 [some (.ref b), some (.ref t), some (.int (nI 4)), none] [] [wvb, u1_57, [(b, .inr (27, [.null, va_rf vsb, .null, .ref m2, .int (nI 4), .int (nI (bmd + 1)), va_rf esb, va_rf nkb, .null]))], [(t, .inr (27, [.null, va_rf vs, .null, va_rf root, .int (nI 4), .int (nI md), .ref e57, va_rf nk, .null]))], we, [(i62, .inr (34, [va_rf e69, .ref a4, .int (nI md), .ref t]))], [(m1, .inr (28, [.ref (kI g (key a1)), .ref (val a1), .null, .null, .ref m2, .int (nI 1)]))], [(m2, .inr (28, [.ref (kI g (key a2)), .ref (val a2), .ref m1, .ref m3, .null, .int (nI 1)]))], [(m3, .inr (28, [.ref (kI g (key a3)), .ref (val a3), .null, .ref m4, .ref m2, .int (nI 1)]))], [(m4, .inr (28, [.ref (kI g (key a4)), .ref (val a4), .null, .null, .ref m3, .int (nI 0)]))]] 0 0 from ?_)
    refine g_goto (tgt := 76) B dJ10_putAll_72 (by decide) ?_
    obtain ⟨wc_9, ewc_9⟩ : ∃ w : va_W, w = ([[(t, .inr (27, [.null, va_rf vs, .null, va_rf root, .int (nI 4), .int (nI md), .ref e57, va_rf nk, .null]))], we, u1_57] : List va_W).flatten := ⟨_, rfl⟩
    have hwc_9 : MapP g t f 4 md wc_9 := by
      rw [ewc_9]
      exact ⟨vs, some e57, nk, ns, key, val, l, r, p, col, lo, hi, root, _, _, hT, hn, hF, hwe, hu1_57, rfl⟩
    refine g_close (w := wc_9) [3, 3, 1] rfl ewc_9 rfl ?_
    refine (show Go g κ 76 [some (.ref b), some (.ref t), some (.int (nI 4)), none] [] [wvb, [(b, .inr (27, [.null, va_rf vsb, .null, .ref m2, .int (nI 4), .int (nI (bmd + 1)), va_rf esb, va_rf nkb, .null]))], [(i62, .inr (34, [va_rf e69, .ref a4, .int (nI md), .ref t]))], [(m1, .inr (28, [.ref (kI g (key a1)), .ref (val a1), .null, .null, .ref m2, .int (nI 1)]))], [(m2, .inr (28, [.ref (kI g (key a2)), .ref (val a2), .ref m1, .ref m3, .null, .int (nI 1)]))], [(m3, .inr (28, [.ref (kI g (key a3)), .ref (val a3), .null, .ref m4, .ref m2, .int (nI 1)]))], [(m4, .inr (28, [.ref (kI g (key a4)), .ref (val a4), .null, .null, .ref m3, .int (nI 0)]))], wc_9] 0 0 from ?_)
    refine g_ne (La := []) (Lb := []) 3 3 rfl List.mem_cons_self List.mem_cons_self (fun em1m2 => ?_)
    refine g_ne (La := []) (Lb := []) 3 4 rfl List.mem_cons_self List.mem_cons_self (fun em1m3 => ?_)
    refine g_ne (La := []) (Lb := []) 3 5 rfl List.mem_cons_self List.mem_cons_self (fun em1m4 => ?_)
    refine g_ne (La := []) (Lb := []) 4 4 rfl List.mem_cons_self List.mem_cons_self (fun em2m3 => ?_)
    refine g_ne (La := []) (Lb := []) 4 5 rfl List.mem_cons_self List.mem_cons_self (fun em2m4 => ?_)
    refine g_ne (La := []) (Lb := []) 5 5 rfl List.mem_cons_self List.mem_cons_self (fun em3m4 => ?_)
    have hqs : key a1 < key a2 ∧ key a2 < key a3 ∧ key a3 < key a4 := by
      exact ⟨by have := (ch2.1 a2 rfl).2.1; omega, by have := (ch3.1 a3 rfl).2.1; omega, by have := (ch4.1 a4 rfl).2.1; omega⟩
    obtain ⟨wnew, ewnew⟩ : ∃ w : va_W, w = ([[(m1, .inr (28, [.ref (kI g (key a1)), .ref (val a1), .null, .null, .ref m2, .int (nI 1)]))], [(m2, .inr (28, [.ref (kI g (key a2)), .ref (val a2), .ref m1, .ref m3, .null, .int (nI 1)]))], [(m3, .inr (28, [.ref (kI g (key a3)), .ref (val a3), .null, .ref m4, .ref m2, .int (nI 1)]))], [(m4, .inr (28, [.ref (kI g (key a4)), .ref (val a4), .null, .null, .ref m3, .int (nI 0)]))]] : List va_W).flatten := ⟨_, rfl⟩
    have hwnew : EntG g ([m1, m2, m3, m4]) (fun d => if d = m1 then (key a1) else if d = m2 then (key a2) else if d = m3 then (key a3) else if d = m4 then (key a4) else 0) (fun d => if d = m1 then (val a1) else if d = m2 then (val a2) else if d = m3 then (val a3) else if d = m4 then (val a4) else 0) (fun d => if d = m1 then none else if d = m2 then (some m1) else if d = m3 then none else if d = m4 then none else none) (fun d => if d = m1 then none else if d = m2 then (some m3) else if d = m3 then (some m4) else if d = m4 then none else none) (fun d => if d = m1 then (some m2) else if d = m2 then none else if d = m3 then (some m2) else if d = m4 then (some m3) else none) (fun d => if d = m1 then true else if d = m2 then true else if d = m3 then true else if d = m4 then false else true) wnew := by
      rw [ewnew]
      exact pa_E4 em1m2 em1m3 em1m4 em2m3 em2m4 em3m4
    refine g_close (w := wnew) [3, 3, 3, 3] rfl ewnew rfl ?_
    refine (show Go g κ 76 [some (.ref b), some (.ref t), some (.int (nI 4)), none] [] [wvb, [(b, .inr (27, [.null, va_rf vsb, .null, .ref m2, .int (nI 4), .int (nI (bmd + 1)), va_rf esb, va_rf nkb, .null]))], [(i62, .inr (34, [va_rf e69, .ref a4, .int (nI md), .ref t]))], wc_9, wnew] 0 0 from ?_)
    obtain ⟨wc_10, ewc_10⟩ : ∃ w : va_W, w = ([[(b, .inr (27, [.null, va_rf vsb, .null, .ref m2, .int (nI 4), .int (nI (bmd + 1)), va_rf esb, va_rf nkb, .null]))], wnew, wvb] : List va_W).flatten := ⟨_, rfl⟩
    have hwc_10 : MapP g b f 4 (bmd + 1) wc_10 := by
      rw [ewc_10]
      exact ⟨vsb, esb, nkb, [m1, m2, m3, m4], _, _, _, _, _, _, _, _, some m2, _, _, pa_T4 em1m2 em1m3 em1m4 em2m3 em2m4 em3m4 hqs.1 hqs.2.1 hqs.2.2 (hkM _ (ch4.1 a4 rfl).1), rfl, pa_F4 em1m2 em1m3 em1m4 em2m3 em2m4 em3m4 hF ch1 ch2 ch3 ch4 che, hwnew, hwvb, rfl⟩
    refine g_close (w := wc_10) [1, 3, 0] rfl ewc_10 rfl ?_
    refine (show Go g κ 76 [some (.ref b), some (.ref t), some (.int (nI 4)), none] [] [[(i62, .inr (34, [va_rf e69, .ref a4, .int (nI md), .ref t]))], wc_9, wc_10] 0 0 from ?_)
    refine g_pk [2, 1] rfl rfl ?_
    refine (show Go g κ 76 [some (.ref b), some (.ref t), some (.int (nI 4)), none] [] [wc_10, wc_9] 0 0 from ?_)
    exact g_vret B E dJ10_putAll_76 (⟨_, _, _, rfl, rfl, hwc_10, hwc_9⟩)
