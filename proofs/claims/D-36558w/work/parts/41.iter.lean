set_option maxRecDepth 100000
theorem ct_J31_init_k (g : Gv) (J : Jd g) {t : Nat} {vs : Option Nat} {n : Nat} {md : Nat} {es : Option Nat} {nk : Option Nat} {root : Option Nat} {i : Nat} {nx : Option Nat} : Ct g yJ31_init (ws_ yJ31_init cJ31_init 3 none) 1 0 0 [.ref i, .ref t, va_rf nx] [[(t, .inr (27, [.null, va_rf vs, .null, va_rf root, .int (nI n), .int (nI md), va_rf es, va_rf nk, .null]))], [(i, .inr (32, [.null, .null, .int (nI 0), .null]))]] (fun (rv_ : Option Value) (rL_ : List va_W) => rv_ = none ∧ rL_ = [[(t, .inr (27, [.null, va_rf vs, .null, va_rf root, .int (nI n), .int (nI md), va_rf es, va_rf nk, .null]))], [(i, .inr (32, [va_rf nx, .null, .int (nI md), .ref t]))]]) noX := by
  refine Ct.ofI "java/util/TreeMap$PrivateEntryIterator" [some (.ref i), some (.ref t), some (va_rf nx)] rfl (by decide) rfl (by simp [lg_sl, cat_i, cat_r, cat_n, cat_l, cat_o]) (by simp [lprs, lv_args, cat_i, cat_r, cat_n, cat_l, cat_o]) rfl ?_
  intro κ B E tb ini
  refine g_aload_n (q := 1) B dJ31_init_0 rfl rfl (rv_r _) ?_
  refine g_aload_n (q := 2) B dJ31_init_1 rfl rfl (rv_r _) ?_
  refine g_putF (q := 5) (L2 := [[(t, .inr (27, [.null, va_rf vs, .null, va_rf root, .int (nI n), .int (nI md), va_rf es, va_rf nk, .null]))], [(i, .inr (32, [.null, .null, .int (nI 0), .ref t]))]]) B (ci := 32) (k := 1) (j := 3) in_J33 tyJ33 tyJ33_ok nmJ33 rfl dJ31_init_2 rfl rfl (Nat.le_of_ble_eq_true rfl) q880 rfl rfl (ini) rfl rfl rfl (Nat.le_of_ble_eq_true rfl) rfl ?_
  refine g_aload_n (q := 6) B dJ31_init_5 rfl rfl (rv_r _) ?_
  refine g_objInit (q := 9) B q876 q157 q158 dJ31_init_6 rfl rfl (Nat.le_of_ble_eq_true rfl) ?_
  refine g_aload_n (q := 10) B dJ31_init_9 rfl rfl (rv_r _) ?_
  refine g_aload_n (q := 11) B dJ31_init_10 rfl rfl (rv_r _) ?_
  refine g_getN (q := 14) B (ci := 27) (k := 0) (j := 5) in_J10 rfl dJ31_init_11 rfl rfl (Nat.le_of_ble_eq_true rfl) q1874 rfl rfl ?_
  refine g_put (q := 17) (L2 := [[(t, .inr (27, [.null, va_rf vs, .null, va_rf root, .int (nI n), .int (nI md), va_rf es, va_rf nk, .null]))], [(i, .inr (32, [.null, .null, .int (nI md), .ref t]))]]) B (ci := 32) (k := 1) (j := 2) in_J33 tyJ33 tyJ33_ok nmJ33 rfl dJ31_init_14 rfl rfl (Nat.le_of_ble_eq_true rfl) q879 rfl rfl rfl rfl (Nat.le_of_ble_eq_true rfl) rfl ?_
  refine g_aload_n (q := 18) B dJ31_init_17 rfl rfl (rv_r _) ?_
  refine g_aconst_null (q := 19) B dJ31_init_18 rfl ?_
  refine g_put (q := 22) (L2 := [[(t, .inr (27, [.null, va_rf vs, .null, va_rf root, .int (nI n), .int (nI md), va_rf es, va_rf nk, .null]))], [(i, .inr (32, [.null, .null, .int (nI md), .ref t]))]]) B (ci := 32) (k := 1) (j := 1) in_J33 tyJ33 tyJ33_ok nmJ33 rfl dJ31_init_19 rfl rfl (Nat.le_of_ble_eq_true rfl) q878 rfl rfl rfl rfl (Nat.le_of_ble_eq_true rfl) rfl ?_
  refine g_aload_n (q := 23) B dJ31_init_22 rfl rfl (rv_r _) ?_
  refine g_aload_n (q := 24) B dJ31_init_23 rfl rfl (rv_o _) ?_
  refine g_put (q := 27) (L2 := [[(t, .inr (27, [.null, va_rf vs, .null, va_rf root, .int (nI n), .int (nI md), va_rf es, va_rf nk, .null]))], [(i, .inr (32, [va_rf nx, .null, .int (nI md), .ref t]))]]) B (ci := 32) (k := 1) (j := 0) in_J33 tyJ33 tyJ33_ok nmJ33 rfl dJ31_init_24 rfl rfl (Nat.le_of_ble_eq_true rfl) q877 rfl rfl (rv_nar (Or.inl ⟨_, rfl⟩) (rv_o _)) (rv_fit (Or.inl ⟨_, rfl⟩) (rv_o _)) (Nat.le_of_ble_eq_true rfl) rfl ?_
  exact g_vret B E dJ31_init_27 (⟨rfl, rfl⟩)
theorem moJ31_init : Mo yJ31_init 2 := by
  refine ⟨by decide, by decide, by decide +kernel⟩
theorem ct_J33_init (g : Gv) (J : Jd g) {t : Nat} {vs : Option Nat} {n : Nat} {md : Nat} {es : Option Nat} {nk : Option Nat} {root : Option Nat} {i : Nat} {nx : Option Nat} : Ct g yJ33_init (ws_ yJ33_init cJ33_init 3 none) 2 0 0 [.ref i, .ref t, va_rf nx] [[(t, .inr (27, [.null, va_rf vs, .null, va_rf root, .int (nI n), .int (nI md), va_rf es, va_rf nk, .null]))], [(i, .inr (32, [.null, .null, .int (nI 0), .null]))]] (fun (rv_ : Option Value) (rL_ : List va_W) => rv_ = none ∧ rL_ = [[(t, .inr (27, [.null, va_rf vs, .null, va_rf root, .int (nI n), .int (nI md), va_rf es, va_rf nk, .null]))], [(i, .inr (32, [va_rf nx, .null, .int (nI md), .ref t]))]]) noX := by
  refine Ct.ofI "java/util/TreeMap$KeyIterator" [some (.ref i), some (.ref t), some (va_rf nx)] rfl (by decide) rfl (by simp [lg_sl, cat_i, cat_r, cat_n, cat_l, cat_o]) (by simp [lprs, lv_args, cat_i, cat_r, cat_n, cat_l, cat_o]) rfl ?_
  intro κ B E tb ini
  refine g_aload_n (q := 1) B dJ33_init_0 rfl rfl (rv_r _) ?_
  refine g_aload_n (q := 2) B dJ33_init_1 rfl rfl (rv_r _) ?_
  refine g_aload_n (q := 3) B dJ33_init_2 rfl rfl (rv_o _) ?_
  refine g_callI (q := 6) (is := [0, 0]) (kc2 := 0) (ks2 := 0) B [.ref t, va_rf nx] (ct_J31_init_k g J (t := t) (vs := vs) (n := n) (md := md) (es := es) (nk := nk) (root := root) (i := i) (nx := nx)  ) dJ33_init_3 rfl rfl q907 q874 q116 q875 rfl rfl moJ31_init rfl rfl (by decide) (by decide) (Nat.le_of_ble_eq_true rfl) (Nat.le_of_ble_eq_true rfl) (Nat.le_of_ble_eq_true rfl) (fun _ _ hx => noX_x hx) (fun v3 L1 hp3 => ?_)
  obtain ⟨rfl, rfl⟩ := hp3
  refine (show Go g κ 6 [some (.ref i), some (.ref t), some (va_rf nx)] [] [[(t, .inr (27, [.null, va_rf vs, .null, va_rf root, .int (nI n), .int (nI md), va_rf es, va_rf nk, .null]))], [(i, .inr (32, [va_rf nx, .null, .int (nI md), .ref t]))]] 0 0 from ?_)
  exact g_vret B E dJ33_init_6 (⟨rfl, rfl⟩)
theorem ct_J31_hasNext_k (g : Gv) (J : Jd g) {i : Nat} {nx : Option Nat} {la : Option Nat} {md : Nat} {t : Nat} : Ct g yJ31_hasNext (ws_ yJ31_hasNext cJ31_hasNext 1 (some .boolean)) 0 0 0 [.ref i] [[(i, .inr (32, [va_rf nx, va_rf la, .int (nI md), .ref t]))]] (fun (rv_ : Option Value) (rL_ : List va_W) => rv_ = some (.int (nI (if nx.isSome = true then 1 else 0))) ∧ rL_ = [[(i, .inr (32, [va_rf nx, va_rf la, .int (nI md), .ref t]))]]) noX := by
  refine Ct.of "java/util/TreeMap$PrivateEntryIterator" [some (.ref i)] rfl (by decide) rfl (Nat.le_of_ble_eq_true rfl) rfl ?_
  intro κ B E tb
  refine g_aload_n (q := 1) B dJ31_hasNext_0 rfl rfl (rv_r _) ?_
  refine g_get (q := 4) B (ci := 32) (k := 0) (j := 0) in_J33 rfl dJ31_hasNext_1 rfl rfl (Nat.le_of_ble_eq_true rfl) q877 rfl rfl ?_
  refine g_ifnull_o (tgt := 11) (q := 7) B dJ31_hasNext_4 rfl (by decide) (fun c4 => ?_) (fun nx_a4 c4 => ?_)
  · skip
    subst c4
    refine g_iconst (v := nI 0) (q := 12) B dJ31_hasNext_11 rfl (by decide) ?_
    exact g_zret B E dJ31_hasNext_12 (by decide) (⟨bo0 (by simp), rfl⟩)
  · skip
    subst c4
    refine g_iconst (v := nI 1) (q := 8) B dJ31_hasNext_7 rfl (by decide) ?_
    refine g_goto (tgt := 12) B dJ31_hasNext_8 (by decide) ?_
    exact g_zret B E dJ31_hasNext_12 (by decide) (⟨bo1 (by simp), rfl⟩)
theorem moJ10_successor : Mo yJ10_successor 1 := by
  refine ⟨by decide, by decide, by decide +kernel⟩
theorem ct_J31_nextEntry_k (g : Gv) (J : Jd g) {t : Nat} {vs : Option Nat} {n : Nat} {md : Nat} {es : Option Nat} {nk : Option Nat} {ns : List Nat} {key : Nat → Nat} {val : Nat → Nat} {l : Nat → Option Nat} {r : Nat → Option Nat} {p : Nat → Option Nat} {col : Nat → Bool} {lo : Nat → Nat} {hi : Nat → Nat} {root : Option Nat} {M : Nat} {i : Nat} {a : Nat} {la : Option Nat} {w1 : va_W} (hw1 : EntG g ns key val l r p col w1) (hT : Tr ns key l r p lo hi root M) (ha : a ∈ ns) : Ct g yJ31_nextEntry (ws_ yJ31_nextEntry cJ31_nextEntry 2 (some (.object "java/util/TreeMap$Entry"))) 1 0 0 [.ref i] [[(t, .inr (27, [.null, va_rf vs, .null, va_rf root, .int (nI n), .int (nI md), va_rf es, va_rf nk, .null]))], w1, [(i, .inr (32, [.ref a, va_rf la, .int (nI md), .ref t]))]] (fun (rv_ : Option Value) (rL_ : List va_W) => ∃ (e : Option Nat), rv_ = some (.ref a) ∧ rL_ = [[(t, .inr (27, [.null, va_rf vs, .null, va_rf root, .int (nI n), .int (nI md), va_rf es, va_rf nk, .null]))], w1, [(i, .inr (32, [va_rf e, .ref a, .int (nI md), .ref t]))]] ∧ (Lf ns key (key a + 1) e)) noX := by
  refine Ct.of "java/util/TreeMap$PrivateEntryIterator" [some (.ref i), none] rfl (by decide) rfl (Nat.le_of_ble_eq_true rfl) rfl ?_
  intro κ B E tb
  refine g_aload_n (q := 1) B dJ31_nextEntry_0 rfl rfl (rv_r _) ?_
  refine g_get (q := 4) B (ci := 32) (k := 2) (j := 0) in_J33 rfl dJ31_nextEntry_1 rfl rfl (Nat.le_of_ble_eq_true rfl) q877 rfl rfl ?_
  refine g_astore_n (q := 5) (lv2 := [some (.ref i), some (.ref a)]) B dJ31_nextEntry_4 rfl (Nat.le_of_ble_eq_true rfl) (rv_r _) rfl ?_
  refine g_aload_n (q := 6) B dJ31_nextEntry_5 rfl rfl (rv_r _) ?_
  refine g_ifnonnull_r (tgt := 17) B dJ31_nextEntry_6 (by decide) ?_
  refine g_aload_n (q := 18) B dJ31_nextEntry_17 rfl rfl (rv_r _) ?_
  refine g_get (q := 21) B (ci := 32) (k := 2) (j := 3) in_J33 rfl dJ31_nextEntry_18 rfl rfl (Nat.le_of_ble_eq_true rfl) q880 rfl rfl ?_
  refine g_getN (q := 24) B (ci := 27) (k := 0) (j := 5) in_J10 rfl dJ31_nextEntry_21 rfl rfl (Nat.le_of_ble_eq_true rfl) q1874 rfl rfl ?_
  refine g_aload_n (q := 25) B dJ31_nextEntry_24 rfl rfl (rv_r _) ?_
  refine g_get (q := 28) B (ci := 32) (k := 2) (j := 2) in_J33 rfl dJ31_nextEntry_25 rfl rfl (Nat.le_of_ble_eq_true rfl) q879 rfl rfl ?_
  refine g_icmp_eq (tgt := 39) (q := 31) B dJ31_nextEntry_28 rfl (by decide) (iff_true_intro (rfl)) (fun _ => ?_) (fun z => absurd trivial z)
  refine g_aload_n (q := 40) B dJ31_nextEntry_39 rfl rfl (rv_r _) ?_
  refine g_aload_n (q := 41) B dJ31_nextEntry_40 rfl rfl (rv_r _) ?_
  refine g_callS (q := 44) (is := [1]) (kc2 := 0) (ks2 := 0) B [.ref a] (ct_J10_successor g J (ns := ns) (key := key) (val := val) (l := l) (r := r) (p := p) (col := col) (lo := lo) (hi := hi) (root := root) (M := M) (a := a) hw1 (by first | assumption | omega | rfl) (by first | assumption | omega | rfl)) dJ31_nextEntry_41 rfl q1031 q1032 q91 q1033 rfl rfl moJ10_successor rfl rfl (by decide) (by decide) (Nat.le_of_ble_eq_true rfl) (Nat.le_of_ble_eq_true rfl) (Nat.le_of_ble_eq_true rfl) (fun _ _ hx => noX_x hx) (fun v41 L1 hp41 => ?_)
  obtain ⟨e41, rfl, rfl, he_41, hlf_41⟩ := hp41
  refine (show Go g κ 44 [some (.ref i), some (.ref a)] [va_rf e41, .ref i] [[(t, .inr (27, [.null, va_rf vs, .null, va_rf root, .int (nI n), .int (nI md), va_rf es, va_rf nk, .null]))], [(i, .inr (32, [.ref a, va_rf la, .int (nI md), .ref t]))], w1] 0 0 from ?_)
  refine g_put (q := 47) (L2 := [[(t, .inr (27, [.null, va_rf vs, .null, va_rf root, .int (nI n), .int (nI md), va_rf es, va_rf nk, .null]))], [(i, .inr (32, [va_rf e41, va_rf la, .int (nI md), .ref t]))], w1]) B (ci := 32) (k := 1) (j := 0) in_J33 tyJ33 tyJ33_ok nmJ33 rfl dJ31_nextEntry_44 rfl rfl (Nat.le_of_ble_eq_true rfl) q877 rfl rfl (rv_nar (Or.inl ⟨_, rfl⟩) (rv_o _)) (rv_fit (Or.inl ⟨_, rfl⟩) (rv_o _)) (Nat.le_of_ble_eq_true rfl) rfl ?_
  refine g_aload_n (q := 48) B dJ31_nextEntry_47 rfl rfl (rv_r _) ?_
  refine g_aload_n (q := 49) B dJ31_nextEntry_48 rfl rfl (rv_r _) ?_
  refine g_put (q := 52) (L2 := [[(t, .inr (27, [.null, va_rf vs, .null, va_rf root, .int (nI n), .int (nI md), va_rf es, va_rf nk, .null]))], [(i, .inr (32, [va_rf e41, .ref a, .int (nI md), .ref t]))], w1]) B (ci := 32) (k := 1) (j := 1) in_J33 tyJ33 tyJ33_ok nmJ33 rfl dJ31_nextEntry_49 rfl rfl (Nat.le_of_ble_eq_true rfl) q878 rfl rfl rfl rfl (Nat.le_of_ble_eq_true rfl) rfl ?_
  refine g_aload_n (q := 53) B dJ31_nextEntry_52 rfl rfl (rv_r _) ?_
  refine g_pk [0, 1, 0] rfl rfl ?_
  refine (show Go g κ 53 [some (.ref i), some (.ref a)] [.ref a] [[(t, .inr (27, [.null, va_rf vs, .null, va_rf root, .int (nI n), .int (nI md), va_rf es, va_rf nk, .null]))], w1, [(i, .inr (32, [va_rf e41, .ref a, .int (nI md), .ref t]))]] 0 0 from ?_)
  exact g_aret B E dJ31_nextEntry_53 (by first | exact Or.inl ⟨_, rfl⟩ | exact Or.inr ⟨_, rfl⟩) (rv_r _) (⟨e41, rfl, rfl, by first | assumption | omega | rfl | simp_all⟩)
theorem ct_J31_init_v (g : Gv) (J : Jd g) {t : Nat} {vs : Option Nat} {n : Nat} {md : Nat} {es : Option Nat} {nk : Option Nat} {root : Option Nat} {i : Nat} {nx : Option Nat} : Ct g yJ31_init (ws_ yJ31_init cJ31_init 3 none) 1 0 0 [.ref i, .ref t, va_rf nx] [[(t, .inr (27, [.null, va_rf vs, .null, va_rf root, .int (nI n), .int (nI md), va_rf es, va_rf nk, .null]))], [(i, .inr (33, [.null, .null, .int (nI 0), .null]))]] (fun (rv_ : Option Value) (rL_ : List va_W) => rv_ = none ∧ rL_ = [[(t, .inr (27, [.null, va_rf vs, .null, va_rf root, .int (nI n), .int (nI md), va_rf es, va_rf nk, .null]))], [(i, .inr (33, [va_rf nx, .null, .int (nI md), .ref t]))]]) noX := by
  refine Ct.ofI "java/util/TreeMap$PrivateEntryIterator" [some (.ref i), some (.ref t), some (va_rf nx)] rfl (by decide) rfl (by simp [lg_sl, cat_i, cat_r, cat_n, cat_l, cat_o]) (by simp [lprs, lv_args, cat_i, cat_r, cat_n, cat_l, cat_o]) rfl ?_
  intro κ B E tb ini
  refine g_aload_n (q := 1) B dJ31_init_0 rfl rfl (rv_r _) ?_
  refine g_aload_n (q := 2) B dJ31_init_1 rfl rfl (rv_r _) ?_
  refine g_putF (q := 5) (L2 := [[(t, .inr (27, [.null, va_rf vs, .null, va_rf root, .int (nI n), .int (nI md), va_rf es, va_rf nk, .null]))], [(i, .inr (33, [.null, .null, .int (nI 0), .ref t]))]]) B (ci := 33) (k := 1) (j := 3) in_J34 tyJ34 tyJ34_ok nmJ34 rfl dJ31_init_2 rfl rfl (Nat.le_of_ble_eq_true rfl) q880 rfl rfl (ini) rfl rfl rfl (Nat.le_of_ble_eq_true rfl) rfl ?_
  refine g_aload_n (q := 6) B dJ31_init_5 rfl rfl (rv_r _) ?_
  refine g_objInit (q := 9) B q876 q157 q158 dJ31_init_6 rfl rfl (Nat.le_of_ble_eq_true rfl) ?_
  refine g_aload_n (q := 10) B dJ31_init_9 rfl rfl (rv_r _) ?_
  refine g_aload_n (q := 11) B dJ31_init_10 rfl rfl (rv_r _) ?_
  refine g_getN (q := 14) B (ci := 27) (k := 0) (j := 5) in_J10 rfl dJ31_init_11 rfl rfl (Nat.le_of_ble_eq_true rfl) q1874 rfl rfl ?_
  refine g_put (q := 17) (L2 := [[(t, .inr (27, [.null, va_rf vs, .null, va_rf root, .int (nI n), .int (nI md), va_rf es, va_rf nk, .null]))], [(i, .inr (33, [.null, .null, .int (nI md), .ref t]))]]) B (ci := 33) (k := 1) (j := 2) in_J34 tyJ34 tyJ34_ok nmJ34 rfl dJ31_init_14 rfl rfl (Nat.le_of_ble_eq_true rfl) q879 rfl rfl rfl rfl (Nat.le_of_ble_eq_true rfl) rfl ?_
  refine g_aload_n (q := 18) B dJ31_init_17 rfl rfl (rv_r _) ?_
  refine g_aconst_null (q := 19) B dJ31_init_18 rfl ?_
  refine g_put (q := 22) (L2 := [[(t, .inr (27, [.null, va_rf vs, .null, va_rf root, .int (nI n), .int (nI md), va_rf es, va_rf nk, .null]))], [(i, .inr (33, [.null, .null, .int (nI md), .ref t]))]]) B (ci := 33) (k := 1) (j := 1) in_J34 tyJ34 tyJ34_ok nmJ34 rfl dJ31_init_19 rfl rfl (Nat.le_of_ble_eq_true rfl) q878 rfl rfl rfl rfl (Nat.le_of_ble_eq_true rfl) rfl ?_
  refine g_aload_n (q := 23) B dJ31_init_22 rfl rfl (rv_r _) ?_
  refine g_aload_n (q := 24) B dJ31_init_23 rfl rfl (rv_o _) ?_
  refine g_put (q := 27) (L2 := [[(t, .inr (27, [.null, va_rf vs, .null, va_rf root, .int (nI n), .int (nI md), va_rf es, va_rf nk, .null]))], [(i, .inr (33, [va_rf nx, .null, .int (nI md), .ref t]))]]) B (ci := 33) (k := 1) (j := 0) in_J34 tyJ34 tyJ34_ok nmJ34 rfl dJ31_init_24 rfl rfl (Nat.le_of_ble_eq_true rfl) q877 rfl rfl (rv_nar (Or.inl ⟨_, rfl⟩) (rv_o _)) (rv_fit (Or.inl ⟨_, rfl⟩) (rv_o _)) (Nat.le_of_ble_eq_true rfl) rfl ?_
  exact g_vret B E dJ31_init_27 (⟨rfl, rfl⟩)
theorem ct_J34_init (g : Gv) (J : Jd g) {t : Nat} {vs : Option Nat} {n : Nat} {md : Nat} {es : Option Nat} {nk : Option Nat} {root : Option Nat} {i : Nat} {nx : Option Nat} : Ct g yJ34_init (ws_ yJ34_init cJ34_init 3 none) 2 0 0 [.ref i, .ref t, va_rf nx] [[(t, .inr (27, [.null, va_rf vs, .null, va_rf root, .int (nI n), .int (nI md), va_rf es, va_rf nk, .null]))], [(i, .inr (33, [.null, .null, .int (nI 0), .null]))]] (fun (rv_ : Option Value) (rL_ : List va_W) => rv_ = none ∧ rL_ = [[(t, .inr (27, [.null, va_rf vs, .null, va_rf root, .int (nI n), .int (nI md), va_rf es, va_rf nk, .null]))], [(i, .inr (33, [va_rf nx, .null, .int (nI md), .ref t]))]]) noX := by
  refine Ct.ofI "java/util/TreeMap$ValueIterator" [some (.ref i), some (.ref t), some (va_rf nx)] rfl (by decide) rfl (by simp [lg_sl, cat_i, cat_r, cat_n, cat_l, cat_o]) (by simp [lprs, lv_args, cat_i, cat_r, cat_n, cat_l, cat_o]) rfl ?_
  intro κ B E tb ini
  refine g_aload_n (q := 1) B dJ34_init_0 rfl rfl (rv_r _) ?_
  refine g_aload_n (q := 2) B dJ34_init_1 rfl rfl (rv_r _) ?_
  refine g_aload_n (q := 3) B dJ34_init_2 rfl rfl (rv_o _) ?_
  refine g_callI (q := 6) (is := [0, 0]) (kc2 := 0) (ks2 := 0) B [.ref t, va_rf nx] (ct_J31_init_v g J (t := t) (vs := vs) (n := n) (md := md) (es := es) (nk := nk) (root := root) (i := i) (nx := nx)  ) dJ34_init_3 rfl rfl q929 q874 q116 q875 rfl rfl moJ31_init rfl rfl (by decide) (by decide) (Nat.le_of_ble_eq_true rfl) (Nat.le_of_ble_eq_true rfl) (Nat.le_of_ble_eq_true rfl) (fun _ _ hx => noX_x hx) (fun v3 L1 hp3 => ?_)
  obtain ⟨rfl, rfl⟩ := hp3
  refine (show Go g κ 6 [some (.ref i), some (.ref t), some (va_rf nx)] [] [[(t, .inr (27, [.null, va_rf vs, .null, va_rf root, .int (nI n), .int (nI md), va_rf es, va_rf nk, .null]))], [(i, .inr (33, [va_rf nx, .null, .int (nI md), .ref t]))]] 0 0 from ?_)
  exact g_vret B E dJ34_init_6 (⟨rfl, rfl⟩)
theorem ct_J31_hasNext_v (g : Gv) (J : Jd g) {i : Nat} {nx : Option Nat} {la : Option Nat} {md : Nat} {t : Nat} : Ct g yJ31_hasNext (ws_ yJ31_hasNext cJ31_hasNext 1 (some .boolean)) 0 0 0 [.ref i] [[(i, .inr (33, [va_rf nx, va_rf la, .int (nI md), .ref t]))]] (fun (rv_ : Option Value) (rL_ : List va_W) => rv_ = some (.int (nI (if nx.isSome = true then 1 else 0))) ∧ rL_ = [[(i, .inr (33, [va_rf nx, va_rf la, .int (nI md), .ref t]))]]) noX := by
  refine Ct.of "java/util/TreeMap$PrivateEntryIterator" [some (.ref i)] rfl (by decide) rfl (Nat.le_of_ble_eq_true rfl) rfl ?_
  intro κ B E tb
  refine g_aload_n (q := 1) B dJ31_hasNext_0 rfl rfl (rv_r _) ?_
  refine g_get (q := 4) B (ci := 33) (k := 0) (j := 0) in_J34 rfl dJ31_hasNext_1 rfl rfl (Nat.le_of_ble_eq_true rfl) q877 rfl rfl ?_
  refine g_ifnull_o (tgt := 11) (q := 7) B dJ31_hasNext_4 rfl (by decide) (fun c4 => ?_) (fun nx_a4 c4 => ?_)
  · skip
    subst c4
    refine g_iconst (v := nI 0) (q := 12) B dJ31_hasNext_11 rfl (by decide) ?_
    exact g_zret B E dJ31_hasNext_12 (by decide) (⟨bo0 (by simp), rfl⟩)
  · skip
    subst c4
    refine g_iconst (v := nI 1) (q := 8) B dJ31_hasNext_7 rfl (by decide) ?_
    refine g_goto (tgt := 12) B dJ31_hasNext_8 (by decide) ?_
    exact g_zret B E dJ31_hasNext_12 (by decide) (⟨bo1 (by simp), rfl⟩)
theorem ct_J31_nextEntry_v (g : Gv) (J : Jd g) {t : Nat} {vs : Option Nat} {n : Nat} {md : Nat} {es : Option Nat} {nk : Option Nat} {ns : List Nat} {key : Nat → Nat} {val : Nat → Nat} {l : Nat → Option Nat} {r : Nat → Option Nat} {p : Nat → Option Nat} {col : Nat → Bool} {lo : Nat → Nat} {hi : Nat → Nat} {root : Option Nat} {M : Nat} {i : Nat} {a : Nat} {la : Option Nat} {w1 : va_W} (hw1 : EntG g ns key val l r p col w1) (hT : Tr ns key l r p lo hi root M) (ha : a ∈ ns) : Ct g yJ31_nextEntry (ws_ yJ31_nextEntry cJ31_nextEntry 2 (some (.object "java/util/TreeMap$Entry"))) 1 0 0 [.ref i] [[(t, .inr (27, [.null, va_rf vs, .null, va_rf root, .int (nI n), .int (nI md), va_rf es, va_rf nk, .null]))], w1, [(i, .inr (33, [.ref a, va_rf la, .int (nI md), .ref t]))]] (fun (rv_ : Option Value) (rL_ : List va_W) => ∃ (e : Option Nat), rv_ = some (.ref a) ∧ rL_ = [[(t, .inr (27, [.null, va_rf vs, .null, va_rf root, .int (nI n), .int (nI md), va_rf es, va_rf nk, .null]))], w1, [(i, .inr (33, [va_rf e, .ref a, .int (nI md), .ref t]))]] ∧ (Lf ns key (key a + 1) e)) noX := by
  refine Ct.of "java/util/TreeMap$PrivateEntryIterator" [some (.ref i), none] rfl (by decide) rfl (Nat.le_of_ble_eq_true rfl) rfl ?_
  intro κ B E tb
  refine g_aload_n (q := 1) B dJ31_nextEntry_0 rfl rfl (rv_r _) ?_
  refine g_get (q := 4) B (ci := 33) (k := 2) (j := 0) in_J34 rfl dJ31_nextEntry_1 rfl rfl (Nat.le_of_ble_eq_true rfl) q877 rfl rfl ?_
  refine g_astore_n (q := 5) (lv2 := [some (.ref i), some (.ref a)]) B dJ31_nextEntry_4 rfl (Nat.le_of_ble_eq_true rfl) (rv_r _) rfl ?_
  refine g_aload_n (q := 6) B dJ31_nextEntry_5 rfl rfl (rv_r _) ?_
  refine g_ifnonnull_r (tgt := 17) B dJ31_nextEntry_6 (by decide) ?_
  refine g_aload_n (q := 18) B dJ31_nextEntry_17 rfl rfl (rv_r _) ?_
  refine g_get (q := 21) B (ci := 33) (k := 2) (j := 3) in_J34 rfl dJ31_nextEntry_18 rfl rfl (Nat.le_of_ble_eq_true rfl) q880 rfl rfl ?_
  refine g_getN (q := 24) B (ci := 27) (k := 0) (j := 5) in_J10 rfl dJ31_nextEntry_21 rfl rfl (Nat.le_of_ble_eq_true rfl) q1874 rfl rfl ?_
  refine g_aload_n (q := 25) B dJ31_nextEntry_24 rfl rfl (rv_r _) ?_
  refine g_get (q := 28) B (ci := 33) (k := 2) (j := 2) in_J34 rfl dJ31_nextEntry_25 rfl rfl (Nat.le_of_ble_eq_true rfl) q879 rfl rfl ?_
  refine g_icmp_eq (tgt := 39) (q := 31) B dJ31_nextEntry_28 rfl (by decide) (iff_true_intro (rfl)) (fun _ => ?_) (fun z => absurd trivial z)
  refine g_aload_n (q := 40) B dJ31_nextEntry_39 rfl rfl (rv_r _) ?_
  refine g_aload_n (q := 41) B dJ31_nextEntry_40 rfl rfl (rv_r _) ?_
  refine g_callS (q := 44) (is := [1]) (kc2 := 0) (ks2 := 0) B [.ref a] (ct_J10_successor g J (ns := ns) (key := key) (val := val) (l := l) (r := r) (p := p) (col := col) (lo := lo) (hi := hi) (root := root) (M := M) (a := a) hw1 (by first | assumption | omega | rfl) (by first | assumption | omega | rfl)) dJ31_nextEntry_41 rfl q1031 q1032 q91 q1033 rfl rfl moJ10_successor rfl rfl (by decide) (by decide) (Nat.le_of_ble_eq_true rfl) (Nat.le_of_ble_eq_true rfl) (Nat.le_of_ble_eq_true rfl) (fun _ _ hx => noX_x hx) (fun v41 L1 hp41 => ?_)
  obtain ⟨e41, rfl, rfl, he_41, hlf_41⟩ := hp41
  refine (show Go g κ 44 [some (.ref i), some (.ref a)] [va_rf e41, .ref i] [[(t, .inr (27, [.null, va_rf vs, .null, va_rf root, .int (nI n), .int (nI md), va_rf es, va_rf nk, .null]))], [(i, .inr (33, [.ref a, va_rf la, .int (nI md), .ref t]))], w1] 0 0 from ?_)
  refine g_put (q := 47) (L2 := [[(t, .inr (27, [.null, va_rf vs, .null, va_rf root, .int (nI n), .int (nI md), va_rf es, va_rf nk, .null]))], [(i, .inr (33, [va_rf e41, va_rf la, .int (nI md), .ref t]))], w1]) B (ci := 33) (k := 1) (j := 0) in_J34 tyJ34 tyJ34_ok nmJ34 rfl dJ31_nextEntry_44 rfl rfl (Nat.le_of_ble_eq_true rfl) q877 rfl rfl (rv_nar (Or.inl ⟨_, rfl⟩) (rv_o _)) (rv_fit (Or.inl ⟨_, rfl⟩) (rv_o _)) (Nat.le_of_ble_eq_true rfl) rfl ?_
  refine g_aload_n (q := 48) B dJ31_nextEntry_47 rfl rfl (rv_r _) ?_
  refine g_aload_n (q := 49) B dJ31_nextEntry_48 rfl rfl (rv_r _) ?_
  refine g_put (q := 52) (L2 := [[(t, .inr (27, [.null, va_rf vs, .null, va_rf root, .int (nI n), .int (nI md), va_rf es, va_rf nk, .null]))], [(i, .inr (33, [va_rf e41, .ref a, .int (nI md), .ref t]))], w1]) B (ci := 33) (k := 1) (j := 1) in_J34 tyJ34 tyJ34_ok nmJ34 rfl dJ31_nextEntry_49 rfl rfl (Nat.le_of_ble_eq_true rfl) q878 rfl rfl rfl rfl (Nat.le_of_ble_eq_true rfl) rfl ?_
  refine g_aload_n (q := 53) B dJ31_nextEntry_52 rfl rfl (rv_r _) ?_
  refine g_pk [0, 1, 0] rfl rfl ?_
  refine (show Go g κ 53 [some (.ref i), some (.ref a)] [.ref a] [[(t, .inr (27, [.null, va_rf vs, .null, va_rf root, .int (nI n), .int (nI md), va_rf es, va_rf nk, .null]))], w1, [(i, .inr (33, [va_rf e41, .ref a, .int (nI md), .ref t]))]] 0 0 from ?_)
  exact g_aret B E dJ31_nextEntry_53 (by first | exact Or.inl ⟨_, rfl⟩ | exact Or.inr ⟨_, rfl⟩) (rv_r _) (⟨e41, rfl, rfl, by first | assumption | omega | rfl | simp_all⟩)
theorem ct_J31_init_e (g : Gv) (J : Jd g) {t : Nat} {vs : Option Nat} {n : Nat} {md : Nat} {es : Option Nat} {nk : Option Nat} {root : Option Nat} {i : Nat} {nx : Option Nat} : Ct g yJ31_init (ws_ yJ31_init cJ31_init 3 none) 1 0 0 [.ref i, .ref t, va_rf nx] [[(t, .inr (27, [.null, va_rf vs, .null, va_rf root, .int (nI n), .int (nI md), va_rf es, va_rf nk, .null]))], [(i, .inr (34, [.null, .null, .int (nI 0), .null]))]] (fun (rv_ : Option Value) (rL_ : List va_W) => rv_ = none ∧ rL_ = [[(t, .inr (27, [.null, va_rf vs, .null, va_rf root, .int (nI n), .int (nI md), va_rf es, va_rf nk, .null]))], [(i, .inr (34, [va_rf nx, .null, .int (nI md), .ref t]))]]) noX := by
  refine Ct.ofI "java/util/TreeMap$PrivateEntryIterator" [some (.ref i), some (.ref t), some (va_rf nx)] rfl (by decide) rfl (by simp [lg_sl, cat_i, cat_r, cat_n, cat_l, cat_o]) (by simp [lprs, lv_args, cat_i, cat_r, cat_n, cat_l, cat_o]) rfl ?_
  intro κ B E tb ini
  refine g_aload_n (q := 1) B dJ31_init_0 rfl rfl (rv_r _) ?_
  refine g_aload_n (q := 2) B dJ31_init_1 rfl rfl (rv_r _) ?_
  refine g_putF (q := 5) (L2 := [[(t, .inr (27, [.null, va_rf vs, .null, va_rf root, .int (nI n), .int (nI md), va_rf es, va_rf nk, .null]))], [(i, .inr (34, [.null, .null, .int (nI 0), .ref t]))]]) B (ci := 34) (k := 1) (j := 3) in_J32 tyJ32 tyJ32_ok nmJ32 rfl dJ31_init_2 rfl rfl (Nat.le_of_ble_eq_true rfl) q880 rfl rfl (ini) rfl rfl rfl (Nat.le_of_ble_eq_true rfl) rfl ?_
  refine g_aload_n (q := 6) B dJ31_init_5 rfl rfl (rv_r _) ?_
  refine g_objInit (q := 9) B q876 q157 q158 dJ31_init_6 rfl rfl (Nat.le_of_ble_eq_true rfl) ?_
  refine g_aload_n (q := 10) B dJ31_init_9 rfl rfl (rv_r _) ?_
  refine g_aload_n (q := 11) B dJ31_init_10 rfl rfl (rv_r _) ?_
  refine g_getN (q := 14) B (ci := 27) (k := 0) (j := 5) in_J10 rfl dJ31_init_11 rfl rfl (Nat.le_of_ble_eq_true rfl) q1874 rfl rfl ?_
  refine g_put (q := 17) (L2 := [[(t, .inr (27, [.null, va_rf vs, .null, va_rf root, .int (nI n), .int (nI md), va_rf es, va_rf nk, .null]))], [(i, .inr (34, [.null, .null, .int (nI md), .ref t]))]]) B (ci := 34) (k := 1) (j := 2) in_J32 tyJ32 tyJ32_ok nmJ32 rfl dJ31_init_14 rfl rfl (Nat.le_of_ble_eq_true rfl) q879 rfl rfl rfl rfl (Nat.le_of_ble_eq_true rfl) rfl ?_
  refine g_aload_n (q := 18) B dJ31_init_17 rfl rfl (rv_r _) ?_
  refine g_aconst_null (q := 19) B dJ31_init_18 rfl ?_
  refine g_put (q := 22) (L2 := [[(t, .inr (27, [.null, va_rf vs, .null, va_rf root, .int (nI n), .int (nI md), va_rf es, va_rf nk, .null]))], [(i, .inr (34, [.null, .null, .int (nI md), .ref t]))]]) B (ci := 34) (k := 1) (j := 1) in_J32 tyJ32 tyJ32_ok nmJ32 rfl dJ31_init_19 rfl rfl (Nat.le_of_ble_eq_true rfl) q878 rfl rfl rfl rfl (Nat.le_of_ble_eq_true rfl) rfl ?_
  refine g_aload_n (q := 23) B dJ31_init_22 rfl rfl (rv_r _) ?_
  refine g_aload_n (q := 24) B dJ31_init_23 rfl rfl (rv_o _) ?_
  refine g_put (q := 27) (L2 := [[(t, .inr (27, [.null, va_rf vs, .null, va_rf root, .int (nI n), .int (nI md), va_rf es, va_rf nk, .null]))], [(i, .inr (34, [va_rf nx, .null, .int (nI md), .ref t]))]]) B (ci := 34) (k := 1) (j := 0) in_J32 tyJ32 tyJ32_ok nmJ32 rfl dJ31_init_24 rfl rfl (Nat.le_of_ble_eq_true rfl) q877 rfl rfl (rv_nar (Or.inl ⟨_, rfl⟩) (rv_o _)) (rv_fit (Or.inl ⟨_, rfl⟩) (rv_o _)) (Nat.le_of_ble_eq_true rfl) rfl ?_
  exact g_vret B E dJ31_init_27 (⟨rfl, rfl⟩)
theorem ct_J32_init (g : Gv) (J : Jd g) {t : Nat} {vs : Option Nat} {n : Nat} {md : Nat} {es : Option Nat} {nk : Option Nat} {root : Option Nat} {i : Nat} {nx : Option Nat} : Ct g yJ32_init (ws_ yJ32_init cJ32_init 3 none) 2 0 0 [.ref i, .ref t, va_rf nx] [[(t, .inr (27, [.null, va_rf vs, .null, va_rf root, .int (nI n), .int (nI md), va_rf es, va_rf nk, .null]))], [(i, .inr (34, [.null, .null, .int (nI 0), .null]))]] (fun (rv_ : Option Value) (rL_ : List va_W) => rv_ = none ∧ rL_ = [[(t, .inr (27, [.null, va_rf vs, .null, va_rf root, .int (nI n), .int (nI md), va_rf es, va_rf nk, .null]))], [(i, .inr (34, [va_rf nx, .null, .int (nI md), .ref t]))]]) noX := by
  refine Ct.ofI "java/util/TreeMap$EntryIterator" [some (.ref i), some (.ref t), some (va_rf nx)] rfl (by decide) rfl (by simp [lg_sl, cat_i, cat_r, cat_n, cat_l, cat_o]) (by simp [lprs, lv_args, cat_i, cat_r, cat_n, cat_l, cat_o]) rfl ?_
  intro κ B E tb ini
  refine g_aload_n (q := 1) B dJ32_init_0 rfl rfl (rv_r _) ?_
  refine g_aload_n (q := 2) B dJ32_init_1 rfl rfl (rv_r _) ?_
  refine g_aload_n (q := 3) B dJ32_init_2 rfl rfl (rv_o _) ?_
  refine g_callI (q := 6) (is := [0, 0]) (kc2 := 0) (ks2 := 0) B [.ref t, va_rf nx] (ct_J31_init_e g J (t := t) (vs := vs) (n := n) (md := md) (es := es) (nk := nk) (root := root) (i := i) (nx := nx)  ) dJ32_init_3 rfl rfl q873 q874 q116 q875 rfl rfl moJ31_init rfl rfl (by decide) (by decide) (Nat.le_of_ble_eq_true rfl) (Nat.le_of_ble_eq_true rfl) (Nat.le_of_ble_eq_true rfl) (fun _ _ hx => noX_x hx) (fun v3 L1 hp3 => ?_)
  obtain ⟨rfl, rfl⟩ := hp3
  refine (show Go g κ 6 [some (.ref i), some (.ref t), some (va_rf nx)] [] [[(t, .inr (27, [.null, va_rf vs, .null, va_rf root, .int (nI n), .int (nI md), va_rf es, va_rf nk, .null]))], [(i, .inr (34, [va_rf nx, .null, .int (nI md), .ref t]))]] 0 0 from ?_)
  exact g_vret B E dJ32_init_6 (⟨rfl, rfl⟩)
theorem ct_J31_hasNext_e (g : Gv) (J : Jd g) {i : Nat} {nx : Option Nat} {la : Option Nat} {md : Nat} {t : Nat} : Ct g yJ31_hasNext (ws_ yJ31_hasNext cJ31_hasNext 1 (some .boolean)) 0 0 0 [.ref i] [[(i, .inr (34, [va_rf nx, va_rf la, .int (nI md), .ref t]))]] (fun (rv_ : Option Value) (rL_ : List va_W) => rv_ = some (.int (nI (if nx.isSome = true then 1 else 0))) ∧ rL_ = [[(i, .inr (34, [va_rf nx, va_rf la, .int (nI md), .ref t]))]]) noX := by
  refine Ct.of "java/util/TreeMap$PrivateEntryIterator" [some (.ref i)] rfl (by decide) rfl (Nat.le_of_ble_eq_true rfl) rfl ?_
  intro κ B E tb
  refine g_aload_n (q := 1) B dJ31_hasNext_0 rfl rfl (rv_r _) ?_
  refine g_get (q := 4) B (ci := 34) (k := 0) (j := 0) in_J32 rfl dJ31_hasNext_1 rfl rfl (Nat.le_of_ble_eq_true rfl) q877 rfl rfl ?_
  refine g_ifnull_o (tgt := 11) (q := 7) B dJ31_hasNext_4 rfl (by decide) (fun c4 => ?_) (fun nx_a4 c4 => ?_)
  · skip
    subst c4
    refine g_iconst (v := nI 0) (q := 12) B dJ31_hasNext_11 rfl (by decide) ?_
    exact g_zret B E dJ31_hasNext_12 (by decide) (⟨bo0 (by simp), rfl⟩)
  · skip
    subst c4
    refine g_iconst (v := nI 1) (q := 8) B dJ31_hasNext_7 rfl (by decide) ?_
    refine g_goto (tgt := 12) B dJ31_hasNext_8 (by decide) ?_
    exact g_zret B E dJ31_hasNext_12 (by decide) (⟨bo1 (by simp), rfl⟩)
theorem ct_J31_nextEntry_e (g : Gv) (J : Jd g) {t : Nat} {vs : Option Nat} {n : Nat} {md : Nat} {es : Option Nat} {nk : Option Nat} {ns : List Nat} {key : Nat → Nat} {val : Nat → Nat} {l : Nat → Option Nat} {r : Nat → Option Nat} {p : Nat → Option Nat} {col : Nat → Bool} {lo : Nat → Nat} {hi : Nat → Nat} {root : Option Nat} {M : Nat} {i : Nat} {a : Nat} {la : Option Nat} {w1 : va_W} (hw1 : EntG g ns key val l r p col w1) (hT : Tr ns key l r p lo hi root M) (ha : a ∈ ns) : Ct g yJ31_nextEntry (ws_ yJ31_nextEntry cJ31_nextEntry 2 (some (.object "java/util/TreeMap$Entry"))) 1 0 0 [.ref i] [[(t, .inr (27, [.null, va_rf vs, .null, va_rf root, .int (nI n), .int (nI md), va_rf es, va_rf nk, .null]))], w1, [(i, .inr (34, [.ref a, va_rf la, .int (nI md), .ref t]))]] (fun (rv_ : Option Value) (rL_ : List va_W) => ∃ (e : Option Nat), rv_ = some (.ref a) ∧ rL_ = [[(t, .inr (27, [.null, va_rf vs, .null, va_rf root, .int (nI n), .int (nI md), va_rf es, va_rf nk, .null]))], w1, [(i, .inr (34, [va_rf e, .ref a, .int (nI md), .ref t]))]] ∧ (Lf ns key (key a + 1) e)) noX := by
  refine Ct.of "java/util/TreeMap$PrivateEntryIterator" [some (.ref i), none] rfl (by decide) rfl (Nat.le_of_ble_eq_true rfl) rfl ?_
  intro κ B E tb
  refine g_aload_n (q := 1) B dJ31_nextEntry_0 rfl rfl (rv_r _) ?_
  refine g_get (q := 4) B (ci := 34) (k := 2) (j := 0) in_J32 rfl dJ31_nextEntry_1 rfl rfl (Nat.le_of_ble_eq_true rfl) q877 rfl rfl ?_
  refine g_astore_n (q := 5) (lv2 := [some (.ref i), some (.ref a)]) B dJ31_nextEntry_4 rfl (Nat.le_of_ble_eq_true rfl) (rv_r _) rfl ?_
  refine g_aload_n (q := 6) B dJ31_nextEntry_5 rfl rfl (rv_r _) ?_
  refine g_ifnonnull_r (tgt := 17) B dJ31_nextEntry_6 (by decide) ?_
  refine g_aload_n (q := 18) B dJ31_nextEntry_17 rfl rfl (rv_r _) ?_
  refine g_get (q := 21) B (ci := 34) (k := 2) (j := 3) in_J32 rfl dJ31_nextEntry_18 rfl rfl (Nat.le_of_ble_eq_true rfl) q880 rfl rfl ?_
  refine g_getN (q := 24) B (ci := 27) (k := 0) (j := 5) in_J10 rfl dJ31_nextEntry_21 rfl rfl (Nat.le_of_ble_eq_true rfl) q1874 rfl rfl ?_
  refine g_aload_n (q := 25) B dJ31_nextEntry_24 rfl rfl (rv_r _) ?_
  refine g_get (q := 28) B (ci := 34) (k := 2) (j := 2) in_J32 rfl dJ31_nextEntry_25 rfl rfl (Nat.le_of_ble_eq_true rfl) q879 rfl rfl ?_
  refine g_icmp_eq (tgt := 39) (q := 31) B dJ31_nextEntry_28 rfl (by decide) (iff_true_intro (rfl)) (fun _ => ?_) (fun z => absurd trivial z)
  refine g_aload_n (q := 40) B dJ31_nextEntry_39 rfl rfl (rv_r _) ?_
  refine g_aload_n (q := 41) B dJ31_nextEntry_40 rfl rfl (rv_r _) ?_
  refine g_callS (q := 44) (is := [1]) (kc2 := 0) (ks2 := 0) B [.ref a] (ct_J10_successor g J (ns := ns) (key := key) (val := val) (l := l) (r := r) (p := p) (col := col) (lo := lo) (hi := hi) (root := root) (M := M) (a := a) hw1 (by first | assumption | omega | rfl) (by first | assumption | omega | rfl)) dJ31_nextEntry_41 rfl q1031 q1032 q91 q1033 rfl rfl moJ10_successor rfl rfl (by decide) (by decide) (Nat.le_of_ble_eq_true rfl) (Nat.le_of_ble_eq_true rfl) (Nat.le_of_ble_eq_true rfl) (fun _ _ hx => noX_x hx) (fun v41 L1 hp41 => ?_)
  obtain ⟨e41, rfl, rfl, he_41, hlf_41⟩ := hp41
  refine (show Go g κ 44 [some (.ref i), some (.ref a)] [va_rf e41, .ref i] [[(t, .inr (27, [.null, va_rf vs, .null, va_rf root, .int (nI n), .int (nI md), va_rf es, va_rf nk, .null]))], [(i, .inr (34, [.ref a, va_rf la, .int (nI md), .ref t]))], w1] 0 0 from ?_)
  refine g_put (q := 47) (L2 := [[(t, .inr (27, [.null, va_rf vs, .null, va_rf root, .int (nI n), .int (nI md), va_rf es, va_rf nk, .null]))], [(i, .inr (34, [va_rf e41, va_rf la, .int (nI md), .ref t]))], w1]) B (ci := 34) (k := 1) (j := 0) in_J32 tyJ32 tyJ32_ok nmJ32 rfl dJ31_nextEntry_44 rfl rfl (Nat.le_of_ble_eq_true rfl) q877 rfl rfl (rv_nar (Or.inl ⟨_, rfl⟩) (rv_o _)) (rv_fit (Or.inl ⟨_, rfl⟩) (rv_o _)) (Nat.le_of_ble_eq_true rfl) rfl ?_
  refine g_aload_n (q := 48) B dJ31_nextEntry_47 rfl rfl (rv_r _) ?_
  refine g_aload_n (q := 49) B dJ31_nextEntry_48 rfl rfl (rv_r _) ?_
  refine g_put (q := 52) (L2 := [[(t, .inr (27, [.null, va_rf vs, .null, va_rf root, .int (nI n), .int (nI md), va_rf es, va_rf nk, .null]))], [(i, .inr (34, [va_rf e41, .ref a, .int (nI md), .ref t]))], w1]) B (ci := 34) (k := 1) (j := 1) in_J32 tyJ32 tyJ32_ok nmJ32 rfl dJ31_nextEntry_49 rfl rfl (Nat.le_of_ble_eq_true rfl) q878 rfl rfl rfl rfl (Nat.le_of_ble_eq_true rfl) rfl ?_
  refine g_aload_n (q := 53) B dJ31_nextEntry_52 rfl rfl (rv_r _) ?_
  refine g_pk [0, 1, 0] rfl rfl ?_
  refine (show Go g κ 53 [some (.ref i), some (.ref a)] [.ref a] [[(t, .inr (27, [.null, va_rf vs, .null, va_rf root, .int (nI n), .int (nI md), va_rf es, va_rf nk, .null]))], w1, [(i, .inr (34, [va_rf e41, .ref a, .int (nI md), .ref t]))]] 0 0 from ?_)
  exact g_aret B E dJ31_nextEntry_53 (by first | exact Or.inl ⟨_, rfl⟩ | exact Or.inr ⟨_, rfl⟩) (rv_r _) (⟨e41, rfl, rfl, by first | assumption | omega | rfl | simp_all⟩)
theorem mojava_util_TreeMap_KeyIterator_nextEntry___Ljava_util_TreeMap_Entry_ : Mo ⟨"java/util/TreeMap$KeyIterator", "nextEntry", "()Ljava/util/TreeMap$Entry;"⟩ 0 := by
  refine ⟨by decide, by decide, by decide +kernel⟩
theorem ct_J33_next (g : Gv) (J : Jd g) {t : Nat} {vs : Option Nat} {n : Nat} {md : Nat} {es : Option Nat} {nk : Option Nat} {ns : List Nat} {key : Nat → Nat} {val : Nat → Nat} {l : Nat → Option Nat} {r : Nat → Option Nat} {p : Nat → Option Nat} {col : Nat → Bool} {lo : Nat → Nat} {hi : Nat → Nat} {root : Option Nat} {M : Nat} {i : Nat} {a : Nat} {la : Option Nat} {w1 : va_W} (hw1 : EntG g ns key val l r p col w1) (hT : Tr ns key l r p lo hi root M) (ha : a ∈ ns) : Ct g yJ33_next (ws_ yJ33_next cJ33_next 1 (some (.object "java/lang/Object"))) 2 0 0 [.ref i] [[(t, .inr (27, [.null, va_rf vs, .null, va_rf root, .int (nI n), .int (nI md), va_rf es, va_rf nk, .null]))], w1, [(i, .inr (32, [.ref a, va_rf la, .int (nI md), .ref t]))]] (fun (rv_ : Option Value) (rL_ : List va_W) => ∃ (e : Option Nat), rv_ = some (.ref (kI g (key a))) ∧ rL_ = [[(t, .inr (27, [.null, va_rf vs, .null, va_rf root, .int (nI n), .int (nI md), va_rf es, va_rf nk, .null]))], w1, [(i, .inr (32, [va_rf e, .ref a, .int (nI md), .ref t]))]] ∧ (Lf ns key (key a + 1) e)) noX := by
  refine Ct.of "java/util/TreeMap$KeyIterator" [some (.ref i)] rfl (by decide) rfl (Nat.le_of_ble_eq_true rfl) rfl ?_
  intro κ B E tb
  refine g_aload_n (q := 1) B dJ33_next_0 rfl rfl (rv_r _) ?_
  refine g_callU (q := 4) (is := [0, 0, 0]) (kc2 := 0) (ks2 := 0) B [] (ct_J31_nextEntry_k g J (t := t) (vs := vs) (n := n) (md := md) (es := es) (nk := nk) (ns := ns) (key := key) (val := val) (l := l) (r := r) (p := p) (col := col) (lo := lo) (hi := hi) (root := root) (M := M) (i := i) (a := a) (la := la) hw1 (by first | assumption | omega | rfl) (by first | assumption | omega | rfl)) dJ33_next_1 rfl (rc_at B (ci := 32) rfl (k := 2) rfl) rfl (by decide) q1039 q1040 q1041 q1027 q116 q1028 rfl rfl mojava_util_TreeMap_KeyIterator_nextEntry___Ljava_util_TreeMap_Entry_ rfl rfl (by decide) (by decide) (Nat.le_of_ble_eq_true rfl) (Nat.le_of_ble_eq_true rfl) (Nat.le_of_ble_eq_true rfl) (fun _ _ hx => noX_x hx) (fun v1 L1 hp1 => ?_)
  obtain ⟨e1, rfl, rfl, he_1⟩ := hp1
  refine (show Go g κ 4 [some (.ref i)] [.ref a] [[(t, .inr (27, [.null, va_rf vs, .null, va_rf root, .int (nI n), .int (nI md), va_rf es, va_rf nk, .null]))], w1, [(i, .inr (32, [va_rf e1, .ref a, .int (nI md), .ref t]))]] 0 0 from ?_)
  refine g_getM (v := .ref (kI g (key a))) (q := 7) B (ci := 28) (k := 1) (j := 0) in_J37 rfl dJ33_next_4 rfl rfl (EntG.mem hw1 ha) (Nat.le_of_ble_eq_true rfl) q2107 rfl rfl ?_
  exact g_aret B E dJ33_next_7 (by first | exact Or.inl ⟨_, rfl⟩ | exact Or.inr ⟨_, rfl⟩) (rv_r _) (⟨e1, rfl, rfl, by first | assumption | omega | rfl | simp_all⟩)
theorem mojava_util_TreeMap_ValueIterator_nextEntry___Ljava_util_TreeMap_Entry_ : Mo ⟨"java/util/TreeMap$ValueIterator", "nextEntry", "()Ljava/util/TreeMap$Entry;"⟩ 0 := by
  refine ⟨by decide, by decide, by decide +kernel⟩
theorem ct_J34_next (g : Gv) (J : Jd g) {t : Nat} {vs : Option Nat} {n : Nat} {md : Nat} {es : Option Nat} {nk : Option Nat} {ns : List Nat} {key : Nat → Nat} {val : Nat → Nat} {l : Nat → Option Nat} {r : Nat → Option Nat} {p : Nat → Option Nat} {col : Nat → Bool} {lo : Nat → Nat} {hi : Nat → Nat} {root : Option Nat} {M : Nat} {i : Nat} {a : Nat} {la : Option Nat} {w1 : va_W} (hw1 : EntG g ns key val l r p col w1) (hT : Tr ns key l r p lo hi root M) (ha : a ∈ ns) : Ct g yJ34_next (ws_ yJ34_next cJ34_next 1 (some (.object "java/lang/Object"))) 2 0 0 [.ref i] [[(t, .inr (27, [.null, va_rf vs, .null, va_rf root, .int (nI n), .int (nI md), va_rf es, va_rf nk, .null]))], w1, [(i, .inr (33, [.ref a, va_rf la, .int (nI md), .ref t]))]] (fun (rv_ : Option Value) (rL_ : List va_W) => ∃ (e : Option Nat), rv_ = some (.ref (val a)) ∧ rL_ = [[(t, .inr (27, [.null, va_rf vs, .null, va_rf root, .int (nI n), .int (nI md), va_rf es, va_rf nk, .null]))], w1, [(i, .inr (33, [va_rf e, .ref a, .int (nI md), .ref t]))]] ∧ (Lf ns key (key a + 1) e)) noX := by
  refine Ct.of "java/util/TreeMap$ValueIterator" [some (.ref i)] rfl (by decide) rfl (Nat.le_of_ble_eq_true rfl) rfl ?_
  intro κ B E tb
  refine g_aload_n (q := 1) B dJ34_next_0 rfl rfl (rv_r _) ?_
  refine g_callU (q := 4) (is := [0, 0, 0]) (kc2 := 0) (ks2 := 0) B [] (ct_J31_nextEntry_v g J (t := t) (vs := vs) (n := n) (md := md) (es := es) (nk := nk) (ns := ns) (key := key) (val := val) (l := l) (r := r) (p := p) (col := col) (lo := lo) (hi := hi) (root := root) (M := M) (i := i) (a := a) (la := la) hw1 (by first | assumption | omega | rfl) (by first | assumption | omega | rfl)) dJ34_next_1 rfl (rc_at B (ci := 33) rfl (k := 2) rfl) rfl (by decide) q1047 q1048 q1049 q1027 q116 q1028 rfl rfl mojava_util_TreeMap_ValueIterator_nextEntry___Ljava_util_TreeMap_Entry_ rfl rfl (by decide) (by decide) (Nat.le_of_ble_eq_true rfl) (Nat.le_of_ble_eq_true rfl) (Nat.le_of_ble_eq_true rfl) (fun _ _ hx => noX_x hx) (fun v1 L1 hp1 => ?_)
  obtain ⟨e1, rfl, rfl, he_1⟩ := hp1
  refine (show Go g κ 4 [some (.ref i)] [.ref a] [[(t, .inr (27, [.null, va_rf vs, .null, va_rf root, .int (nI n), .int (nI md), va_rf es, va_rf nk, .null]))], w1, [(i, .inr (33, [va_rf e1, .ref a, .int (nI md), .ref t]))]] 0 0 from ?_)
  refine g_getM (v := .ref (val a)) (q := 7) B (ci := 28) (k := 1) (j := 1) in_J37 rfl dJ34_next_4 rfl rfl (EntG.mem hw1 ha) (Nat.le_of_ble_eq_true rfl) q2110 rfl rfl ?_
  exact g_aret B E dJ34_next_7 (by first | exact Or.inl ⟨_, rfl⟩ | exact Or.inr ⟨_, rfl⟩) (rv_r _) (⟨e1, rfl, rfl, by first | assumption | omega | rfl | simp_all⟩)
theorem mojava_util_TreeMap_EntryIterator_nextEntry___Ljava_util_TreeMap_Entry_ : Mo ⟨"java/util/TreeMap$EntryIterator", "nextEntry", "()Ljava/util/TreeMap$Entry;"⟩ 0 := by
  refine ⟨by decide, by decide, by decide +kernel⟩
theorem ct_J32_next_2 (g : Gv) (J : Jd g) {t : Nat} {vs : Option Nat} {n : Nat} {md : Nat} {es : Option Nat} {nk : Option Nat} {ns : List Nat} {key : Nat → Nat} {val : Nat → Nat} {l : Nat → Option Nat} {r : Nat → Option Nat} {p : Nat → Option Nat} {col : Nat → Bool} {lo : Nat → Nat} {hi : Nat → Nat} {root : Option Nat} {M : Nat} {i : Nat} {a : Nat} {la : Option Nat} {w1 : va_W} (hw1 : EntG g ns key val l r p col w1) (hT : Tr ns key l r p lo hi root M) (ha : a ∈ ns) : Ct g yJ32_next_2 (ws_ yJ32_next_2 cJ32_next_2 1 (some (.object "java/util/Map$Entry"))) 2 0 0 [.ref i] [[(t, .inr (27, [.null, va_rf vs, .null, va_rf root, .int (nI n), .int (nI md), va_rf es, va_rf nk, .null]))], w1, [(i, .inr (34, [.ref a, va_rf la, .int (nI md), .ref t]))]] (fun (rv_ : Option Value) (rL_ : List va_W) => ∃ (e : Option Nat), rv_ = some (.ref a) ∧ rL_ = [[(t, .inr (27, [.null, va_rf vs, .null, va_rf root, .int (nI n), .int (nI md), va_rf es, va_rf nk, .null]))], w1, [(i, .inr (34, [va_rf e, .ref a, .int (nI md), .ref t]))]] ∧ (Lf ns key (key a + 1) e)) noX := by
  refine Ct.of "java/util/TreeMap$EntryIterator" [some (.ref i)] rfl (by decide) rfl (Nat.le_of_ble_eq_true rfl) rfl ?_
  intro κ B E tb
  refine g_aload_n (q := 1) B dJ32_next_2_0 rfl rfl (rv_r _) ?_
  refine g_callU (q := 4) (is := [0, 0, 0]) (kc2 := 0) (ks2 := 0) B [] (ct_J31_nextEntry_e g J (t := t) (vs := vs) (n := n) (md := md) (es := es) (nk := nk) (ns := ns) (key := key) (val := val) (l := l) (r := r) (p := p) (col := col) (lo := lo) (hi := hi) (root := root) (M := M) (i := i) (a := a) (la := la) hw1 (by first | assumption | omega | rfl) (by first | assumption | omega | rfl)) dJ32_next_2_1 rfl (rc_at B (ci := 34) rfl (k := 2) rfl) rfl (by decide) q1023 q1024 q1026 q1027 q116 q1028 rfl rfl mojava_util_TreeMap_EntryIterator_nextEntry___Ljava_util_TreeMap_Entry_ rfl rfl (by decide) (by decide) (Nat.le_of_ble_eq_true rfl) (Nat.le_of_ble_eq_true rfl) (Nat.le_of_ble_eq_true rfl) (fun _ _ hx => noX_x hx) (fun v1 L1 hp1 => ?_)
  obtain ⟨e1, rfl, rfl, he_1⟩ := hp1
  refine (show Go g κ 4 [some (.ref i)] [.ref a] [[(t, .inr (27, [.null, va_rf vs, .null, va_rf root, .int (nI n), .int (nI md), va_rf es, va_rf nk, .null]))], w1, [(i, .inr (34, [va_rf e1, .ref a, .int (nI md), .ref t]))]] 0 0 from ?_)
  exact g_aret B E dJ32_next_2_4 (by first | exact Or.inl ⟨_, rfl⟩ | exact Or.inr ⟨_, rfl⟩) (rv_r _) (⟨e1, rfl, rfl, by first | assumption | omega | rfl | simp_all⟩)
theorem nwJ33 : ∀ j, j < 4 → defaultValue (tyJ33 j) = vp_V [.null, .null, .int (nI 0), .null] j := by
  intro j hj
  match j, hj with
  | 0, _ => rfl
  | 1, _ => rfl
  | 2, _ => rfl
  | 3, _ => rfl
  | n + 4, hj => exact absurd hj (by omega)
theorem moJ10_getFirstEntry : Mo yJ10_getFirstEntry 0 := by
  refine ⟨by decide, by decide, by decide +kernel⟩
theorem moJ33_init : Mo yJ33_init 2 := by
  refine ⟨by decide, by decide, by decide +kernel⟩
theorem ct_J10_keyIterator (g : Gv) (J : Jd g) {t : Nat} {vs : Option Nat} {n : Nat} {md : Nat} {es : Option Nat} {nk : Option Nat} {ns : List Nat} {key : Nat → Nat} {val : Nat → Nat} {l : Nat → Option Nat} {r : Nat → Option Nat} {p : Nat → Option Nat} {col : Nat → Bool} {lo : Nat → Nat} {hi : Nat → Nat} {root : Option Nat} {w1 : va_W} (hw1 : EntG g ns key val l r p col w1) (hT : Tr ns key l r p lo hi root 128) : Ct g yJ10_keyIterator (ws_ yJ10_keyIterator cJ10_keyIterator 1 (some (.object "java/util/Iterator"))) 3 1 4 [.ref t] [[(t, .inr (27, [.null, va_rf vs, .null, va_rf root, .int (nI n), .int (nI md), va_rf es, va_rf nk, .null]))], w1] (fun (rv_ : Option Value) (rL_ : List va_W) => ∃ (i : Nat) (e : Option Nat), rv_ = some (.ref i) ∧ rL_ = [[(t, .inr (27, [.null, va_rf vs, .null, va_rf root, .int (nI n), .int (nI md), va_rf es, va_rf nk, .null]))], w1, [(i, .inr (32, [va_rf e, .null, .int (nI md), .ref t]))]] ∧ (Lf ns key 0 e)) noX := by
  refine Ct.of "java/util/TreeMap" [some (.ref t)] rfl (by decide) rfl (Nat.le_of_ble_eq_true rfl) rfl ?_
  intro κ B E tb
  refine g_new (q := 3) (kc2 := 0) (ks2 := 0) (fs := [.null, .null, .int (nI 0), .null]) B (ci := 32) in_J33 tyJ33_ok rfl dJ10_keyIterator_0 rfl q901 q902 q118 (nwJ33) (Nat.le_of_ble_eq_true rfl) (Nat.le_of_ble_eq_true rfl) (fun n0 => ?_)
  refine (show Go g κ 3 [some (.ref t)] [.ref n0] [[(t, .inr (27, [.null, va_rf vs, .null, va_rf root, .int (nI n), .int (nI md), va_rf es, va_rf nk, .null]))], w1, [(n0, .inr (32, [.null, .null, .int (nI 0), .null]))]] 0 0 from ?_)
  refine g_dup (q := 4) B dJ10_keyIterator_3 rfl rfl ?_
  refine g_aload_n (q := 5) B dJ10_keyIterator_4 rfl rfl (rv_r _) ?_
  refine g_aload_n (q := 6) B dJ10_keyIterator_5 rfl rfl (rv_r _) ?_
  refine g_callV (q := 9) (is := [0, 0]) (kc2 := 0) (ks2 := 0) B [] (ct_J10_getFirstEntry g J (t := t) (vs := vs) (n := n) (md := md) (es := es) (nk := nk) (ns := ns) (key := key) (val := val) (l := l) (r := r) (p := p) (col := col) (lo := lo) (hi := hi) (root := root) hw1 (by first | assumption | omega | rfl)) dJ10_keyIterator_6 rfl (rc_at B (ci := 27) rfl (k := 0) rfl) rfl q903 q867 q868 q91 q869 rfl rfl moJ10_getFirstEntry rfl rfl (by decide) (by decide) (Nat.le_of_ble_eq_true rfl) (Nat.le_of_ble_eq_true rfl) (Nat.le_of_ble_eq_true rfl) (fun _ _ hx => noX_x hx) (fun v6 L1 hp6 => ?_)
  obtain ⟨e6, rfl, rfl, he_6⟩ := hp6
  refine (show Go g κ 9 [some (.ref t)] [va_rf e6, .ref t, .ref n0, .ref n0] [[(n0, .inr (32, [.null, .null, .int (nI 0), .null]))], [(t, .inr (27, [.null, va_rf vs, .null, va_rf root, .int (nI n), .int (nI md), va_rf es, va_rf nk, .null]))], w1] 0 0 from ?_)
  refine g_callI (q := 12) (is := [1, 0]) (kc2 := 0) (ks2 := 0) B [.ref t, va_rf e6] (ct_J33_init g J (t := t) (vs := vs) (n := n) (md := md) (es := es) (nk := nk) (root := root) (i := n0) (nx := e6)  ) dJ10_keyIterator_9 rfl rfl q904 q905 q118 q906 rfl rfl moJ33_init rfl rfl (by decide) (by decide) (Nat.le_of_ble_eq_true rfl) (Nat.le_of_ble_eq_true rfl) (Nat.le_of_ble_eq_true rfl) (fun _ _ hx => noX_x hx) (fun v9 L1 hp9 => ?_)
  obtain ⟨rfl, rfl⟩ := hp9
  refine (show Go g κ 12 [some (.ref t)] [.ref n0] [w1, [(t, .inr (27, [.null, va_rf vs, .null, va_rf root, .int (nI n), .int (nI md), va_rf es, va_rf nk, .null]))], [(n0, .inr (32, [va_rf e6, .null, .int (nI md), .ref t]))]] 0 0 from ?_)
  refine g_pk [1, 0, 0] rfl rfl ?_
  refine (show Go g κ 12 [some (.ref t)] [.ref n0] [[(t, .inr (27, [.null, va_rf vs, .null, va_rf root, .int (nI n), .int (nI md), va_rf es, va_rf nk, .null]))], w1, [(n0, .inr (32, [va_rf e6, .null, .int (nI md), .ref t]))]] 0 0 from ?_)
  exact g_aret B E dJ10_keyIterator_12 (by first | exact Or.inl ⟨_, rfl⟩ | exact Or.inr ⟨_, rfl⟩) (rv_r _) (⟨n0, e6, rfl, rfl, by first | assumption | omega | rfl | simp_all⟩)
theorem nwJ34 : ∀ j, j < 4 → defaultValue (tyJ34 j) = vp_V [.null, .null, .int (nI 0), .null] j := by
  intro j hj
  match j, hj with
  | 0, _ => rfl
  | 1, _ => rfl
  | 2, _ => rfl
  | 3, _ => rfl
  | n + 4, hj => exact absurd hj (by omega)
theorem moJ34_init : Mo yJ34_init 2 := by
  refine ⟨by decide, by decide, by decide +kernel⟩
theorem ct_J28_iterator (g : Gv) (J : Jd g) {t : Nat} {vs : Option Nat} {n : Nat} {md : Nat} {es : Option Nat} {nk : Option Nat} {ns : List Nat} {key : Nat → Nat} {val : Nat → Nat} {l : Nat → Option Nat} {r : Nat → Option Nat} {p : Nat → Option Nat} {col : Nat → Bool} {lo : Nat → Nat} {hi : Nat → Nat} {root : Option Nat} {y : Nat} {w1 : va_W} (hw1 : EntG g ns key val l r p col w1) (hT : Tr ns key l r p lo hi root 128) : Ct g yJ28_iterator (ws_ yJ28_iterator cJ28_iterator 1 (some (.object "java/util/Iterator"))) 3 1 4 [.ref y] [[(t, .inr (27, [.null, va_rf vs, .null, va_rf root, .int (nI n), .int (nI md), va_rf es, va_rf nk, .null]))], w1, [(y, .inr (29, [.ref t]))]] (fun (rv_ : Option Value) (rL_ : List va_W) => ∃ (i : Nat) (e : Option Nat), rv_ = some (.ref i) ∧ rL_ = [[(t, .inr (27, [.null, va_rf vs, .null, va_rf root, .int (nI n), .int (nI md), va_rf es, va_rf nk, .null]))], w1, [(y, .inr (29, [.ref t]))], [(i, .inr (33, [va_rf e, .null, .int (nI md), .ref t]))]] ∧ (Lf ns key 0 e)) noX := by
  refine Ct.of "java/util/TreeMap$Values" [some (.ref y)] rfl (by decide) rfl (Nat.le_of_ble_eq_true rfl) rfl ?_
  intro κ B E tb
  refine g_new (q := 3) (kc2 := 0) (ks2 := 0) (fs := [.null, .null, .int (nI 0), .null]) B (ci := 33) in_J34 tyJ34_ok rfl dJ28_iterator_0 rfl q923 q924 q119 (nwJ34) (Nat.le_of_ble_eq_true rfl) (Nat.le_of_ble_eq_true rfl) (fun n0 => ?_)
  refine (show Go g κ 3 [some (.ref y)] [.ref n0] [[(t, .inr (27, [.null, va_rf vs, .null, va_rf root, .int (nI n), .int (nI md), va_rf es, va_rf nk, .null]))], w1, [(y, .inr (29, [.ref t]))], [(n0, .inr (33, [.null, .null, .int (nI 0), .null]))]] 0 0 from ?_)
  refine g_dup (q := 4) B dJ28_iterator_3 rfl rfl ?_
  refine g_aload_n (q := 5) B dJ28_iterator_4 rfl rfl (rv_r _) ?_
  refine g_get (q := 8) B (ci := 29) (k := 2) (j := 0) in_J28 rfl dJ28_iterator_5 rfl rfl (Nat.le_of_ble_eq_true rfl) q1186 rfl rfl ?_
  refine g_aload_n (q := 9) B dJ28_iterator_8 rfl rfl (rv_r _) ?_
  refine g_get (q := 12) B (ci := 29) (k := 2) (j := 0) in_J28 rfl dJ28_iterator_9 rfl rfl (Nat.le_of_ble_eq_true rfl) q1186 rfl rfl ?_
  refine g_callV (q := 15) (is := [0, 0]) (kc2 := 0) (ks2 := 0) B [] (ct_J10_getFirstEntry g J (t := t) (vs := vs) (n := n) (md := md) (es := es) (nk := nk) (ns := ns) (key := key) (val := val) (l := l) (r := r) (p := p) (col := col) (lo := lo) (hi := hi) (root := root) hw1 (by first | assumption | omega | rfl)) dJ28_iterator_12 rfl (rc_at B (ci := 27) rfl (k := 0) rfl) rfl q925 q867 q868 q91 q869 rfl rfl moJ10_getFirstEntry rfl rfl (by decide) (by decide) (Nat.le_of_ble_eq_true rfl) (Nat.le_of_ble_eq_true rfl) (Nat.le_of_ble_eq_true rfl) (fun _ _ hx => noX_x hx) (fun v12 L1 hp12 => ?_)
  obtain ⟨e12, rfl, rfl, he_12⟩ := hp12
  refine (show Go g κ 15 [some (.ref y)] [va_rf e12, .ref t, .ref n0, .ref n0] [[(y, .inr (29, [.ref t]))], [(n0, .inr (33, [.null, .null, .int (nI 0), .null]))], [(t, .inr (27, [.null, va_rf vs, .null, va_rf root, .int (nI n), .int (nI md), va_rf es, va_rf nk, .null]))], w1] 0 0 from ?_)
  refine g_callI (q := 18) (is := [2, 1]) (kc2 := 0) (ks2 := 0) B [.ref t, va_rf e12] (ct_J34_init g J (t := t) (vs := vs) (n := n) (md := md) (es := es) (nk := nk) (root := root) (i := n0) (nx := e12)  ) dJ28_iterator_15 rfl rfl q926 q927 q119 q928 rfl rfl moJ34_init rfl rfl (by decide) (by decide) (Nat.le_of_ble_eq_true rfl) (Nat.le_of_ble_eq_true rfl) (Nat.le_of_ble_eq_true rfl) (fun _ _ hx => noX_x hx) (fun v15 L1 hp15 => ?_)
  obtain ⟨rfl, rfl⟩ := hp15
  refine (show Go g κ 18 [some (.ref y)] [.ref n0] [[(y, .inr (29, [.ref t]))], w1, [(t, .inr (27, [.null, va_rf vs, .null, va_rf root, .int (nI n), .int (nI md), va_rf es, va_rf nk, .null]))], [(n0, .inr (33, [va_rf e12, .null, .int (nI md), .ref t]))]] 0 0 from ?_)
  refine g_pk [2, 1, 0, 0] rfl rfl ?_
  refine (show Go g κ 18 [some (.ref y)] [.ref n0] [[(t, .inr (27, [.null, va_rf vs, .null, va_rf root, .int (nI n), .int (nI md), va_rf es, va_rf nk, .null]))], w1, [(y, .inr (29, [.ref t]))], [(n0, .inr (33, [va_rf e12, .null, .int (nI md), .ref t]))]] 0 0 from ?_)
  exact g_aret B E dJ28_iterator_18 (by first | exact Or.inl ⟨_, rfl⟩ | exact Or.inr ⟨_, rfl⟩) (rv_r _) (⟨n0, e12, rfl, rfl, by first | assumption | omega | rfl | simp_all⟩)
theorem moJ10_keyIterator : Mo yJ10_keyIterator 0 := by
  refine ⟨by decide, by decide, by decide +kernel⟩
theorem ct_J42_iterator (g : Gv) (J : Jd g) {t : Nat} {vs : Option Nat} {n : Nat} {md : Nat} {es : Option Nat} {nk : Option Nat} {ns : List Nat} {key : Nat → Nat} {val : Nat → Nat} {l : Nat → Option Nat} {r : Nat → Option Nat} {p : Nat → Option Nat} {col : Nat → Bool} {lo : Nat → Nat} {hi : Nat → Nat} {root : Option Nat} {y : Nat} {w1 : va_W} (hw1 : EntG g ns key val l r p col w1) (hT : Tr ns key l r p lo hi root 128) : Ct g yJ42_iterator (ws_ yJ42_iterator cJ42_iterator 1 (some (.object "java/util/Iterator"))) 4 1 4 [.ref y] [[(t, .inr (27, [.null, va_rf vs, .null, va_rf root, .int (nI n), .int (nI md), va_rf es, va_rf nk, .null]))], w1, [(y, .inr (30, [.ref t]))]] (fun (rv_ : Option Value) (rL_ : List va_W) => ∃ (i : Nat) (e : Option Nat), rv_ = some (.ref i) ∧ rL_ = [[(t, .inr (27, [.null, va_rf vs, .null, va_rf root, .int (nI n), .int (nI md), va_rf es, va_rf nk, .null]))], w1, [(y, .inr (30, [.ref t]))], [(i, .inr (32, [va_rf e, .null, .int (nI md), .ref t]))]] ∧ (Lf ns key 0 e)) noX := by
  refine Ct.of "java/util/TreeMap$KeySet" [some (.ref y)] rfl (by decide) rfl (Nat.le_of_ble_eq_true rfl) rfl ?_
  intro κ B E tb
  refine g_aload_n (q := 1) B dJ42_iterator_0 rfl rfl (rv_r _) ?_
  refine g_get (q := 4) B (ci := 30) (k := 2) (j := 0) in_J42 rfl dJ42_iterator_1 rfl rfl (Nat.le_of_ble_eq_true rfl) q2225 rfl rfl ?_
  refine g_instRS (ci := 27) (q := 7) B rfl (rc_at B (ci := 27) rfl (k := 0) rfl) dJ42_iterator_4 rfl q896 ?_
  refine g_if_eq (tgt := 21) (q := 10) B dJ42_iterator_7 rfl (by decide) (iff_false_intro (by decide)) (fun z => z.elim) (fun _ => ?_)
  refine g_aload_n (q := 11) B dJ42_iterator_10 rfl rfl (rv_r _) ?_
  refine g_get (q := 14) B (ci := 30) (k := 2) (j := 0) in_J42 rfl dJ42_iterator_11 rfl rfl (Nat.le_of_ble_eq_true rfl) q2225 rfl rfl ?_
  refine g_castRS (ci := 27) (q := 17) B rfl (rc_at B (ci := 27) rfl (k := 0) rfl) dJ42_iterator_14 rfl q896 ?_
  refine g_callV (q := 20) (is := [0, 0]) (kc2 := 0) (ks2 := 0) B [] (ct_J10_keyIterator g J (t := t) (vs := vs) (n := n) (md := md) (es := es) (nk := nk) (ns := ns) (key := key) (val := val) (l := l) (r := r) (p := p) (col := col) (lo := lo) (hi := hi) (root := root) hw1 (by first | assumption | omega | rfl)) dJ42_iterator_17 rfl (rc_at B (ci := 27) rfl (k := 0) rfl) rfl q897 q898 q899 q91 q900 rfl rfl moJ10_keyIterator rfl rfl (by decide) (by decide) (Nat.le_of_ble_eq_true rfl) (Nat.le_of_ble_eq_true rfl) (Nat.le_of_ble_eq_true rfl) (fun _ _ hx => noX_x hx) (fun v17 L1 hp17 => ?_)
  obtain ⟨i17, e17, rfl, rfl, he_17⟩ := hp17
  refine (show Go g κ 20 [some (.ref y)] [.ref i17] [[(y, .inr (30, [.ref t]))], [(t, .inr (27, [.null, va_rf vs, .null, va_rf root, .int (nI n), .int (nI md), va_rf es, va_rf nk, .null]))], w1, [(i17, .inr (32, [va_rf e17, .null, .int (nI md), .ref t]))]] 0 0 from ?_)
  refine g_pk [1, 1, 0, 0] rfl rfl ?_
  refine (show Go g κ 20 [some (.ref y)] [.ref i17] [[(t, .inr (27, [.null, va_rf vs, .null, va_rf root, .int (nI n), .int (nI md), va_rf es, va_rf nk, .null]))], w1, [(y, .inr (30, [.ref t]))], [(i17, .inr (32, [va_rf e17, .null, .int (nI md), .ref t]))]] 0 0 from ?_)
  exact g_aret B E dJ42_iterator_20 (by first | exact Or.inl ⟨_, rfl⟩ | exact Or.inr ⟨_, rfl⟩) (rv_r _) (⟨i17, e17, rfl, rfl, by first | assumption | omega | rfl | simp_all⟩)
