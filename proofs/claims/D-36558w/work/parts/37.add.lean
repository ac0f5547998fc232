set_option maxRecDepth 100000
theorem g_nin {g : Gv} {κ : Kx} {pc : Nat} {lv : List (Option Value)} {st : List Value} {L : List va_W} {kc ks : Nat} {a : Nat} {ea : va_E} {Lr : List va_W} {wa wb : va_W} (i j : Nat) (h : xt L [i, j] = ([wa, wb], Lr)) (ha : (a, ea) ∈ wa) (kk : (∀ b eb, (b, eb) ∈ wb → a ≠ b) → Go g κ pc lv st L kc ks) : Go g κ pc lv st L kc ks := by
  obtain ⟨p, l, e, R, s, m, args, below, meth, c, A, mc, ms, Q⟩ := κ
  intro H locs cells slots ls h1 h2 h3 h4 h5
  refine kk (fun b eb hb hab => ?_) H locs cells slots ls h1 h2 h3 h4 h5
  have h6 := (cd_iff.mp (h4.xt h).left.2).1
  rw [List.flatten_cons, List.flatten_cons, List.map_append, List.nodup_append] at h6
  refine h6.2.2 a (List.mem_map.mpr ⟨_, ha, rfl⟩) b ?_ hab
  rw [List.map_append]
  exact List.mem_append_left _ (List.mem_map.mpr ⟨_, hb, rfl⟩)
theorem EntG.cons {g : Gv} {ns : List Nat} {key val : Nat → Nat} {l r p : Nat → Option Nat} {col : Nat → Bool} {w : va_W} (h : EntG g ns key val l r p col w) {n k v : Nat} {x y q : Option Nat} {c : Bool} (hn : n ∉ ns) : EntG g (n :: ns) (fup key n k) (fup val n v) (fup l n x) (fup r n y) (fup p n q) (fup col n c) ([[(n, .inr (28, [.ref (kI g k), .ref v, va_rf x, va_rf y, va_rf q, .int (nI (if c = true then 1 else 0))]))], w] : List va_W).flatten := by
  refine ⟨List.nodup_cons.mpr ⟨hn, h.1⟩, ?_⟩
  rw [List.map_cons, fup_s, fup_s, fup_s, fup_s, fup_s, fup_s]
  show _ :: (w ++ []) = _
  rw [List.append_nil, h.2]
  congr 1
  refine List.map_congr_left fun b hb => ?_
  have hne : b ≠ n := fun e => hn (e ▸ hb)
  rw [fup_n hne, fup_n hne, fup_n hne, fup_n hne, fup_n hne, fup_n hne]
theorem nwJ37 : ∀ j, j < 6 → defaultValue (tyJ37 j) = vp_V [.null, .null, .null, .null, .null, .int (nI 0)] j := by
  intro j hj
  match j, hj with
  | 0, _ => rfl
  | 1, _ => rfl
  | 2, _ => rfl
  | 3, _ => rfl
  | 4, _ => rfl
  | 5, _ => rfl
  | n + 6, hj => exact absurd hj (by omega)
theorem moJ37_init : Mo yJ37_init 3 := by
  refine ⟨by decide, by decide, by decide +kernel⟩
theorem moJ10_fixAfterInsertion : Mo yJ10_fixAfterInsertion 1 := by
  refine ⟨by decide, by decide, by decide +kernel⟩
theorem ct_J10_addEntry_l (g : Gv) (J : Jd g) {t : Nat} {vs : Option Nat} {n : Nat} {md : Nat} {es : Option Nat} {nk : Option Nat} {ns : List Nat} {key : Nat → Nat} {val : Nat → Nat} {l : Nat → Option Nat} {r : Nat → Option Nat} {p : Nat → Option Nat} {col : Nat → Bool} {lo : Nat → Nat} {hi : Nat → Nat} {root : Option Nat} {k : Nat} {v : Nat} {a : Nat} {w1 : va_W} (hw1 : EntG g ns key val l r p col w1) (hT : Tr ns key l r p lo hi root 128) (hk : k < 128) (ha : a ∈ ns) (hl : l a = none) (h1 : lo a ≤ k) (h2 : k < key a) : Ct g yJ10_addEntry (ws_ yJ10_addEntry cJ10_addEntry 6 none) 2 1 6 [.ref t, .ref (kI g k), .ref v, .ref a, .int (nI 1)] [[(t, .inr (27, [.null, va_rf vs, .null, va_rf root, .int (nI n), .int (nI md), va_rf es, va_rf nk, .null]))], w1] (fun (rv_ : Option Value) (rL_ : List va_W) => ∃ (m : Nat) (l2 : Nat → Option Nat) (r2 : Nat → Option Nat) (p2 : Nat → Option Nat) (col2 : Nat → Bool) (lo2 : Nat → Nat) (hi2 : Nat → Nat) (root2 : Option Nat) (u1 : va_W), rv_ = none ∧ rL_ = [[(t, .inr (27, [.null, va_rf vs, .null, va_rf root2, .int (nI (n + 1)), .int (nI (md + 1)), va_rf es, va_rf nk, .null]))], u1] ∧ EntG g (m :: ns) (fup key m k) (fup val m v) l2 r2 p2 col2 u1 ∧ (m ∉ ns) ∧ (Tr (m :: ns) (fup key m k) l2 r2 p2 lo2 hi2 root2 128)) noX := by
  refine Ct.of "java/util/TreeMap" [some (.ref t), some (.ref (kI g k)), some (.ref v), some (.ref a), some (.int (nI 1)), none] rfl (by decide) rfl (Nat.le_of_ble_eq_true rfl) rfl ?_
  intro κ B E tb
  refine g_new (q := 3) (kc2 := 0) (ks2 := 0) (fs := [.null, .null, .null, .null, .null, .int (nI 0)]) B (ci := 28) in_J37 tyJ37_ok rfl dJ10_addEntry_0 rfl q2100 q2101 q128 (nwJ37) (Nat.le_of_ble_eq_true rfl) (Nat.le_of_ble_eq_true rfl) (fun n0 => ?_)
  refine (show Go g κ 3 [some (.ref t), some (.ref (kI g k)), some (.ref v), some (.ref a), some (.int (nI 1)), none] [.ref n0] [[(t, .inr (27, [.null, va_rf vs, .null, va_rf root, .int (nI n), .int (nI md), va_rf es, va_rf nk, .null]))], w1, [(n0, .inr (28, [.null, .null, .null, .null, .null, .int (nI 0)]))]] 0 0 from ?_)
  refine g_dup (q := 4) B dJ10_addEntry_3 rfl rfl ?_
  refine g_aload_n (q := 5) B dJ10_addEntry_4 rfl rfl (rv_r _) ?_
  refine g_aload_n (q := 6) B dJ10_addEntry_5 rfl rfl (rv_r _) ?_
  refine g_aload_n (q := 7) B dJ10_addEntry_6 rfl rfl (rv_r _) ?_
  refine g_callI (q := 10) (is := [2]) (kc2 := 0) (ks2 := 0) B [.ref (kI g k), .ref v, .ref a] (ct_J37_init g J (e := n0) (kr := (kI g k)) (v := v) (q := some a)  ) dJ10_addEntry_7 rfl rfl q2102 q2103 q128 q2104 rfl rfl moJ37_init rfl rfl (by decide) (by decide) (Nat.le_of_ble_eq_true rfl) (Nat.le_of_ble_eq_true rfl) (Nat.le_of_ble_eq_true rfl) (fun _ _ hx => noX_x hx) (fun v7 L1 hp7 => ?_)
  obtain ⟨rfl, rfl⟩ := hp7
  refine (show Go g κ 10 [some (.ref t), some (.ref (kI g k)), some (.ref v), some (.ref a), some (.int (nI 1)), none] [.ref n0] [[(t, .inr (27, [.null, va_rf vs, .null, va_rf root, .int (nI n), .int (nI md), va_rf es, va_rf nk, .null]))], w1, [(n0, .inr (28, [.ref (kI g k), .ref v, .null, .null, .ref a, .int (nI 1)]))]] 0 0 from ?_)
  refine g_nin (wa := [(n0, .inr (28, [.ref (kI g k), .ref v, .null, .null, .ref a, .int (nI 1)]))]) (wb := w1) 2 1 rfl List.mem_cons_self (fun hap => ?_)
  have hnn : n0 ∉ ns := fun hm => hap n0 _ (EntG.mem hw1 hm) rfl
  obtain ⟨wc_1, ewc_1⟩ : ∃ w : va_W, w = ([[(n0, .inr (28, [.ref (kI g k), .ref v, .null, .null, .ref a, .int (nI 1)]))], w1] : List va_W).flatten := ⟨_, rfl⟩
  have hwc_1 : EntG g (n0 :: ns) (fup key n0 k) (fup val n0 v) (fup l n0 none) (fup r n0 none) (fup p n0 (some a)) (fup col n0 true) wc_1 := by
    rw [ewc_1]
    exact EntG.cons hw1 hnn
  refine g_close (w := wc_1) [2, 1] rfl ewc_1 rfl ?_
  refine (show Go g κ 10 [some (.ref t), some (.ref (kI g k)), some (.ref v), some (.ref a), some (.int (nI 1)), none] [.ref n0] [[(t, .inr (27, [.null, va_rf vs, .null, va_rf root, .int (nI n), .int (nI md), va_rf es, va_rf nk, .null]))], wc_1] 0 0 from ?_)
  have hna : a ≠ n0 := fun e => hnn (e ▸ ha)
  refine g_astore (q := 12) (lv2 := [some (.ref t), some (.ref (kI g k)), some (.ref v), some (.ref a), some (.int (nI 1)), some (.ref n0)]) B dJ10_addEntry_10 rfl (Nat.le_of_ble_eq_true rfl) (rv_r _) rfl ?_
  refine g_iload (q := 14) B dJ10_addEntry_12 rfl rfl ?_
  refine g_if_eq (tgt := 26) (q := 17) B dJ10_addEntry_14 rfl (by decide) (iff_false_intro (by decide)) (fun z => z.elim) (fun _ => ?_)
  refine g_aload_n (q := 18) B dJ10_addEntry_17 rfl rfl (rv_r _) ?_
  refine g_aload (q := 20) B dJ10_addEntry_18 rfl rfl (rv_r _) ?_
  refine g_putE2 (q := 23) (k := 1) (x := some n0) B hwc_1 (List.mem_cons_of_mem _ ha) dJ10_addEntry_20 rfl rfl q2113 (fun we_2_20 hwe_2_20 => ?_)
  refine (show Go g κ 23 [some (.ref t), some (.ref (kI g k)), some (.ref v), some (.ref a), some (.int (nI 1)), some (.ref n0)] [] [[(t, .inr (27, [.null, va_rf vs, .null, va_rf root, .int (nI n), .int (nI md), va_rf es, va_rf nk, .null]))], we_2_20] 0 0 from ?_)
  refine g_goto (tgt := 32) B dJ10_addEntry_23 (by decide) ?_
  refine g_aload_n (q := 33) B dJ10_addEntry_32 rfl rfl (rv_r _) ?_
  refine g_aload (q := 35) B dJ10_addEntry_33 rfl rfl (rv_r _) ?_
  refine g_callV (q := 38) (is := [0, 0]) (kc2 := 0) (ks2 := 0) B [.ref n0] (ct_J10_fixAfterInsertion g J (t := t) (vs := vs) (n := n) (md := md) (es := es) (nk := nk) (ns := (n0 :: ns)) (key := (fup key n0 k)) (val := (fup val n0 v)) (l := (fup (fup l n0 none) a (some n0))) (r := (fup r n0 none)) (p := (fup p n0 (some a))) (col := (fup col n0 true)) (lo := _) (hi := _) (root := root) (M := 128) (x := n0) hwe_2_20 (tr_insL hT hnn ha hl h1 h2) (List.mem_cons_self)) dJ10_addEntry_35 rfl (rc_at B (ci := 27) rfl (k := 0) rfl) rfl q2137 q2139 qs19 q91 q2140 rfl rfl moJ10_fixAfterInsertion rfl rfl (by decide) (by decide) (Nat.le_of_ble_eq_true rfl) (Nat.le_of_ble_eq_true rfl) (Nat.le_of_ble_eq_true rfl) (fun _ _ hx => noX_x hx) (fun v35 L1 hp35 => ?_)
  obtain ⟨l235, r235, p235, col235, lo235, hi235, root235, u1_35, rfl, rfl, hu1_35, hT2_35⟩ := hp35
  refine (show Go g κ 38 [some (.ref t), some (.ref (kI g k)), some (.ref v), some (.ref a), some (.int (nI 1)), some (.ref n0)] [] [[(t, .inr (27, [.null, va_rf vs, .null, va_rf root235, .int (nI n), .int (nI md), va_rf es, va_rf nk, .null]))], u1_35] 0 0 from ?_)
  refine g_aload_n (q := 39) B dJ10_addEntry_38 rfl rfl (rv_r _) ?_
  refine g_dup (q := 40) B dJ10_addEntry_39 rfl rfl ?_
  refine g_get (q := 43) B (ci := 27) (k := 0) (j := 4) in_J10 rfl dJ10_addEntry_40 rfl rfl (Nat.le_of_ble_eq_true rfl) q1872 rfl rfl ?_
  refine g_iconst (v := nI 1) (q := 44) B dJ10_addEntry_43 rfl (by decide) ?_
  refine g_iadd (v := nI (n + 1)) (q := 45) B dJ10_addEntry_44 rfl (nI_add _ _) ?_
  refine g_put (q := 48) (L2 := [[(t, .inr (27, [.null, va_rf vs, .null, va_rf root235, .int (nI (n + 1)), .int (nI md), va_rf es, va_rf nk, .null]))], u1_35]) B (ci := 27) (k := 0) (j := 4) in_J10 tyJ10 tyJ10_ok nmJ10 rfl dJ10_addEntry_45 rfl rfl (Nat.le_of_ble_eq_true rfl) q1872 rfl rfl rfl rfl (Nat.le_of_ble_eq_true rfl) rfl ?_
  refine g_aload_n (q := 49) B dJ10_addEntry_48 rfl rfl (rv_r _) ?_
  refine g_dup (q := 50) B dJ10_addEntry_49 rfl rfl ?_
  refine g_get (q := 53) B (ci := 27) (k := 0) (j := 5) in_J10 rfl dJ10_addEntry_50 rfl rfl (Nat.le_of_ble_eq_true rfl) q1873 rfl rfl ?_
  refine g_iconst (v := nI 1) (q := 54) B dJ10_addEntry_53 rfl (by decide) ?_
  refine g_iadd (v := nI (md + 1)) (q := 55) B dJ10_addEntry_54 rfl (nI_add _ _) ?_
  refine g_put (q := 58) (L2 := [[(t, .inr (27, [.null, va_rf vs, .null, va_rf root235, .int (nI (n + 1)), .int (nI (md + 1)), va_rf es, va_rf nk, .null]))], u1_35]) B (ci := 27) (k := 0) (j := 5) in_J10 tyJ10 tyJ10_ok nmJ10 rfl dJ10_addEntry_55 rfl rfl (Nat.le_of_ble_eq_true rfl) q1873 rfl rfl rfl rfl (Nat.le_of_ble_eq_true rfl) rfl ?_
  exact g_vret B E dJ10_addEntry_58 (⟨n0, l235, r235, p235, col235, lo235, hi235, root235, _, rfl, rfl, hu1_35, hnn, hT2_35⟩)
theorem ct_J10_addEntry_r (g : Gv) (J : Jd g) {t : Nat} {vs : Option Nat} {n : Nat} {md : Nat} {es : Option Nat} {nk : Option Nat} {ns : List Nat} {key : Nat → Nat} {val : Nat → Nat} {l : Nat → Option Nat} {r : Nat → Option Nat} {p : Nat → Option Nat} {col : Nat → Bool} {lo : Nat → Nat} {hi : Nat → Nat} {root : Option Nat} {k : Nat} {v : Nat} {a : Nat} {w1 : va_W} (hw1 : EntG g ns key val l r p col w1) (hT : Tr ns key l r p lo hi root 128) (hk : k < 128) (ha : a ∈ ns) (hl : r a = none) (h1 : key a < k) (h2 : k < hi a) : Ct g yJ10_addEntry (ws_ yJ10_addEntry cJ10_addEntry 6 none) 2 1 6 [.ref t, .ref (kI g k), .ref v, .ref a, .int (nI 0)] [[(t, .inr (27, [.null, va_rf vs, .null, va_rf root, .int (nI n), .int (nI md), va_rf es, va_rf nk, .null]))], w1] (fun (rv_ : Option Value) (rL_ : List va_W) => ∃ (m : Nat) (l2 : Nat → Option Nat) (r2 : Nat → Option Nat) (p2 : Nat → Option Nat) (col2 : Nat → Bool) (lo2 : Nat → Nat) (hi2 : Nat → Nat) (root2 : Option Nat) (u1 : va_W), rv_ = none ∧ rL_ = [[(t, .inr (27, [.null, va_rf vs, .null, va_rf root2, .int (nI (n + 1)), .int (nI (md + 1)), va_rf es, va_rf nk, .null]))], u1] ∧ EntG g (m :: ns) (fup key m k) (fup val m v) l2 r2 p2 col2 u1 ∧ (m ∉ ns) ∧ (Tr (m :: ns) (fup key m k) l2 r2 p2 lo2 hi2 root2 128)) noX := by
  refine Ct.of "java/util/TreeMap" [some (.ref t), some (.ref (kI g k)), some (.ref v), some (.ref a), some (.int (nI 0)), none] rfl (by decide) rfl (Nat.le_of_ble_eq_true rfl) rfl ?_
  intro κ B E tb
  refine g_new (q := 3) (kc2 := 0) (ks2 := 0) (fs := [.null, .null, .null, .null, .null, .int (nI 0)]) B (ci := 28) in_J37 tyJ37_ok rfl dJ10_addEntry_0 rfl q2100 q2101 q128 (nwJ37) (Nat.le_of_ble_eq_true rfl) (Nat.le_of_ble_eq_true rfl) (fun n0 => ?_)
  refine (show Go g κ 3 [some (.ref t), some (.ref (kI g k)), some (.ref v), some (.ref a), some (.int (nI 0)), none] [.ref n0] [[(t, .inr (27, [.null, va_rf vs, .null, va_rf root, .int (nI n), .int (nI md), va_rf es, va_rf nk, .null]))], w1, [(n0, .inr (28, [.null, .null, .null, .null, .null, .int (nI 0)]))]] 0 0 from ?_)
  refine g_dup (q := 4) B dJ10_addEntry_3 rfl rfl ?_
  refine g_aload_n (q := 5) B dJ10_addEntry_4 rfl rfl (rv_r _) ?_
  refine g_aload_n (q := 6) B dJ10_addEntry_5 rfl rfl (rv_r _) ?_
  refine g_aload_n (q := 7) B dJ10_addEntry_6 rfl rfl (rv_r _) ?_
  refine g_callI (q := 10) (is := [2]) (kc2 := 0) (ks2 := 0) B [.ref (kI g k), .ref v, .ref a] (ct_J37_init g J (e := n0) (kr := (kI g k)) (v := v) (q := some a)  ) dJ10_addEntry_7 rfl rfl q2102 q2103 q128 q2104 rfl rfl moJ37_init rfl rfl (by decide) (by decide) (Nat.le_of_ble_eq_true rfl) (Nat.le_of_ble_eq_true rfl) (Nat.le_of_ble_eq_true rfl) (fun _ _ hx => noX_x hx) (fun v7 L1 hp7 => ?_)
  obtain ⟨rfl, rfl⟩ := hp7
  refine (show Go g κ 10 [some (.ref t), some (.ref (kI g k)), some (.ref v), some (.ref a), some (.int (nI 0)), none] [.ref n0] [[(t, .inr (27, [.null, va_rf vs, .null, va_rf root, .int (nI n), .int (nI md), va_rf es, va_rf nk, .null]))], w1, [(n0, .inr (28, [.ref (kI g k), .ref v, .null, .null, .ref a, .int (nI 1)]))]] 0 0 from ?_)
  refine g_nin (wa := [(n0, .inr (28, [.ref (kI g k), .ref v, .null, .null, .ref a, .int (nI 1)]))]) (wb := w1) 2 1 rfl List.mem_cons_self (fun hap => ?_)
  have hnn : n0 ∉ ns := fun hm => hap n0 _ (EntG.mem hw1 hm) rfl
  obtain ⟨wc_1, ewc_1⟩ : ∃ w : va_W, w = ([[(n0, .inr (28, [.ref (kI g k), .ref v, .null, .null, .ref a, .int (nI 1)]))], w1] : List va_W).flatten := ⟨_, rfl⟩
  have hwc_1 : EntG g (n0 :: ns) (fup key n0 k) (fup val n0 v) (fup l n0 none) (fup r n0 none) (fup p n0 (some a)) (fup col n0 true) wc_1 := by
    rw [ewc_1]
    exact EntG.cons hw1 hnn
  refine g_close (w := wc_1) [2, 1] rfl ewc_1 rfl ?_
  refine (show Go g κ 10 [some (.ref t), some (.ref (kI g k)), some (.ref v), some (.ref a), some (.int (nI 0)), none] [.ref n0] [[(t, .inr (27, [.null, va_rf vs, .null, va_rf root, .int (nI n), .int (nI md), va_rf es, va_rf nk, .null]))], wc_1] 0 0 from ?_)
  have hna : a ≠ n0 := fun e => hnn (e ▸ ha)
  refine g_astore (q := 12) (lv2 := [some (.ref t), some (.ref (kI g k)), some (.ref v), some (.ref a), some (.int (nI 0)), some (.ref n0)]) B dJ10_addEntry_10 rfl (Nat.le_of_ble_eq_true rfl) (rv_r _) rfl ?_
  refine g_iload (q := 14) B dJ10_addEntry_12 rfl rfl ?_
  refine g_if_eq (tgt := 26) (q := 17) B dJ10_addEntry_14 rfl (by decide) (iff_true_intro (by decide)) (fun _ => ?_) (fun z => absurd trivial z)
  refine g_aload_n (q := 27) B dJ10_addEntry_26 rfl rfl (rv_r _) ?_
  refine g_aload (q := 29) B dJ10_addEntry_27 rfl rfl (rv_r _) ?_
  refine g_putE3 (q := 32) (k := 1) (x := some n0) B hwc_1 (List.mem_cons_of_mem _ ha) dJ10_addEntry_29 rfl rfl q2115 (fun we_2_29 hwe_2_29 => ?_)
  refine (show Go g κ 32 [some (.ref t), some (.ref (kI g k)), some (.ref v), some (.ref a), some (.int (nI 0)), some (.ref n0)] [] [[(t, .inr (27, [.null, va_rf vs, .null, va_rf root, .int (nI n), .int (nI md), va_rf es, va_rf nk, .null]))], we_2_29] 0 0 from ?_)
  refine g_aload_n (q := 33) B dJ10_addEntry_32 rfl rfl (rv_r _) ?_
  refine g_aload (q := 35) B dJ10_addEntry_33 rfl rfl (rv_r _) ?_
  refine g_callV (q := 38) (is := [0, 0]) (kc2 := 0) (ks2 := 0) B [.ref n0] (ct_J10_fixAfterInsertion g J (t := t) (vs := vs) (n := n) (md := md) (es := es) (nk := nk) (ns := (n0 :: ns)) (key := (fup key n0 k)) (val := (fup val n0 v)) (l := (fup l n0 none)) (r := (fup (fup r n0 none) a (some n0))) (p := (fup p n0 (some a))) (col := (fup col n0 true)) (lo := _) (hi := _) (root := root) (M := 128) (x := n0) hwe_2_29 (tr_insR hT hnn ha hl h1 h2) (List.mem_cons_self)) dJ10_addEntry_35 rfl (rc_at B (ci := 27) rfl (k := 0) rfl) rfl q2137 q2139 qs19 q91 q2140 rfl rfl moJ10_fixAfterInsertion rfl rfl (by decide) (by decide) (Nat.le_of_ble_eq_true rfl) (Nat.le_of_ble_eq_true rfl) (Nat.le_of_ble_eq_true rfl) (fun _ _ hx => noX_x hx) (fun v35 L1 hp35 => ?_)
  obtain ⟨l235, r235, p235, col235, lo235, hi235, root235, u1_35, rfl, rfl, hu1_35, hT2_35⟩ := hp35
  refine (show Go g κ 38 [some (.ref t), some (.ref (kI g k)), some (.ref v), some (.ref a), some (.int (nI 0)), some (.ref n0)] [] [[(t, .inr (27, [.null, va_rf vs, .null, va_rf root235, .int (nI n), .int (nI md), va_rf es, va_rf nk, .null]))], u1_35] 0 0 from ?_)
  refine g_aload_n (q := 39) B dJ10_addEntry_38 rfl rfl (rv_r _) ?_
  refine g_dup (q := 40) B dJ10_addEntry_39 rfl rfl ?_
  refine g_get (q := 43) B (ci := 27) (k := 0) (j := 4) in_J10 rfl dJ10_addEntry_40 rfl rfl (Nat.le_of_ble_eq_true rfl) q1872 rfl rfl ?_
  refine g_iconst (v := nI 1) (q := 44) B dJ10_addEntry_43 rfl (by decide) ?_
  refine g_iadd (v := nI (n + 1)) (q := 45) B dJ10_addEntry_44 rfl (nI_add _ _) ?_
  refine g_put (q := 48) (L2 := [[(t, .inr (27, [.null, va_rf vs, .null, va_rf root235, .int (nI (n + 1)), .int (nI md), va_rf es, va_rf nk, .null]))], u1_35]) B (ci := 27) (k := 0) (j := 4) in_J10 tyJ10 tyJ10_ok nmJ10 rfl dJ10_addEntry_45 rfl rfl (Nat.le_of_ble_eq_true rfl) q1872 rfl rfl rfl rfl (Nat.le_of_ble_eq_true rfl) rfl ?_
  refine g_aload_n (q := 49) B dJ10_addEntry_48 rfl rfl (rv_r _) ?_
  refine g_dup (q := 50) B dJ10_addEntry_49 rfl rfl ?_
  refine g_get (q := 53) B (ci := 27) (k := 0) (j := 5) in_J10 rfl dJ10_addEntry_50 rfl rfl (Nat.le_of_ble_eq_true rfl) q1873 rfl rfl ?_
  refine g_iconst (v := nI 1) (q := 54) B dJ10_addEntry_53 rfl (by decide) ?_
  refine g_iadd (v := nI (md + 1)) (q := 55) B dJ10_addEntry_54 rfl (nI_add _ _) ?_
  refine g_put (q := 58) (L2 := [[(t, .inr (27, [.null, va_rf vs, .null, va_rf root235, .int (nI (n + 1)), .int (nI (md + 1)), va_rf es, va_rf nk, .null]))], u1_35]) B (ci := 27) (k := 0) (j := 5) in_J10 tyJ10 tyJ10_ok nmJ10 rfl dJ10_addEntry_55 rfl rfl (Nat.le_of_ble_eq_true rfl) q1873 rfl rfl rfl rfl (Nat.le_of_ble_eq_true rfl) rfl ?_
  exact g_vret B E dJ10_addEntry_58 (⟨n0, l235, r235, p235, col235, lo235, hi235, root235, _, rfl, rfl, hu1_35, hnn, hT2_35⟩)
