set_option maxRecDepth 100000
section
variable {ns : List Nat} {key : Nat → Nat} {j : Nat}
theorem lf_ex {M : Nat} (hk : ∀ a ∈ ns, key a < M) : ∀ (N j : Nat), M - j ≤ N → ∃ e, Lf ns key j e
  | 0, j, hN => ⟨none, (fun a e => by cases e), fun _ b hb => by have := hk b hb; omega⟩
  | N + 1, j, hN => by
    by_cases h : ∃ a ∈ ns, key a = j
    · obtain ⟨a, ha, e⟩ := h
      exact ⟨some a, (fun b hb => by cases hb; exact ⟨ha, by omega, fun c _ hc => by omega⟩), fun z => by cases z⟩
    · rcases Nat.lt_or_ge j M with hj | hj
      · obtain ⟨e, he⟩ := lf_ex hk N (j + 1) (by omega)
        refine ⟨e, fun a ha => ?_, fun z b hb => ?_⟩
        · have w := he.1 a ha
          exact ⟨w.1, by omega, fun c hc hjc => w.2.2 c hc (by rcases Nat.lt_or_ge j (key c) with q | q; exact q; exact absurd ⟨c, hc, by omega⟩ h)⟩
        · have w := he.2 z b hb
          rcases Nat.lt_or_ge (key b) j with q | q
          · exact q
          · exact absurd ⟨b, hb, by omega⟩ h
      · exact ⟨none, (fun a e => by cases e), fun _ b hb => by have := hk b hb; omega⟩
theorem lf_len {M : Nat} (hki : ∀ a ∈ ns, ∀ b ∈ ns, key a = key b → a = b) (hnd : ns.Nodup) {a : Nat} (h : Lf ns key j (some a)) : (ns.filter (fun b => decide (j ≤ key b))).length = (ns.filter (fun b => decide (key a + 1 ≤ key b))).length + 1 := by
  have w := h.1 a rfl
  have hp : (ns.filter (fun b => decide (j ≤ key b))).Perm (a :: ns.filter (fun b => decide (key a + 1 ≤ key b))) := by
    refine (List.perm_ext_iff_of_nodup (hnd.filter _) (List.nodup_cons.mpr ⟨by simp, hnd.filter _⟩)).mpr fun b => ?_
    simp only [List.mem_filter, List.mem_cons, decide_eq_true_eq]
    constructor
    · rintro ⟨h1, h2⟩
      by_cases e : b = a
      · exact Or.inl e
      · refine Or.inr ⟨h1, ?_⟩
        have := w.2.2 b h1 h2
        have : key a ≠ key b := fun q => e (hki b h1 a w.1 q.symm)
        omega
    · rintro (rfl | ⟨h1, h2⟩)
      · exact ⟨w.1, w.2.1⟩
      · exact ⟨h1, by omega⟩
  rw [hp.length_eq, List.length_cons]
theorem lf_non (h : Lf ns key j none) : (ns.filter (fun b => decide (j ≤ key b))).length = 0 := by
  rw [List.length_eq_zero_iff, List.filter_eq_nil_iff]
  intro b hb
  have := h.2 rfl b hb
  simp only [decide_eq_true_eq]; omega
theorem lf_all : (ns.filter (fun b => decide (0 ≤ key b))).length = ns.length := by
  rw [List.filter_eq_self.mpr (by simp)]
theorem lf_uq {e e2 : Option Nat} (hki : ∀ a ∈ ns, ∀ b ∈ ns, key a = key b → a = b) (h : Lf ns key j e) (h2 : Lf ns key j e2) : e = e2 := by
  cases e with
  | none =>
    cases e2 with
    | none => rfl
    | some b => have := h2.1 b rfl; have := h.2 rfl b this.1; omega
  | some a =>
    have w := h.1 a rfl
    cases e2 with
    | none => have := h2.2 rfl a w.1; omega
    | some b =>
      have w2 := h2.1 b rfl
      have := w.2.2 b w2.1 w2.2.1
      have := w2.2.2 a w.1 w.2.1
      rw [hki a w.1 b w2.1 (by omega)]
theorem lf_step {M : Nat} (hk : ∀ a ∈ ns, key a < M) (hki : ∀ a ∈ ns, ∀ b ∈ ns, key a = key b → a = b) (hnd : ns.Nodup) {c : Nat} (hc : (ns.filter (fun b => decide (j ≤ key b))).length = c + 1) : ∃ a, Lf ns key j (some a) ∧ (ns.filter (fun b => decide (key a + 1 ≤ key b))).length = c := by
  obtain ⟨e, he⟩ := lf_ex hk _ j (Nat.le_refl _)
  cases e with
  | none => rw [lf_non he] at hc; omega
  | some a => exact ⟨a, he, by have := lf_len (M := M) hki hnd he; omega⟩
theorem lf_stop {M : Nat} (hk : ∀ a ∈ ns, key a < M) (hki : ∀ a ∈ ns, ∀ b ∈ ns, key a = key b → a = b) (hnd : ns.Nodup) (hc : (ns.filter (fun b => decide (j ≤ key b))).length = 0) : Lf ns key j none := by
  obtain ⟨e, he⟩ := lf_ex hk _ j (Nat.le_refl _)
  cases e with
  | none => exact he
  | some a => have := lf_len (M := M) hki hnd he; omega
end
theorem VwP.spl {t : Nat} {vs nk : Option Nat} {w : va_W} (h : VwP t vs none nk w) : ∃ w1 w2 : va_W, (∀ e, VwP t vs (some e) nk ([w1, [(e, .inr (31, [.ref t]))], w2] : List va_W).flatten) ∧ w = ([w1, w2] : List va_W).flatten := by
  refine ⟨vs.toList.map fun a => (a, .inr (29, [.ref t])), nk.toList.map fun a => (a, .inr (30, [.ref t])), fun e => ?_, ?_⟩
  · unfold VwP; simp
  · unfold VwP at h; rw [h]; simp
theorem ct_J46_init (g : Gv) (J : Jd g) {e : Nat} {t : Nat} : Ct g yJ46_init (ws_ yJ46_init cJ46_init 2 none) 3 0 0 [.ref e, .ref t] [[(e, .inr (31, [.null]))]] (fun (rv_ : Option Value) (rL_ : List va_W) => rv_ = none ∧ rL_ = [[(e, .inr (31, [.ref t]))]]) noX := by
  refine Ct.ofI "java/util/TreeMap$EntrySet" [some (.ref e), some (.ref t)] rfl (by decide) rfl (Nat.le_of_ble_eq_true rfl) rfl rfl ?_
  intro κ B E tb ini
  refine g_aload_n (q := 1) B dJ46_init_0 rfl rfl (rv_r _) ?_
  refine g_aload_n (q := 2) B dJ46_init_1 rfl rfl (rv_r _) ?_
  refine g_putF (q := 5) (L2 := [[(e, .inr (31, [.ref t]))]]) B (ci := 31) (k := 0) (j := 0) in_J46 tyJ46 tyJ46_ok nmJ46 rfl dJ46_init_2 rfl rfl (Nat.le_of_ble_eq_true rfl) q2656 rfl rfl (ini) rfl rfl rfl (Nat.le_of_ble_eq_true rfl) rfl ?_
  refine g_aload_n (q := 6) B dJ46_init_5 rfl rfl (rv_r _) ?_
  refine g_callI (q := 9) (is := []) (kc2 := 0) (ks2 := 0) B [] (ct_J41_init g J (t := e)  ) dJ46_init_6 rfl rfl q2655 q2222 q133 q2223 rfl rfl moJ41_init rfl rfl (by decide) (by decide) (Nat.le_of_ble_eq_true rfl) (Nat.le_of_ble_eq_true rfl) (Nat.le_of_ble_eq_true rfl) (fun _ _ hx => noX_x hx) (fun v6 L1 hp6 => ?_)
  obtain ⟨rfl, rfl⟩ := hp6
  refine (show Go g κ 9 [some (.ref e), some (.ref t)] [] [[(e, .inr (31, [.ref t]))]] 0 0 from ?_)
  exact g_vret B E dJ46_init_9 (⟨rfl, rfl⟩)
theorem nwJ46 : ∀ j, j < 1 → defaultValue (tyJ46 j) = vp_V [.null] j := by
  intro j hj
  match j, hj with
  | 0, _ => rfl
  | n + 1, hj => exact absurd hj (by omega)
theorem moJ46_init : Mo yJ46_init 1 := by
  refine ⟨by decide, by decide, by decide +kernel⟩
theorem ct_J10_entrySet (g : Gv) (J : Jd g) {t : Nat} {vs : Option Nat} {n : Nat} {md : Nat} {es : Option Nat} {nk : Option Nat} {root : Option Nat} {w1 : va_W} (hw1 : VwP t vs es nk w1) : Ct g yJ10_entrySet (ws_ yJ10_entrySet cJ10_entrySet 2 (some (.object "java/util/Set"))) 4 1 1 [.ref t] [[(t, .inr (27, [.null, va_rf vs, .null, va_rf root, .int (nI n), .int (nI md), va_rf es, va_rf nk, .null]))], w1] (fun (rv_ : Option Value) (rL_ : List va_W) => ∃ (e : Nat) (u1 : va_W), rv_ = some (.ref e) ∧ rL_ = [[(t, .inr (27, [.null, va_rf vs, .null, va_rf root, .int (nI n), .int (nI md), va_rf (some e), va_rf nk, .null]))], u1] ∧ VwP t vs (some e) nk u1) noX := by
  refine Ct.of "java/util/TreeMap" [some (.ref t), none] rfl (by decide) rfl (Nat.le_of_ble_eq_true rfl) rfl ?_
  intro κ B E tb
  refine g_aload_n (q := 1) B dJ10_entrySet_0 rfl rfl (rv_r _) ?_
  refine g_get (q := 4) B (ci := 27) (k := 0) (j := 6) in_J10 rfl dJ10_entrySet_1 rfl rfl (Nat.le_of_ble_eq_true rfl) q1875 rfl rfl ?_
  refine g_astore_n (q := 5) (lv2 := [some (.ref t), some (va_rf es)]) B dJ10_entrySet_4 rfl (Nat.le_of_ble_eq_true rfl) (rv_o _) rfl ?_
  refine g_aload_n (q := 6) B dJ10_entrySet_5 rfl rfl (rv_o _) ?_
  refine g_ifnull_o (tgt := 13) (q := 9) B dJ10_entrySet_6 rfl (by decide) (fun c6 => ?_) (fun es_a6 c6 => ?_)
  · skip
    subst c6
    obtain ⟨wv1, wv2, hspl, rfl⟩ := (VwP.spl hw1)
    refine g_open 1 rfl rfl rfl ?_
    refine (show Go g κ 13 [some (.ref t), some (.null)] [] [[(t, .inr (27, [.null, va_rf vs, .null, va_rf root, .int (nI n), .int (nI md), .null, va_rf nk, .null]))], wv1, wv2] 1 1 from ?_)
    refine g_aload_n (q := 14) B dJ10_entrySet_13 rfl rfl (rv_r _) ?_
    refine g_new (q := 17) (kc2 := 0) (ks2 := 0) (fs := [.null]) B (ci := 31) in_J46 tyJ46_ok rfl dJ10_entrySet_14 rfl q2650 q2651 q145 (nwJ46) (Nat.le_of_ble_eq_true rfl) (Nat.le_of_ble_eq_true rfl) (fun n14 => ?_)
    refine (show Go g κ 17 [some (.ref t), some (.null)] [.ref n14, .ref t] [[(t, .inr (27, [.null, va_rf vs, .null, va_rf root, .int (nI n), .int (nI md), .null, va_rf nk, .null]))], wv1, wv2, [(n14, .inr (31, [.null]))]] 0 0 from ?_)
    refine g_dup (q := 18) B dJ10_entrySet_17 rfl rfl ?_
    refine g_aload_n (q := 19) B dJ10_entrySet_18 rfl rfl (rv_r _) ?_
    refine g_callI (q := 22) (is := [3]) (kc2 := 0) (ks2 := 0) B [.ref t] (ct_J46_init g J (e := n14) (t := t)  ) dJ10_entrySet_19 rfl rfl q2652 q2653 q145 q2654 rfl rfl moJ46_init rfl rfl (by decide) (by decide) (Nat.le_of_ble_eq_true rfl) (Nat.le_of_ble_eq_true rfl) (Nat.le_of_ble_eq_true rfl) (fun _ _ hx => noX_x hx) (fun v19 L1 hp19 => ?_)
    obtain ⟨rfl, rfl⟩ := hp19
    refine (show Go g κ 22 [some (.ref t), some (.null)] [.ref n14, .ref t] [[(t, .inr (27, [.null, va_rf vs, .null, va_rf root, .int (nI n), .int (nI md), .null, va_rf nk, .null]))], wv1, wv2, [(n14, .inr (31, [.ref t]))]] 0 0 from ?_)
    refine g_dup_x1 (q := 23) B dJ10_entrySet_22 rfl rfl rfl ?_
    refine g_put (q := 26) (L2 := [[(t, .inr (27, [.null, va_rf vs, .null, va_rf root, .int (nI n), .int (nI md), .ref n14, va_rf nk, .null]))], wv1, wv2, [(n14, .inr (31, [.ref t]))]]) B (ci := 27) (k := 0) (j := 6) in_J10 tyJ10 tyJ10_ok nmJ10 rfl dJ10_entrySet_23 rfl rfl (Nat.le_of_ble_eq_true rfl) q1875 rfl rfl rfl rfl (Nat.le_of_ble_eq_true rfl) rfl ?_
    obtain ⟨wc_1, ewc_1⟩ : ∃ w : va_W, w = ([wv1, [(n14, .inr (31, [.ref t]))], wv2] : List va_W).flatten := ⟨_, rfl⟩
    have hwc_1 : VwP t vs (some n14) nk wc_1 := by
      rw [ewc_1]
      exact hspl n14
    refine g_close (w := wc_1) [1, 2, 1] rfl ewc_1 rfl ?_
    refine (show Go g κ 26 [some (.ref t), some (.null)] [.ref n14] [[(t, .inr (27, [.null, va_rf vs, .null, va_rf root, .int (nI n), .int (nI md), .ref n14, va_rf nk, .null]))], wc_1] 0 0 from ?_)
    exact g_aret B E dJ10_entrySet_26 (by first | exact Or.inl ⟨_, rfl⟩ | exact Or.inr ⟨_, rfl⟩) (rv_r _) (⟨n14, _, rfl, rfl, hwc_1⟩)
  · skip
    subst c6
    refine g_aload_n (q := 10) B dJ10_entrySet_9 rfl rfl (rv_r _) ?_
    refine g_goto (tgt := 26) B dJ10_entrySet_10 (by decide) ?_
    exact g_aret B E dJ10_entrySet_26 (by first | exact Or.inl ⟨_, rfl⟩ | exact Or.inr ⟨_, rfl⟩) (rv_r _) (⟨es_a6, _, rfl, rfl, hw1⟩)
theorem nwJ32 : ∀ j, j < 4 → defaultValue (tyJ32 j) = vp_V [.null, .null, .int (nI 0), .null] j := by
  intro j hj
  match j, hj with
  | 0, _ => rfl
  | 1, _ => rfl
  | 2, _ => rfl
  | 3, _ => rfl
  | n + 4, hj => exact absurd hj (by omega)
theorem moJ32_init : Mo yJ32_init 2 := by
  refine ⟨by decide, by decide, by decide +kernel⟩
theorem ct_J46_iterator (g : Gv) (J : Jd g) {t : Nat} {vs : Option Nat} {n : Nat} {md : Nat} {es : Option Nat} {nk : Option Nat} {ns : List Nat} {key : Nat → Nat} {val : Nat → Nat} {l : Nat → Option Nat} {r : Nat → Option Nat} {p : Nat → Option Nat} {col : Nat → Bool} {lo : Nat → Nat} {hi : Nat → Nat} {root : Option Nat} {y : Nat} {w1 : va_W} (hw1 : EntG g ns key val l r p col w1) (hT : Tr ns key l r p lo hi root 128) : Ct g yJ46_iterator (ws_ yJ46_iterator cJ46_iterator 1 (some (.object "java/util/Iterator"))) 3 1 4 [.ref y] [[(t, .inr (27, [.null, va_rf vs, .null, va_rf root, .int (nI n), .int (nI md), va_rf es, va_rf nk, .null]))], w1, [(y, .inr (31, [.ref t]))]] (fun (rv_ : Option Value) (rL_ : List va_W) => ∃ (i : Nat) (e : Option Nat), rv_ = some (.ref i) ∧ rL_ = [[(t, .inr (27, [.null, va_rf vs, .null, va_rf root, .int (nI n), .int (nI md), va_rf es, va_rf nk, .null]))], w1, [(y, .inr (31, [.ref t]))], [(i, .inr (34, [va_rf e, .null, .int (nI md), .ref t]))]] ∧ (Lf ns key 0 e)) noX := by
  refine Ct.of "java/util/TreeMap$EntrySet" [some (.ref y)] rfl (by decide) rfl (Nat.le_of_ble_eq_true rfl) rfl ?_
  intro κ B E tb
  refine g_new (q := 3) (kc2 := 0) (ks2 := 0) (fs := [.null, .null, .int (nI 0), .null]) B (ci := 34) in_J32 tyJ32_ok rfl dJ46_iterator_0 rfl q864 q865 q117 (nwJ32) (Nat.le_of_ble_eq_true rfl) (Nat.le_of_ble_eq_true rfl) (fun n0 => ?_)
  refine (show Go g κ 3 [some (.ref y)] [.ref n0] [[(t, .inr (27, [.null, va_rf vs, .null, va_rf root, .int (nI n), .int (nI md), va_rf es, va_rf nk, .null]))], w1, [(y, .inr (31, [.ref t]))], [(n0, .inr (34, [.null, .null, .int (nI 0), .null]))]] 0 0 from ?_)
  refine g_dup (q := 4) B dJ46_iterator_3 rfl rfl ?_
  refine g_aload_n (q := 5) B dJ46_iterator_4 rfl rfl (rv_r _) ?_
  refine g_get (q := 8) B (ci := 31) (k := 2) (j := 0) in_J46 rfl dJ46_iterator_5 rfl rfl (Nat.le_of_ble_eq_true rfl) q2656 rfl rfl ?_
  refine g_aload_n (q := 9) B dJ46_iterator_8 rfl rfl (rv_r _) ?_
  refine g_get (q := 12) B (ci := 31) (k := 2) (j := 0) in_J46 rfl dJ46_iterator_9 rfl rfl (Nat.le_of_ble_eq_true rfl) q2656 rfl rfl ?_
  refine g_callV (q := 15) (is := [0, 0]) (kc2 := 0) (ks2 := 0) B [] (ct_J10_getFirstEntry g J (t := t) (vs := vs) (n := n) (md := md) (es := es) (nk := nk) (ns := ns) (key := key) (val := val) (l := l) (r := r) (p := p) (col := col) (lo := lo) (hi := hi) (root := root) hw1 (by first | assumption | omega | rfl)) dJ46_iterator_12 rfl (rc_at B (ci := 27) rfl (k := 0) rfl) rfl q866 q867 q868 q91 q869 rfl rfl moJ10_getFirstEntry rfl rfl (by decide) (by decide) (Nat.le_of_ble_eq_true rfl) (Nat.le_of_ble_eq_true rfl) (Nat.le_of_ble_eq_true rfl) (fun _ _ hx => noX_x hx) (fun v12 L1 hp12 => ?_)
  obtain ⟨e12, rfl, rfl, he_12⟩ := hp12
  refine (show Go g κ 15 [some (.ref y)] [va_rf e12, .ref t, .ref n0, .ref n0] [[(y, .inr (31, [.ref t]))], [(n0, .inr (34, [.null, .null, .int (nI 0), .null]))], [(t, .inr (27, [.null, va_rf vs, .null, va_rf root, .int (nI n), .int (nI md), va_rf es, va_rf nk, .null]))], w1] 0 0 from ?_)
  refine g_callI (q := 18) (is := [2, 1]) (kc2 := 0) (ks2 := 0) B [.ref t, va_rf e12] (ct_J32_init g J (t := t) (vs := vs) (n := n) (md := md) (es := es) (nk := nk) (root := root) (i := n0) (nx := e12)  ) dJ46_iterator_15 rfl rfl q870 q871 q117 q872 rfl rfl moJ32_init rfl rfl (by decide) (by decide) (Nat.le_of_ble_eq_true rfl) (Nat.le_of_ble_eq_true rfl) (Nat.le_of_ble_eq_true rfl) (fun _ _ hx => noX_x hx) (fun v15 L1 hp15 => ?_)
  obtain ⟨rfl, rfl⟩ := hp15
  refine (show Go g κ 18 [some (.ref y)] [.ref n0] [[(y, .inr (31, [.ref t]))], w1, [(t, .inr (27, [.null, va_rf vs, .null, va_rf root, .int (nI n), .int (nI md), va_rf es, va_rf nk, .null]))], [(n0, .inr (34, [va_rf e12, .null, .int (nI md), .ref t]))]] 0 0 from ?_)
  refine g_pk [2, 1, 0, 0] rfl rfl ?_
  refine (show Go g κ 18 [some (.ref y)] [.ref n0] [[(t, .inr (27, [.null, va_rf vs, .null, va_rf root, .int (nI n), .int (nI md), va_rf es, va_rf nk, .null]))], w1, [(y, .inr (31, [.ref t]))], [(n0, .inr (34, [va_rf e12, .null, .int (nI md), .ref t]))]] 0 0 from ?_)
  exact g_aret B E dJ46_iterator_18 (by first | exact Or.inl ⟨_, rfl⟩ | exact Or.inr ⟨_, rfl⟩) (rv_r _) (⟨n0, e12, rfl, rfl, by first | assumption | omega | rfl | simp_all⟩)
theorem moJ32_next_2 : Mo yJ32_next_2 0 := by
  refine ⟨by decide, by decide, by decide +kernel⟩
theorem ct_J32_next (g : Gv) (J : Jd g) {t : Nat} {vs : Option Nat} {n : Nat} {md : Nat} {es : Option Nat} {nk : Option Nat} {ns : List Nat} {key : Nat → Nat} {val : Nat → Nat} {l : Nat → Option Nat} {r : Nat → Option Nat} {p : Nat → Option Nat} {col : Nat → Bool} {lo : Nat → Nat} {hi : Nat → Nat} {root : Option Nat} {M : Nat} {i : Nat} {a : Nat} {la : Option Nat} {w1 : va_W} (hw1 : EntG g ns key val l r p col w1) (hT : Tr ns key l r p lo hi root M) (ha : a ∈ ns) : Ct g yJ32_next (ws_ yJ32_next cJ32_next 1 (some (.object "java/lang/Object"))) 3 0 0 [.ref i] [[(t, .inr (27, [.null, va_rf vs, .null, va_rf root, .int (nI n), .int (nI md), va_rf es, va_rf nk, .null]))], w1, [(i, .inr (34, [.ref a, va_rf la, .int (nI md), .ref t]))]] (fun (rv_ : Option Value) (rL_ : List va_W) => ∃ (e : Option Nat), rv_ = some (.ref a) ∧ rL_ = [[(t, .inr (27, [.null, va_rf vs, .null, va_rf root, .int (nI n), .int (nI md), va_rf es, va_rf nk, .null]))], w1, [(i, .inr (34, [va_rf e, .ref a, .int (nI md), .ref t]))]] ∧ (Lf ns key (key a + 1) e)) noX := by
  refine Ct.of "java/util/TreeMap$EntryIterator" [some (.ref i)] rfl (by decide) rfl (Nat.le_of_ble_eq_true rfl) rfl ?_
  intro κ B E tb
  refine g_aload_n (q := 1) B dJ32_next_0 rfl rfl (rv_r _) ?_
  refine g_callV (q := 4) (is := [0, 0, 0]) (kc2 := 0) (ks2 := 0) B [] (ct_J32_next_2 g J (t := t) (vs := vs) (n := n) (md := md) (es := es) (nk := nk) (ns := ns) (key := key) (val := val) (l := l) (r := r) (p := p) (col := col) (lo := lo) (hi := hi) (root := root) (M := M) (i := i) (a := a) (la := la) hw1 (by first | assumption | omega | rfl) (by first | assumption | omega | rfl)) dJ32_next_1 rfl (rc_at B (ci := 34) rfl (k := 2) rfl) rfl q1019 q1020 q1021 q117 q1022 rfl rfl moJ32_next_2 rfl rfl (by decide) (by decide) (Nat.le_of_ble_eq_true rfl) (Nat.le_of_ble_eq_true rfl) (Nat.le_of_ble_eq_true rfl) (fun _ _ hx => noX_x hx) (fun v1 L1 hp1 => ?_)
  obtain ⟨e1, rfl, rfl, he_1⟩ := hp1
  refine (show Go g κ 4 [some (.ref i)] [.ref a] [[(t, .inr (27, [.null, va_rf vs, .null, va_rf root, .int (nI n), .int (nI md), va_rf es, va_rf nk, .null]))], w1, [(i, .inr (34, [va_rf e1, .ref a, .int (nI md), .ref t]))]] 0 0 from ?_)
  exact g_aret B E dJ32_next_4 (by first | exact Or.inl ⟨_, rfl⟩ | exact Or.inr ⟨_, rfl⟩) (rv_r _) (⟨e1, rfl, rfl, by first | assumption | omega | rfl | simp_all⟩)
theorem ct_J37_getKey (g : Gv) (J : Jd g) {ns : List Nat} {key : Nat → Nat} {val : Nat → Nat} {l : Nat → Option Nat} {r : Nat → Option Nat} {p : Nat → Option Nat} {col : Nat → Bool} {a : Nat} {w0 : va_W} (hw0 : EntG g ns key val l r p col w0) (ha : a ∈ ns) : Ct g yJ37_getKey (ws_ yJ37_getKey cJ37_getKey 1 (some (.object "java/lang/Object"))) 0 0 0 [.ref a] [w0] (fun (rv_ : Option Value) (rL_ : List va_W) => rv_ = some (.ref (kI g (key a))) ∧ rL_ = [w0]) noX := by
  refine Ct.of "java/util/TreeMap$Entry" [some (.ref a)] rfl (by decide) rfl (Nat.le_of_ble_eq_true rfl) rfl ?_
  intro κ B E tb
  refine g_aload_n (q := 1) B dJ37_getKey_0 rfl rfl (rv_r _) ?_
  refine g_getM (v := .ref (kI g (key a))) (q := 4) B (ci := 28) (k := 0) (j := 0) in_J37 rfl dJ37_getKey_1 rfl rfl (EntG.mem hw0 ha) (Nat.le_of_ble_eq_true rfl) q2106 rfl rfl ?_
  exact g_aret B E dJ37_getKey_4 (by first | exact Or.inl ⟨_, rfl⟩ | exact Or.inr ⟨_, rfl⟩) (rv_r _) (⟨rfl, rfl⟩)
theorem ct_J37_getValue (g : Gv) (J : Jd g) {ns : List Nat} {key : Nat → Nat} {val : Nat → Nat} {l : Nat → Option Nat} {r : Nat → Option Nat} {p : Nat → Option Nat} {col : Nat → Bool} {a : Nat} {w0 : va_W} (hw0 : EntG g ns key val l r p col w0) (ha : a ∈ ns) : Ct g yJ37_getValue (ws_ yJ37_getValue cJ37_getValue 1 (some (.object "java/lang/Object"))) 0 0 0 [.ref a] [w0] (fun (rv_ : Option Value) (rL_ : List va_W) => rv_ = some (.ref (val a)) ∧ rL_ = [w0]) noX := by
  refine Ct.of "java/util/TreeMap$Entry" [some (.ref a)] rfl (by decide) rfl (Nat.le_of_ble_eq_true rfl) rfl ?_
  intro κ B E tb
  refine g_aload_n (q := 1) B dJ37_getValue_0 rfl rfl (rv_r _) ?_
  refine g_getM (v := .ref (val a)) (q := 4) B (ci := 28) (k := 0) (j := 1) in_J37 rfl dJ37_getValue_1 rfl rfl (EntG.mem hw0 ha) (Nat.le_of_ble_eq_true rfl) q2109 rfl rfl ?_
  exact g_aret B E dJ37_getValue_4 (by first | exact Or.inl ⟨_, rfl⟩ | exact Or.inr ⟨_, rfl⟩) (rv_r _) (⟨rfl, rfl⟩)
theorem mojava_util_Iterator_next___Ljava_lang_Object_ : Mo ⟨"java/util/Iterator", "next", "()Ljava/lang/Object;"⟩ 0 := by
  refine ⟨by decide, by decide, by decide +kernel⟩
theorem mojava_util_Map_Entry_getKey___Ljava_lang_Object_ : Mo ⟨"java/util/Map$Entry", "getKey", "()Ljava/lang/Object;"⟩ 0 := by
  refine ⟨by decide, by decide, by decide +kernel⟩
theorem mojava_util_Map_Entry_getValue___Ljava_lang_Object_ : Mo ⟨"java/util/Map$Entry", "getValue", "()Ljava/lang/Object;"⟩ 0 := by
  refine ⟨by decide, by decide, by decide +kernel⟩
theorem ct_bf0001 (g : Gv) (J : Jd g) {b : Nat} {bvs : Option Nat} {brt : Option Nat} {bn : Nat} {bmd : Nat} {bes : Option Nat} {bnk : Option Nat} {t : Nat} {vs : Option Nat} {n : Nat} {md : Nat} {es : Option Nat} {nk : Option Nat} {ns : List Nat} {key : Nat → Nat} {val : Nat → Nat} {l : Nat → Option Nat} {r : Nat → Option Nat} {p : Nat → Option Nat} {col : Nat → Bool} {lo : Nat → Nat} {hi : Nat → Nat} {root : Option Nat} {i : Nat} {la : Option Nat} {a1 : Nat} {w2 : va_W} (hw2 : EntG g ns key val l r p col w2) (hT : Tr ns key l r p lo hi root 128) (ha1 : a1 ∈ ns) : Ct g yJ10_buildFromSorted_2 (ws_ yJ10_buildFromSorted_2 cJ10_buildFromSorted_2 14 (some (.object "java/util/TreeMap$Entry"))) 5 1 6 [.ref b, .int (nI 0), .int (nI 0), .int (nI 0), .int (nI 1), .ref i, .null, .null] [[(b, .inr (27, [.null, va_rf bvs, .null, va_rf brt, .int (nI bn), .int (nI bmd), va_rf bes, va_rf bnk, .null]))], [(t, .inr (27, [.null, va_rf vs, .null, va_rf root, .int (nI n), .int (nI md), va_rf es, va_rf nk, .null]))], w2, [(i, .inr (34, [.ref a1, va_rf la, .int (nI md), .ref t]))]] (fun (rv_ : Option Value) (rL_ : List va_W) => ∃ (m1 : Nat) (e : Option Nat), rv_ = some (.ref m1) ∧ rL_ = [[(b, .inr (27, [.null, va_rf bvs, .null, va_rf brt, .int (nI bn), .int (nI bmd), va_rf bes, va_rf bnk, .null]))], [(t, .inr (27, [.null, va_rf vs, .null, va_rf root, .int (nI n), .int (nI md), va_rf es, va_rf nk, .null]))], w2, [(i, .inr (34, [va_rf e, .ref a1, .int (nI md), .ref t]))], [(m1, .inr (28, [.ref (kI g (key a1)), .ref (val a1), .null, .null, .null, .int (nI 1)]))]] ∧ (Lf ns key (key a1 + 1) e)) noX := by
  refine Ct.of "java/util/TreeMap" [some (.ref b), some (.int (nI 0)), some (.int (nI 0)), some (.int (nI 0)), some (.int (nI 1)), some (.ref i), some (.null), some (.null), none, none, none, none, none, none] rfl (by decide) rfl (Nat.le_of_ble_eq_true rfl) rfl ?_
  intro κ B E tb
  refine g_iload_n (q := 1) B dJ10_buildFromSorted_2_0 rfl rfl ?_
  refine g_iload_n (q := 2) B dJ10_buildFromSorted_2_1 rfl rfl ?_
  refine g_icmp_ge (tgt := 7) (q := 5) B dJ10_buildFromSorted_2_2 rfl (by decide) (iff_true_intro (by decide)) (fun _ => ?_) (fun z => absurd trivial z)
  refine g_iload_n (q := 8) B dJ10_buildFromSorted_2_7 rfl rfl ?_
  refine g_iload_n (q := 9) B dJ10_buildFromSorted_2_8 rfl rfl ?_
  refine g_iadd (v := nI 0) (q := 10) B dJ10_buildFromSorted_2_9 rfl (nI_add _ _) ?_
  refine g_iconst (v := nI 1) (q := 11) B dJ10_buildFromSorted_2_10 rfl (by decide) ?_
  refine g_iushr (v := nI 0) (q := 12) B dJ10_buildFromSorted_2_11 rfl (by decide) ?_
  refine g_istore (q := 14) (lv2 := [some (.ref b), some (.int (nI 0)), some (.int (nI 0)), some (.int (nI 0)), some (.int (nI 1)), some (.ref i), some (.null), some (.null), some (.int (nI 0)), none, none, none, none, none]) B dJ10_buildFromSorted_2_12 rfl (Nat.le_of_ble_eq_true rfl) rfl ?_
  refine g_aconst_null (q := 15) B dJ10_buildFromSorted_2_14 rfl ?_
  refine g_astore (q := 17) (lv2 := [some (.ref b), some (.int (nI 0)), some (.int (nI 0)), some (.int (nI 0)), some (.int (nI 1)), some (.ref i), some (.null), some (.null), some (.int (nI 0)), some (.null), none, none, none, none]) B dJ10_buildFromSorted_2_15 rfl (Nat.le_of_ble_eq_true rfl) rv_n rfl ?_
  refine g_iload_n (q := 18) B dJ10_buildFromSorted_2_17 rfl rfl ?_
  refine g_iload (q := 20) B dJ10_buildFromSorted_2_18 rfl rfl ?_
  refine g_icmp_ge (tgt := 45) (q := 23) B dJ10_buildFromSorted_2_20 rfl (by decide) (iff_true_intro (by decide)) (fun _ => ?_) (fun z => absurd trivial z)
  refine g_aload (q := 47) B dJ10_buildFromSorted_2_45 rfl rfl (rv_r _) ?_
  refine g_ifnull_r (q := 50) B dJ10_buildFromSorted_2_47 rfl ?_
  refine g_aload (q := 52) B dJ10_buildFromSorted_2_50 rfl rfl rv_n ?_
  refine g_ifnonnull_n (q := 55) B dJ10_buildFromSorted_2_52 rfl ?_
  refine g_aload (q := 57) B dJ10_buildFromSorted_2_55 rfl rfl (rv_r _) ?_
  refine g_callF (q := 62) (is := [1, 1, 1]) (kc2 := 1) (ks2 := 6) B [] (ct_J32_next g J (t := t) (vs := vs) (n := n) (md := md) (es := es) (nk := nk) (ns := ns) (key := key) (val := val) (l := l) (r := r) (p := p) (col := col) (lo := lo) (hi := hi) (root := root) (M := 128) (i := i) (a := a1) (la := la) hw2 (by first | assumption | omega | rfl) (by first | assumption | omega | rfl)) dJ10_buildFromSorted_2_57 rfl (ci := 34) rfl (rc_at B (ci := 34) rfl (k := 3) rfl) q2675 q1014 q1016 q117 q1018 q966 q965 q1017 q1015 q951 rfl rfl mojava_util_Iterator_next___Ljava_lang_Object_ rfl rfl (by decide) (by decide) (Nat.le_of_ble_eq_true rfl) (Nat.le_of_ble_eq_true rfl) (Nat.le_of_ble_eq_true rfl) (fun _ _ hx => noX_x hx) (fun v57 L1 hp57 => ?_)
  obtain ⟨e57, rfl, rfl, he_57⟩ := hp57
  refine (show Go g κ 62 [some (.ref b), some (.int (nI 0)), some (.int (nI 0)), some (.int (nI 0)), some (.int (nI 1)), some (.ref i), some (.null), some (.null), some (.int (nI 0)), some (.null), none, none, none, none] [.ref a1] [[(b, .inr (27, [.null, va_rf bvs, .null, va_rf brt, .int (nI bn), .int (nI bmd), va_rf bes, va_rf bnk, .null]))], [(t, .inr (27, [.null, va_rf vs, .null, va_rf root, .int (nI n), .int (nI md), va_rf es, va_rf nk, .null]))], w2, [(i, .inr (34, [va_rf e57, .ref a1, .int (nI md), .ref t]))]] 1 6 from ?_)
  refine g_castR (q := 65) B (rc_ent B (k := 2) rfl hw2 ha1) dJ10_buildFromSorted_2_62 rfl q2676 q2690 ?_
  refine g_astore (q := 67) (lv2 := [some (.ref b), some (.int (nI 0)), some (.int (nI 0)), some (.int (nI 0)), some (.int (nI 1)), some (.ref i), some (.null), some (.null), some (.int (nI 0)), some (.null), none, none, some (.ref a1), none]) B dJ10_buildFromSorted_2_65 rfl (Nat.le_of_ble_eq_true rfl) (rv_r _) rfl ?_
  refine g_aload (q := 69) B dJ10_buildFromSorted_2_67 rfl rfl (rv_r _) ?_
  refine g_callF (q := 74) (is := [2]) (kc2 := 1) (ks2 := 6) B [] (ct_J37_getKey g J (ns := ns) (key := key) (val := val) (l := l) (r := r) (p := p) (col := col) (a := a1) hw2 (by first | assumption | omega | rfl)) dJ10_buildFromSorted_2_69 rfl (ci := 28) rfl (rc_ent B (k := 2) rfl hw2 ha1) q2678 q2691 q2693 q128 q2695 q2680 q2679 q2694 q2692 q2690 rfl rfl mojava_util_Map_Entry_getKey___Ljava_lang_Object_ rfl rfl (by decide) (by decide) (Nat.le_of_ble_eq_true rfl) (Nat.le_of_ble_eq_true rfl) (Nat.le_of_ble_eq_true rfl) (fun _ _ hx => noX_x hx) (fun v69 L1 hp69 => ?_)
  obtain ⟨rfl, rfl⟩ := hp69
  refine (show Go g κ 74 [some (.ref b), some (.int (nI 0)), some (.int (nI 0)), some (.int (nI 0)), some (.int (nI 1)), some (.ref i), some (.null), some (.null), some (.int (nI 0)), some (.null), none, none, some (.ref a1), none] [.ref (kI g (key a1))] [[(b, .inr (27, [.null, va_rf bvs, .null, va_rf brt, .int (nI bn), .int (nI bmd), va_rf bes, va_rf bnk, .null]))], [(t, .inr (27, [.null, va_rf vs, .null, va_rf root, .int (nI n), .int (nI md), va_rf es, va_rf nk, .null]))], [(i, .inr (34, [va_rf e57, .ref a1, .int (nI md), .ref t]))], w2] 1 6 from ?_)
  refine g_astore (q := 76) (lv2 := [some (.ref b), some (.int (nI 0)), some (.int (nI 0)), some (.int (nI 0)), some (.int (nI 1)), some (.ref i), some (.null), some (.null), some (.int (nI 0)), some (.null), some (.ref (kI g (key a1))), none, some (.ref a1), none]) B dJ10_buildFromSorted_2_74 rfl (Nat.le_of_ble_eq_true rfl) (rv_r _) rfl ?_
  refine g_aload (q := 78) B dJ10_buildFromSorted_2_76 rfl rfl (rv_r _) ?_
  refine g_callF (q := 83) (is := [3]) (kc2 := 1) (ks2 := 6) B [] (ct_J37_getValue g J (ns := ns) (key := key) (val := val) (l := l) (r := r) (p := p) (col := col) (a := a1) hw2 (by first | assumption | omega | rfl)) dJ10_buildFromSorted_2_78 rfl (ci := 28) rfl (rc_ent B (k := 3) rfl hw2 ha1) q2697 q2707 q2709 q128 q2711 q2699 q2698 q2710 q2708 q2690 rfl rfl mojava_util_Map_Entry_getValue___Ljava_lang_Object_ rfl rfl (by decide) (by decide) (Nat.le_of_ble_eq_true rfl) (Nat.le_of_ble_eq_true rfl) (Nat.le_of_ble_eq_true rfl) (fun _ _ hx => noX_x hx) (fun v78 L1 hp78 => ?_)
  obtain ⟨rfl, rfl⟩ := hp78
  refine (show Go g κ 83 [some (.ref b), some (.int (nI 0)), some (.int (nI 0)), some (.int (nI 0)), some (.int (nI 1)), some (.ref i), some (.null), some (.null), some (.int (nI 0)), some (.null), some (.ref (kI g (key a1))), none, some (.ref a1), none] [.ref (val a1)] [[(b, .inr (27, [.null, va_rf bvs, .null, va_rf brt, .int (nI bn), .int (nI bmd), va_rf bes, va_rf bnk, .null]))], [(t, .inr (27, [.null, va_rf vs, .null, va_rf root, .int (nI n), .int (nI md), va_rf es, va_rf nk, .null]))], [(i, .inr (34, [va_rf e57, .ref a1, .int (nI md), .ref t]))], w2] 1 6 from ?_)
  refine g_astore (q := 85) (lv2 := [some (.ref b), some (.int (nI 0)), some (.int (nI 0)), some (.int (nI 0)), some (.int (nI 1)), some (.ref i), some (.null), some (.null), some (.int (nI 0)), some (.null), some (.ref (kI g (key a1))), some (.ref (val a1)), some (.ref a1), none]) B dJ10_buildFromSorted_2_83 rfl (Nat.le_of_ble_eq_true rfl) (rv_r _) rfl ?_
  refine g_goto (tgt := 128) B dJ10_buildFromSorted_2_85 (by decide) ?_
  refine g_new (q := 131) (kc2 := 0) (ks2 := 0) (fs := [.null, .null, .null, .null, .null, .int (nI 0)]) B (ci := 28) in_J37 tyJ37_ok rfl dJ10_buildFromSorted_2_128 rfl q2100 q2101 q128 (nwJ37) (Nat.le_of_ble_eq_true rfl) (Nat.le_of_ble_eq_true rfl) (fun n128 => ?_)
  refine (show Go g κ 131 [some (.ref b), some (.int (nI 0)), some (.int (nI 0)), some (.int (nI 0)), some (.int (nI 1)), some (.ref i), some (.null), some (.null), some (.int (nI 0)), some (.null), some (.ref (kI g (key a1))), some (.ref (val a1)), some (.ref a1), none] [.ref n128] [[(b, .inr (27, [.null, va_rf bvs, .null, va_rf brt, .int (nI bn), .int (nI bmd), va_rf bes, va_rf bnk, .null]))], [(t, .inr (27, [.null, va_rf vs, .null, va_rf root, .int (nI n), .int (nI md), va_rf es, va_rf nk, .null]))], [(i, .inr (34, [va_rf e57, .ref a1, .int (nI md), .ref t]))], w2, [(n128, .inr (28, [.null, .null, .null, .null, .null, .int (nI 0)]))]] 0 0 from ?_)
  refine g_dup (q := 132) B dJ10_buildFromSorted_2_131 rfl rfl ?_
  refine g_aload (q := 134) B dJ10_buildFromSorted_2_132 rfl rfl (rv_r _) ?_
  refine g_aload (q := 136) B dJ10_buildFromSorted_2_134 rfl rfl (rv_r _) ?_
  refine g_aconst_null (q := 137) B dJ10_buildFromSorted_2_136 rfl ?_
  refine g_callI (q := 140) (is := [4]) (kc2 := 0) (ks2 := 0) B [.ref (kI g (key a1)), .ref (val a1), .null] (ct_J37_init g J (e := n128) (kr := (kI g (key a1))) (v := (val a1)) (q := none)  ) dJ10_buildFromSorted_2_137 rfl rfl q2102 q2103 q128 q2104 rfl rfl moJ37_init rfl rfl (by decide) (by decide) (Nat.le_of_ble_eq_true rfl) (Nat.le_of_ble_eq_true rfl) (Nat.le_of_ble_eq_true rfl) (fun _ _ hx => noX_x hx) (fun v137 L1 hp137 => ?_)
  obtain ⟨rfl, rfl⟩ := hp137
  refine (show Go g κ 140 [some (.ref b), some (.int (nI 0)), some (.int (nI 0)), some (.int (nI 0)), some (.int (nI 1)), some (.ref i), some (.null), some (.null), some (.int (nI 0)), some (.null), some (.ref (kI g (key a1))), some (.ref (val a1)), some (.ref a1), none] [.ref n128] [[(b, .inr (27, [.null, va_rf bvs, .null, va_rf brt, .int (nI bn), .int (nI bmd), va_rf bes, va_rf bnk, .null]))], [(t, .inr (27, [.null, va_rf vs, .null, va_rf root, .int (nI n), .int (nI md), va_rf es, va_rf nk, .null]))], [(i, .inr (34, [va_rf e57, .ref a1, .int (nI md), .ref t]))], w2, [(n128, .inr (28, [.ref (kI g (key a1)), .ref (val a1), .null, .null, .null, .int (nI 1)]))]] 0 0 from ?_)
  refine g_astore (q := 142) (lv2 := [some (.ref b), some (.int (nI 0)), some (.int (nI 0)), some (.int (nI 0)), some (.int (nI 1)), some (.ref i), some (.null), some (.null), some (.int (nI 0)), some (.null), some (.ref (kI g (key a1))), some (.ref (val a1)), some (.ref n128), none]) B dJ10_buildFromSorted_2_140 rfl (Nat.le_of_ble_eq_true rfl) (rv_r _) rfl ?_
  refine g_iload_n (q := 143) B dJ10_buildFromSorted_2_142 rfl rfl ?_
  refine g_iload (q := 145) B dJ10_buildFromSorted_2_143 rfl rfl ?_
  refine g_icmp_ne (tgt := 154) (q := 148) B dJ10_buildFromSorted_2_145 rfl (by decide) (iff_true_intro (by decide)) (fun _ => ?_) (fun z => absurd trivial z)
  refine g_aload (q := 156) B dJ10_buildFromSorted_2_154 rfl rfl rv_n ?_
  refine g_ifnull_n (tgt := 173) B dJ10_buildFromSorted_2_156 (by decide) ?_
  refine g_iload (q := 175) B dJ10_buildFromSorted_2_173 rfl rfl ?_
  refine g_iload_n (q := 176) B dJ10_buildFromSorted_2_175 rfl rfl ?_
  refine g_icmp_ge (tgt := 215) (q := 179) B dJ10_buildFromSorted_2_176 rfl (by decide) (iff_true_intro (by decide)) (fun _ => ?_) (fun z => absurd trivial z)
  refine g_aload (q := 217) B dJ10_buildFromSorted_2_215 rfl rfl (rv_r _) ?_
  refine g_pk [0, 0, 1, 0, 0] rfl rfl ?_
  refine (show Go g κ 217 [some (.ref b), some (.int (nI 0)), some (.int (nI 0)), some (.int (nI 0)), some (.int (nI 1)), some (.ref i), some (.null), some (.null), some (.int (nI 0)), some (.null), some (.ref (kI g (key a1))), some (.ref (val a1)), some (.ref n128), none] [.ref n128] [[(b, .inr (27, [.null, va_rf bvs, .null, va_rf brt, .int (nI bn), .int (nI bmd), va_rf bes, va_rf bnk, .null]))], [(t, .inr (27, [.null, va_rf vs, .null, va_rf root, .int (nI n), .int (nI md), va_rf es, va_rf nk, .null]))], w2, [(i, .inr (34, [va_rf e57, .ref a1, .int (nI md), .ref t]))], [(n128, .inr (28, [.ref (kI g (key a1)), .ref (val a1), .null, .null, .null, .int (nI 1)]))]] 0 0 from ?_)
  exact g_aret B E dJ10_buildFromSorted_2_217 (by first | exact Or.inl ⟨_, rfl⟩ | exact Or.inr ⟨_, rfl⟩) (rv_r _) (⟨n128, _, rfl, rfl, he_57⟩)
theorem ct_bf1111 (g : Gv) (J : Jd g) {b : Nat} {bvs : Option Nat} {brt : Option Nat} {bn : Nat} {bmd : Nat} {bes : Option Nat} {bnk : Option Nat} {t : Nat} {vs : Option Nat} {n : Nat} {md : Nat} {es : Option Nat} {nk : Option Nat} {ns : List Nat} {key : Nat → Nat} {val : Nat → Nat} {l : Nat → Option Nat} {r : Nat → Option Nat} {p : Nat → Option Nat} {col : Nat → Bool} {lo : Nat → Nat} {hi : Nat → Nat} {root : Option Nat} {i : Nat} {la : Option Nat} {a1 : Nat} {w2 : va_W} (hw2 : EntG g ns key val l r p col w2) (hT : Tr ns key l r p lo hi root 128) (ha1 : a1 ∈ ns) : Ct g yJ10_buildFromSorted_2 (ws_ yJ10_buildFromSorted_2 cJ10_buildFromSorted_2 14 (some (.object "java/util/TreeMap$Entry"))) 5 1 6 [.ref b, .int (nI 1), .int (nI 1), .int (nI 1), .int (nI 1), .ref i, .null, .null] [[(b, .inr (27, [.null, va_rf bvs, .null, va_rf brt, .int (nI bn), .int (nI bmd), va_rf bes, va_rf bnk, .null]))], [(t, .inr (27, [.null, va_rf vs, .null, va_rf root, .int (nI n), .int (nI md), va_rf es, va_rf nk, .null]))], w2, [(i, .inr (34, [.ref a1, va_rf la, .int (nI md), .ref t]))]] (fun (rv_ : Option Value) (rL_ : List va_W) => ∃ (m1 : Nat) (e : Option Nat), rv_ = some (.ref m1) ∧ rL_ = [[(b, .inr (27, [.null, va_rf bvs, .null, va_rf brt, .int (nI bn), .int (nI bmd), va_rf bes, va_rf bnk, .null]))], [(t, .inr (27, [.null, va_rf vs, .null, va_rf root, .int (nI n), .int (nI md), va_rf es, va_rf nk, .null]))], w2, [(i, .inr (34, [va_rf e, .ref a1, .int (nI md), .ref t]))], [(m1, .inr (28, [.ref (kI g (key a1)), .ref (val a1), .null, .null, .null, .int (nI 0)]))]] ∧ (Lf ns key (key a1 + 1) e)) noX := by
  refine Ct.of "java/util/TreeMap" [some (.ref b), some (.int (nI 1)), some (.int (nI 1)), some (.int (nI 1)), some (.int (nI 1)), some (.ref i), some (.null), some (.null), none, none, none, none, none, none] rfl (by decide) rfl (Nat.le_of_ble_eq_true rfl) rfl ?_
  intro κ B E tb
  refine g_iload_n (q := 1) B dJ10_buildFromSorted_2_0 rfl rfl ?_
  refine g_iload_n (q := 2) B dJ10_buildFromSorted_2_1 rfl rfl ?_
  refine g_icmp_ge (tgt := 7) (q := 5) B dJ10_buildFromSorted_2_2 rfl (by decide) (iff_true_intro (by decide)) (fun _ => ?_) (fun z => absurd trivial z)
  refine g_iload_n (q := 8) B dJ10_buildFromSorted_2_7 rfl rfl ?_
  refine g_iload_n (q := 9) B dJ10_buildFromSorted_2_8 rfl rfl ?_
  refine g_iadd (v := nI 2) (q := 10) B dJ10_buildFromSorted_2_9 rfl (nI_add _ _) ?_
  refine g_iconst (v := nI 1) (q := 11) B dJ10_buildFromSorted_2_10 rfl (by decide) ?_
  refine g_iushr (v := nI 1) (q := 12) B dJ10_buildFromSorted_2_11 rfl (by decide) ?_
  refine g_istore (q := 14) (lv2 := [some (.ref b), some (.int (nI 1)), some (.int (nI 1)), some (.int (nI 1)), some (.int (nI 1)), some (.ref i), some (.null), some (.null), some (.int (nI 1)), none, none, none, none, none]) B dJ10_buildFromSorted_2_12 rfl (Nat.le_of_ble_eq_true rfl) rfl ?_
  refine g_aconst_null (q := 15) B dJ10_buildFromSorted_2_14 rfl ?_
  refine g_astore (q := 17) (lv2 := [some (.ref b), some (.int (nI 1)), some (.int (nI 1)), some (.int (nI 1)), some (.int (nI 1)), some (.ref i), some (.null), some (.null), some (.int (nI 1)), some (.null), none, none, none, none]) B dJ10_buildFromSorted_2_15 rfl (Nat.le_of_ble_eq_true rfl) rv_n rfl ?_
  refine g_iload_n (q := 18) B dJ10_buildFromSorted_2_17 rfl rfl ?_
  refine g_iload (q := 20) B dJ10_buildFromSorted_2_18 rfl rfl ?_
  refine g_icmp_ge (tgt := 45) (q := 23) B dJ10_buildFromSorted_2_20 rfl (by decide) (iff_true_intro (by decide)) (fun _ => ?_) (fun z => absurd trivial z)
  refine g_aload (q := 47) B dJ10_buildFromSorted_2_45 rfl rfl (rv_r _) ?_
  refine g_ifnull_r (q := 50) B dJ10_buildFromSorted_2_47 rfl ?_
  refine g_aload (q := 52) B dJ10_buildFromSorted_2_50 rfl rfl rv_n ?_
  refine g_ifnonnull_n (q := 55) B dJ10_buildFromSorted_2_52 rfl ?_
  refine g_aload (q := 57) B dJ10_buildFromSorted_2_55 rfl rfl (rv_r _) ?_
  refine g_callF (q := 62) (is := [1, 1, 1]) (kc2 := 1) (ks2 := 6) B [] (ct_J32_next g J (t := t) (vs := vs) (n := n) (md := md) (es := es) (nk := nk) (ns := ns) (key := key) (val := val) (l := l) (r := r) (p := p) (col := col) (lo := lo) (hi := hi) (root := root) (M := 128) (i := i) (a := a1) (la := la) hw2 (by first | assumption | omega | rfl) (by first | assumption | omega | rfl)) dJ10_buildFromSorted_2_57 rfl (ci := 34) rfl (rc_at B (ci := 34) rfl (k := 3) rfl) q2675 q1014 q1016 q117 q1018 q966 q965 q1017 q1015 q951 rfl rfl mojava_util_Iterator_next___Ljava_lang_Object_ rfl rfl (by decide) (by decide) (Nat.le_of_ble_eq_true rfl) (Nat.le_of_ble_eq_true rfl) (Nat.le_of_ble_eq_true rfl) (fun _ _ hx => noX_x hx) (fun v57 L1 hp57 => ?_)
  obtain ⟨e57, rfl, rfl, he_57⟩ := hp57
  refine (show Go g κ 62 [some (.ref b), some (.int (nI 1)), some (.int (nI 1)), some (.int (nI 1)), some (.int (nI 1)), some (.ref i), some (.null), some (.null), some (.int (nI 1)), some (.null), none, none, none, none] [.ref a1] [[(b, .inr (27, [.null, va_rf bvs, .null, va_rf brt, .int (nI bn), .int (nI bmd), va_rf bes, va_rf bnk, .null]))], [(t, .inr (27, [.null, va_rf vs, .null, va_rf root, .int (nI n), .int (nI md), va_rf es, va_rf nk, .null]))], w2, [(i, .inr (34, [va_rf e57, .ref a1, .int (nI md), .ref t]))]] 1 6 from ?_)
  refine g_castR (q := 65) B (rc_ent B (k := 2) rfl hw2 ha1) dJ10_buildFromSorted_2_62 rfl q2676 q2690 ?_
  refine g_astore (q := 67) (lv2 := [some (.ref b), some (.int (nI 1)), some (.int (nI 1)), some (.int (nI 1)), some (.int (nI 1)), some (.ref i), some (.null), some (.null), some (.int (nI 1)), some (.null), none, none, some (.ref a1), none]) B dJ10_buildFromSorted_2_65 rfl (Nat.le_of_ble_eq_true rfl) (rv_r _) rfl ?_
  refine g_aload (q := 69) B dJ10_buildFromSorted_2_67 rfl rfl (rv_r _) ?_
  refine g_callF (q := 74) (is := [2]) (kc2 := 1) (ks2 := 6) B [] (ct_J37_getKey g J (ns := ns) (key := key) (val := val) (l := l) (r := r) (p := p) (col := col) (a := a1) hw2 (by first | assumption | omega | rfl)) dJ10_buildFromSorted_2_69 rfl (ci := 28) rfl (rc_ent B (k := 2) rfl hw2 ha1) q2678 q2691 q2693 q128 q2695 q2680 q2679 q2694 q2692 q2690 rfl rfl mojava_util_Map_Entry_getKey___Ljava_lang_Object_ rfl rfl (by decide) (by decide) (Nat.le_of_ble_eq_true rfl) (Nat.le_of_ble_eq_true rfl) (Nat.le_of_ble_eq_true rfl) (fun _ _ hx => noX_x hx) (fun v69 L1 hp69 => ?_)
  obtain ⟨rfl, rfl⟩ := hp69
  refine (show Go g κ 74 [some (.ref b), some (.int (nI 1)), some (.int (nI 1)), some (.int (nI 1)), some (.int (nI 1)), some (.ref i), some (.null), some (.null), some (.int (nI 1)), some (.null), none, none, some (.ref a1), none] [.ref (kI g (key a1))] [[(b, .inr (27, [.null, va_rf bvs, .null, va_rf brt, .int (nI bn), .int (nI bmd), va_rf bes, va_rf bnk, .null]))], [(t, .inr (27, [.null, va_rf vs, .null, va_rf root, .int (nI n), .int (nI md), va_rf es, va_rf nk, .null]))], [(i, .inr (34, [va_rf e57, .ref a1, .int (nI md), .ref t]))], w2] 1 6 from ?_)
  refine g_astore (q := 76) (lv2 := [some (.ref b), some (.int (nI 1)), some (.int (nI 1)), some (.int (nI 1)), some (.int (nI 1)), some (.ref i), some (.null), some (.null), some (.int (nI 1)), some (.null), some (.ref (kI g (key a1))), none, some (.ref a1), none]) B dJ10_buildFromSorted_2_74 rfl (Nat.le_of_ble_eq_true rfl) (rv_r _) rfl ?_
  refine g_aload (q := 78) B dJ10_buildFromSorted_2_76 rfl rfl (rv_r _) ?_
  refine g_callF (q := 83) (is := [3]) (kc2 := 1) (ks2 := 6) B [] (ct_J37_getValue g J (ns := ns) (key := key) (val := val) (l := l) (r := r) (p := p) (col := col) (a := a1) hw2 (by first | assumption | omega | rfl)) dJ10_buildFromSorted_2_78 rfl (ci := 28) rfl (rc_ent B (k := 3) rfl hw2 ha1) q2697 q2707 q2709 q128 q2711 q2699 q2698 q2710 q2708 q2690 rfl rfl mojava_util_Map_Entry_getValue___Ljava_lang_Object_ rfl rfl (by decide) (by decide) (Nat.le_of_ble_eq_true rfl) (Nat.le_of_ble_eq_true rfl) (Nat.le_of_ble_eq_true rfl) (fun _ _ hx => noX_x hx) (fun v78 L1 hp78 => ?_)
  obtain ⟨rfl, rfl⟩ := hp78
  refine (show Go g κ 83 [some (.ref b), some (.int (nI 1)), some (.int (nI 1)), some (.int (nI 1)), some (.int (nI 1)), some (.ref i), some (.null), some (.null), some (.int (nI 1)), some (.null), some (.ref (kI g (key a1))), none, some (.ref a1), none] [.ref (val a1)] [[(b, .inr (27, [.null, va_rf bvs, .null, va_rf brt, .int (nI bn), .int (nI bmd), va_rf bes, va_rf bnk, .null]))], [(t, .inr (27, [.null, va_rf vs, .null, va_rf root, .int (nI n), .int (nI md), va_rf es, va_rf nk, .null]))], [(i, .inr (34, [va_rf e57, .ref a1, .int (nI md), .ref t]))], w2] 1 6 from ?_)
  refine g_astore (q := 85) (lv2 := [some (.ref b), some (.int (nI 1)), some (.int (nI 1)), some (.int (nI 1)), some (.int (nI 1)), some (.ref i), some (.null), some (.null), some (.int (nI 1)), some (.null), some (.ref (kI g (key a1))), some (.ref (val a1)), some (.ref a1), none]) B dJ10_buildFromSorted_2_83 rfl (Nat.le_of_ble_eq_true rfl) (rv_r _) rfl ?_
  refine g_goto (tgt := 128) B dJ10_buildFromSorted_2_85 (by decide) ?_
  refine g_new (q := 131) (kc2 := 0) (ks2 := 0) (fs := [.null, .null, .null, .null, .null, .int (nI 0)]) B (ci := 28) in_J37 tyJ37_ok rfl dJ10_buildFromSorted_2_128 rfl q2100 q2101 q128 (nwJ37) (Nat.le_of_ble_eq_true rfl) (Nat.le_of_ble_eq_true rfl) (fun n128 => ?_)
  refine (show Go g κ 131 [some (.ref b), some (.int (nI 1)), some (.int (nI 1)), some (.int (nI 1)), some (.int (nI 1)), some (.ref i), some (.null), some (.null), some (.int (nI 1)), some (.null), some (.ref (kI g (key a1))), some (.ref (val a1)), some (.ref a1), none] [.ref n128] [[(b, .inr (27, [.null, va_rf bvs, .null, va_rf brt, .int (nI bn), .int (nI bmd), va_rf bes, va_rf bnk, .null]))], [(t, .inr (27, [.null, va_rf vs, .null, va_rf root, .int (nI n), .int (nI md), va_rf es, va_rf nk, .null]))], [(i, .inr (34, [va_rf e57, .ref a1, .int (nI md), .ref t]))], w2, [(n128, .inr (28, [.null, .null, .null, .null, .null, .int (nI 0)]))]] 0 0 from ?_)
  refine g_dup (q := 132) B dJ10_buildFromSorted_2_131 rfl rfl ?_
  refine g_aload (q := 134) B dJ10_buildFromSorted_2_132 rfl rfl (rv_r _) ?_
  refine g_aload (q := 136) B dJ10_buildFromSorted_2_134 rfl rfl (rv_r _) ?_
  refine g_aconst_null (q := 137) B dJ10_buildFromSorted_2_136 rfl ?_
  refine g_callI (q := 140) (is := [4]) (kc2 := 0) (ks2 := 0) B [.ref (kI g (key a1)), .ref (val a1), .null] (ct_J37_init g J (e := n128) (kr := (kI g (key a1))) (v := (val a1)) (q := none)  ) dJ10_buildFromSorted_2_137 rfl rfl q2102 q2103 q128 q2104 rfl rfl moJ37_init rfl rfl (by decide) (by decide) (Nat.le_of_ble_eq_true rfl) (Nat.le_of_ble_eq_true rfl) (Nat.le_of_ble_eq_true rfl) (fun _ _ hx => noX_x hx) (fun v137 L1 hp137 => ?_)
  obtain ⟨rfl, rfl⟩ := hp137
  refine (show Go g κ 140 [some (.ref b), some (.int (nI 1)), some (.int (nI 1)), some (.int (nI 1)), some (.int (nI 1)), some (.ref i), some (.null), some (.null), some (.int (nI 1)), some (.null), some (.ref (kI g (key a1))), some (.ref (val a1)), some (.ref a1), none] [.ref n128] [[(b, .inr (27, [.null, va_rf bvs, .null, va_rf brt, .int (nI bn), .int (nI bmd), va_rf bes, va_rf bnk, .null]))], [(t, .inr (27, [.null, va_rf vs, .null, va_rf root, .int (nI n), .int (nI md), va_rf es, va_rf nk, .null]))], [(i, .inr (34, [va_rf e57, .ref a1, .int (nI md), .ref t]))], w2, [(n128, .inr (28, [.ref (kI g (key a1)), .ref (val a1), .null, .null, .null, .int (nI 1)]))]] 0 0 from ?_)
  refine g_astore (q := 142) (lv2 := [some (.ref b), some (.int (nI 1)), some (.int (nI 1)), some (.int (nI 1)), some (.int (nI 1)), some (.ref i), some (.null), some (.null), some (.int (nI 1)), some (.null), some (.ref (kI g (key a1))), some (.ref (val a1)), some (.ref n128), none]) B dJ10_buildFromSorted_2_140 rfl (Nat.le_of_ble_eq_true rfl) (rv_r _) rfl ?_
  refine g_iload_n (q := 143) B dJ10_buildFromSorted_2_142 rfl rfl ?_
  refine g_iload (q := 145) B dJ10_buildFromSorted_2_143 rfl rfl ?_
  refine g_icmp_ne (tgt := 154) (q := 148) B dJ10_buildFromSorted_2_145 rfl (by decide) (iff_false_intro (by decide)) (fun z => z.elim) (fun _ => ?_)
  refine g_aload (q := 150) B dJ10_buildFromSorted_2_148 rfl rfl (rv_r _) ?_
  refine g_iconst (v := nI 0) (q := 151) B dJ10_buildFromSorted_2_150 rfl (by decide) ?_
  refine g_put (q := 154) (L2 := [[(b, .inr (27, [.null, va_rf bvs, .null, va_rf brt, .int (nI bn), .int (nI bmd), va_rf bes, va_rf bnk, .null]))], [(t, .inr (27, [.null, va_rf vs, .null, va_rf root, .int (nI n), .int (nI md), va_rf es, va_rf nk, .null]))], [(i, .inr (34, [va_rf e57, .ref a1, .int (nI md), .ref t]))], w2, [(n128, .inr (28, [.ref (kI g (key a1)), .ref (val a1), .null, .null, .null, .int (nI 0)]))]]) B (ci := 28) (k := 4) (j := 5) in_J37 tyJ37 tyJ37_ok nmJ37 rfl dJ10_buildFromSorted_2_151 rfl rfl (Nat.le_of_ble_eq_true rfl) q2119 rfl rfl rfl rfl (Nat.le_of_ble_eq_true rfl) rfl ?_
  refine g_aload (q := 156) B dJ10_buildFromSorted_2_154 rfl rfl rv_n ?_
  refine g_ifnull_n (tgt := 173) B dJ10_buildFromSorted_2_156 (by decide) ?_
  refine g_iload (q := 175) B dJ10_buildFromSorted_2_173 rfl rfl ?_
  refine g_iload_n (q := 176) B dJ10_buildFromSorted_2_175 rfl rfl ?_
  refine g_icmp_ge (tgt := 215) (q := 179) B dJ10_buildFromSorted_2_176 rfl (by decide) (iff_true_intro (by decide)) (fun _ => ?_) (fun z => absurd trivial z)
  refine g_aload (q := 217) B dJ10_buildFromSorted_2_215 rfl rfl (rv_r _) ?_
  refine g_pk [0, 0, 1, 0, 0] rfl rfl ?_
  refine (show Go g κ 217 [some (.ref b), some (.int (nI 1)), some (.int (nI 1)), some (.int (nI 1)), some (.int (nI 1)), some (.ref i), some (.null), some (.null), some (.int (nI 1)), some (.null), some (.ref (kI g (key a1))), some (.ref (val a1)), some (.ref n128), none] [.ref n128] [[(b, .inr (27, [.null, va_rf bvs, .null, va_rf brt, .int (nI bn), .int (nI bmd), va_rf bes, va_rf bnk, .null]))], [(t, .inr (27, [.null, va_rf vs, .null, va_rf root, .int (nI n), .int (nI md), va_rf es, va_rf nk, .null]))], w2, [(i, .inr (34, [va_rf e57, .ref a1, .int (nI md), .ref t]))], [(n128, .inr (28, [.ref (kI g (key a1)), .ref (val a1), .null, .null, .null, .int (nI 0)]))]] 0 0 from ?_)
  exact g_aret B E dJ10_buildFromSorted_2_217 (by first | exact Or.inl ⟨_, rfl⟩ | exact Or.inr ⟨_, rfl⟩) (rv_r _) (⟨n128, _, rfl, rfl, he_57⟩)
theorem moJ10_buildFromSorted_2 : Mo yJ10_buildFromSorted_2 7 := by
  refine ⟨by decide, by decide, by decide +kernel⟩
theorem ct_bf0011 (g : Gv) (J : Jd g) {b : Nat} {bvs : Option Nat} {brt : Option Nat} {bn : Nat} {bmd : Nat} {bes : Option Nat} {bnk : Option Nat} {t : Nat} {vs : Option Nat} {n : Nat} {md : Nat} {es : Option Nat} {nk : Option Nat} {ns : List Nat} {key : Nat → Nat} {val : Nat → Nat} {l : Nat → Option Nat} {r : Nat → Option Nat} {p : Nat → Option Nat} {col : Nat → Bool} {lo : Nat → Nat} {hi : Nat → Nat} {root : Option Nat} {i : Nat} {la : Option Nat} {a1 : Nat} {a2 : Nat} {w2 : va_W} (hw2 : EntG g ns key val l r p col w2) (hT : Tr ns key l r p lo hi root 128) (ha1 : a1 ∈ ns) (hc1 : Lf ns key (key a1 + 1) (some a2)) : Ct g yJ10_buildFromSorted_2 (ws_ yJ10_buildFromSorted_2 cJ10_buildFromSorted_2 14 (some (.object "java/util/TreeMap$Entry"))) 6 2 12 [.ref b, .int (nI 0), .int (nI 0), .int (nI 1), .int (nI 1), .ref i, .null, .null] [[(b, .inr (27, [.null, va_rf bvs, .null, va_rf brt, .int (nI bn), .int (nI bmd), va_rf bes, va_rf bnk, .null]))], [(t, .inr (27, [.null, va_rf vs, .null, va_rf root, .int (nI n), .int (nI md), va_rf es, va_rf nk, .null]))], w2, [(i, .inr (34, [.ref a1, va_rf la, .int (nI md), .ref t]))]] (fun (rv_ : Option Value) (rL_ : List va_W) => ∃ (m1 : Nat) (m2 : Nat) (e : Option Nat), rv_ = some (.ref m1) ∧ rL_ = [[(b, .inr (27, [.null, va_rf bvs, .null, va_rf brt, .int (nI bn), .int (nI bmd), va_rf bes, va_rf bnk, .null]))], [(t, .inr (27, [.null, va_rf vs, .null, va_rf root, .int (nI n), .int (nI md), va_rf es, va_rf nk, .null]))], w2, [(i, .inr (34, [va_rf e, .ref a2, .int (nI md), .ref t]))], [(m1, .inr (28, [.ref (kI g (key a1)), .ref (val a1), .null, .ref m2, .null, .int (nI 1)]))], [(m2, .inr (28, [.ref (kI g (key a2)), .ref (val a2), .null, .null, .ref m1, .int (nI 0)]))]] ∧ (Lf ns key (key a2 + 1) e)) noX := by
  refine Ct.of "java/util/TreeMap" [some (.ref b), some (.int (nI 0)), some (.int (nI 0)), some (.int (nI 1)), some (.int (nI 1)), some (.ref i), some (.null), some (.null), none, none, none, none, none, none] rfl (by decide) rfl (Nat.le_of_ble_eq_true rfl) rfl ?_
  intro κ B E tb
  have ha2 := (hc1.1 a2 rfl).1
  refine g_iload_n (q := 1) B dJ10_buildFromSorted_2_0 rfl rfl ?_
  refine g_iload_n (q := 2) B dJ10_buildFromSorted_2_1 rfl rfl ?_
  refine g_icmp_ge (tgt := 7) (q := 5) B dJ10_buildFromSorted_2_2 rfl (by decide) (iff_true_intro (by decide)) (fun _ => ?_) (fun z => absurd trivial z)
  refine g_iload_n (q := 8) B dJ10_buildFromSorted_2_7 rfl rfl ?_
  refine g_iload_n (q := 9) B dJ10_buildFromSorted_2_8 rfl rfl ?_
  refine g_iadd (v := nI 1) (q := 10) B dJ10_buildFromSorted_2_9 rfl (nI_add _ _) ?_
  refine g_iconst (v := nI 1) (q := 11) B dJ10_buildFromSorted_2_10 rfl (by decide) ?_
  refine g_iushr (v := nI 0) (q := 12) B dJ10_buildFromSorted_2_11 rfl (by decide) ?_
  refine g_istore (q := 14) (lv2 := [some (.ref b), some (.int (nI 0)), some (.int (nI 0)), some (.int (nI 1)), some (.int (nI 1)), some (.ref i), some (.null), some (.null), some (.int (nI 0)), none, none, none, none, none]) B dJ10_buildFromSorted_2_12 rfl (Nat.le_of_ble_eq_true rfl) rfl ?_
  refine g_aconst_null (q := 15) B dJ10_buildFromSorted_2_14 rfl ?_
  refine g_astore (q := 17) (lv2 := [some (.ref b), some (.int (nI 0)), some (.int (nI 0)), some (.int (nI 1)), some (.int (nI 1)), some (.ref i), some (.null), some (.null), some (.int (nI 0)), some (.null), none, none, none, none]) B dJ10_buildFromSorted_2_15 rfl (Nat.le_of_ble_eq_true rfl) rv_n rfl ?_
  refine g_iload_n (q := 18) B dJ10_buildFromSorted_2_17 rfl rfl ?_
  refine g_iload (q := 20) B dJ10_buildFromSorted_2_18 rfl rfl ?_
  refine g_icmp_ge (tgt := 45) (q := 23) B dJ10_buildFromSorted_2_20 rfl (by decide) (iff_true_intro (by decide)) (fun _ => ?_) (fun z => absurd trivial z)
  refine g_aload (q := 47) B dJ10_buildFromSorted_2_45 rfl rfl (rv_r _) ?_
  refine g_ifnull_r (q := 50) B dJ10_buildFromSorted_2_47 rfl ?_
  refine g_aload (q := 52) B dJ10_buildFromSorted_2_50 rfl rfl rv_n ?_
  refine g_ifnonnull_n (q := 55) B dJ10_buildFromSorted_2_52 rfl ?_
  refine g_aload (q := 57) B dJ10_buildFromSorted_2_55 rfl rfl (rv_r _) ?_
  refine g_callF (q := 62) (is := [1, 1, 1]) (kc2 := 2) (ks2 := 12) B [] (ct_J32_next g J (t := t) (vs := vs) (n := n) (md := md) (es := es) (nk := nk) (ns := ns) (key := key) (val := val) (l := l) (r := r) (p := p) (col := col) (lo := lo) (hi := hi) (root := root) (M := 128) (i := i) (a := a1) (la := la) hw2 (by first | assumption | omega | rfl) (by first | assumption | omega | rfl)) dJ10_buildFromSorted_2_57 rfl (ci := 34) rfl (rc_at B (ci := 34) rfl (k := 3) rfl) q2675 q1014 q1016 q117 q1018 q966 q965 q1017 q1015 q951 rfl rfl mojava_util_Iterator_next___Ljava_lang_Object_ rfl rfl (by decide) (by decide) (Nat.le_of_ble_eq_true rfl) (Nat.le_of_ble_eq_true rfl) (Nat.le_of_ble_eq_true rfl) (fun _ _ hx => noX_x hx) (fun v57 L1 hp57 => ?_)
  obtain ⟨e57, rfl, rfl, he_57⟩ := hp57
  refine (show Go g κ 62 [some (.ref b), some (.int (nI 0)), some (.int (nI 0)), some (.int (nI 1)), some (.int (nI 1)), some (.ref i), some (.null), some (.null), some (.int (nI 0)), some (.null), none, none, none, none] [.ref a1] [[(b, .inr (27, [.null, va_rf bvs, .null, va_rf brt, .int (nI bn), .int (nI bmd), va_rf bes, va_rf bnk, .null]))], [(t, .inr (27, [.null, va_rf vs, .null, va_rf root, .int (nI n), .int (nI md), va_rf es, va_rf nk, .null]))], w2, [(i, .inr (34, [va_rf e57, .ref a1, .int (nI md), .ref t]))]] 2 12 from ?_)
  have hq2 : e57 = some a2 := lf_uq hT.1 he_57 hc1
  subst hq2
  refine (show Go g κ 62 [some (.ref b), some (.int (nI 0)), some (.int (nI 0)), some (.int (nI 1)), some (.int (nI 1)), some (.ref i), some (.null), some (.null), some (.int (nI 0)), some (.null), none, none, none, none] [.ref a1] [[(b, .inr (27, [.null, va_rf bvs, .null, va_rf brt, .int (nI bn), .int (nI bmd), va_rf bes, va_rf bnk, .null]))], [(t, .inr (27, [.null, va_rf vs, .null, va_rf root, .int (nI n), .int (nI md), va_rf es, va_rf nk, .null]))], w2, [(i, .inr (34, [.ref a2, .ref a1, .int (nI md), .ref t]))]] 2 12 from ?_)
  refine g_castR (q := 65) B (rc_ent B (k := 2) rfl hw2 ha1) dJ10_buildFromSorted_2_62 rfl q2676 q2690 ?_
  refine g_astore (q := 67) (lv2 := [some (.ref b), some (.int (nI 0)), some (.int (nI 0)), some (.int (nI 1)), some (.int (nI 1)), some (.ref i), some (.null), some (.null), some (.int (nI 0)), some (.null), none, none, some (.ref a1), none]) B dJ10_buildFromSorted_2_65 rfl (Nat.le_of_ble_eq_true rfl) (rv_r _) rfl ?_
  refine g_aload (q := 69) B dJ10_buildFromSorted_2_67 rfl rfl (rv_r _) ?_
  refine g_callF (q := 74) (is := [2]) (kc2 := 2) (ks2 := 12) B [] (ct_J37_getKey g J (ns := ns) (key := key) (val := val) (l := l) (r := r) (p := p) (col := col) (a := a1) hw2 (by first | assumption | omega | rfl)) dJ10_buildFromSorted_2_69 rfl (ci := 28) rfl (rc_ent B (k := 2) rfl hw2 ha1) q2678 q2691 q2693 q128 q2695 q2680 q2679 q2694 q2692 q2690 rfl rfl mojava_util_Map_Entry_getKey___Ljava_lang_Object_ rfl rfl (by decide) (by decide) (Nat.le_of_ble_eq_true rfl) (Nat.le_of_ble_eq_true rfl) (Nat.le_of_ble_eq_true rfl) (fun _ _ hx => noX_x hx) (fun v69 L1 hp69 => ?_)
  obtain ⟨rfl, rfl⟩ := hp69
  refine (show Go g κ 74 [some (.ref b), some (.int (nI 0)), some (.int (nI 0)), some (.int (nI 1)), some (.int (nI 1)), some (.ref i), some (.null), some (.null), some (.int (nI 0)), some (.null), none, none, some (.ref a1), none] [.ref (kI g (key a1))] [[(b, .inr (27, [.null, va_rf bvs, .null, va_rf brt, .int (nI bn), .int (nI bmd), va_rf bes, va_rf bnk, .null]))], [(t, .inr (27, [.null, va_rf vs, .null, va_rf root, .int (nI n), .int (nI md), va_rf es, va_rf nk, .null]))], [(i, .inr (34, [.ref a2, .ref a1, .int (nI md), .ref t]))], w2] 2 12 from ?_)
  refine g_astore (q := 76) (lv2 := [some (.ref b), some (.int (nI 0)), some (.int (nI 0)), some (.int (nI 1)), some (.int (nI 1)), some (.ref i), some (.null), some (.null), some (.int (nI 0)), some (.null), some (.ref (kI g (key a1))), none, some (.ref a1), none]) B dJ10_buildFromSorted_2_74 rfl (Nat.le_of_ble_eq_true rfl) (rv_r _) rfl ?_
  refine g_aload (q := 78) B dJ10_buildFromSorted_2_76 rfl rfl (rv_r _) ?_
  refine g_callF (q := 83) (is := [3]) (kc2 := 2) (ks2 := 12) B [] (ct_J37_getValue g J (ns := ns) (key := key) (val := val) (l := l) (r := r) (p := p) (col := col) (a := a1) hw2 (by first | assumption | omega | rfl)) dJ10_buildFromSorted_2_78 rfl (ci := 28) rfl (rc_ent B (k := 3) rfl hw2 ha1) q2697 q2707 q2709 q128 q2711 q2699 q2698 q2710 q2708 q2690 rfl rfl mojava_util_Map_Entry_getValue___Ljava_lang_Object_ rfl rfl (by decide) (by decide) (Nat.le_of_ble_eq_true rfl) (Nat.le_of_ble_eq_true rfl) (Nat.le_of_ble_eq_true rfl) (fun _ _ hx => noX_x hx) (fun v78 L1 hp78 => ?_)
  obtain ⟨rfl, rfl⟩ := hp78
  refine (show Go g κ 83 [some (.ref b), some (.int (nI 0)), some (.int (nI 0)), some (.int (nI 1)), some (.int (nI 1)), some (.ref i), some (.null), some (.null), some (.int (nI 0)), some (.null), some (.ref (kI g (key a1))), none, some (.ref a1), none] [.ref (val a1)] [[(b, .inr (27, [.null, va_rf bvs, .null, va_rf brt, .int (nI bn), .int (nI bmd), va_rf bes, va_rf bnk, .null]))], [(t, .inr (27, [.null, va_rf vs, .null, va_rf root, .int (nI n), .int (nI md), va_rf es, va_rf nk, .null]))], [(i, .inr (34, [.ref a2, .ref a1, .int (nI md), .ref t]))], w2] 2 12 from ?_)
  refine g_astore (q := 85) (lv2 := [some (.ref b), some (.int (nI 0)), some (.int (nI 0)), some (.int (nI 1)), some (.int (nI 1)), some (.ref i), some (.null), some (.null), some (.int (nI 0)), some (.null), some (.ref (kI g (key a1))), some (.ref (val a1)), some (.ref a1), none]) B dJ10_buildFromSorted_2_83 rfl (Nat.le_of_ble_eq_true rfl) (rv_r _) rfl ?_
  refine g_goto (tgt := 128) B dJ10_buildFromSorted_2_85 (by decide) ?_
  refine g_new (q := 131) (kc2 := 1) (ks2 := 6) (fs := [.null, .null, .null, .null, .null, .int (nI 0)]) B (ci := 28) in_J37 tyJ37_ok rfl dJ10_buildFromSorted_2_128 rfl q2100 q2101 q128 (nwJ37) (Nat.le_of_ble_eq_true rfl) (Nat.le_of_ble_eq_true rfl) (fun n128 => ?_)
  refine (show Go g κ 131 [some (.ref b), some (.int (nI 0)), some (.int (nI 0)), some (.int (nI 1)), some (.int (nI 1)), some (.ref i), some (.null), some (.null), some (.int (nI 0)), some (.null), some (.ref (kI g (key a1))), some (.ref (val a1)), some (.ref a1), none] [.ref n128] [[(b, .inr (27, [.null, va_rf bvs, .null, va_rf brt, .int (nI bn), .int (nI bmd), va_rf bes, va_rf bnk, .null]))], [(t, .inr (27, [.null, va_rf vs, .null, va_rf root, .int (nI n), .int (nI md), va_rf es, va_rf nk, .null]))], [(i, .inr (34, [.ref a2, .ref a1, .int (nI md), .ref t]))], w2, [(n128, .inr (28, [.null, .null, .null, .null, .null, .int (nI 0)]))]] 1 6 from ?_)
  refine g_dup (q := 132) B dJ10_buildFromSorted_2_131 rfl rfl ?_
  refine g_aload (q := 134) B dJ10_buildFromSorted_2_132 rfl rfl (rv_r _) ?_
  refine g_aload (q := 136) B dJ10_buildFromSorted_2_134 rfl rfl (rv_r _) ?_
  refine g_aconst_null (q := 137) B dJ10_buildFromSorted_2_136 rfl ?_
  refine g_callI (q := 140) (is := [4]) (kc2 := 1) (ks2 := 6) B [.ref (kI g (key a1)), .ref (val a1), .null] (ct_J37_init g J (e := n128) (kr := (kI g (key a1))) (v := (val a1)) (q := none)  ) dJ10_buildFromSorted_2_137 rfl rfl q2102 q2103 q128 q2104 rfl rfl moJ37_init rfl rfl (by decide) (by decide) (Nat.le_of_ble_eq_true rfl) (Nat.le_of_ble_eq_true rfl) (Nat.le_of_ble_eq_true rfl) (fun _ _ hx => noX_x hx) (fun v137 L1 hp137 => ?_)
  obtain ⟨rfl, rfl⟩ := hp137
  refine (show Go g κ 140 [some (.ref b), some (.int (nI 0)), some (.int (nI 0)), some (.int (nI 1)), some (.int (nI 1)), some (.ref i), some (.null), some (.null), some (.int (nI 0)), some (.null), some (.ref (kI g (key a1))), some (.ref (val a1)), some (.ref a1), none] [.ref n128] [[(b, .inr (27, [.null, va_rf bvs, .null, va_rf brt, .int (nI bn), .int (nI bmd), va_rf bes, va_rf bnk, .null]))], [(t, .inr (27, [.null, va_rf vs, .null, va_rf root, .int (nI n), .int (nI md), va_rf es, va_rf nk, .null]))], [(i, .inr (34, [.ref a2, .ref a1, .int (nI md), .ref t]))], w2, [(n128, .inr (28, [.ref (kI g (key a1)), .ref (val a1), .null, .null, .null, .int (nI 1)]))]] 1 6 from ?_)
  refine g_astore (q := 142) (lv2 := [some (.ref b), some (.int (nI 0)), some (.int (nI 0)), some (.int (nI 1)), some (.int (nI 1)), some (.ref i), some (.null), some (.null), some (.int (nI 0)), some (.null), some (.ref (kI g (key a1))), some (.ref (val a1)), some (.ref n128), none]) B dJ10_buildFromSorted_2_140 rfl (Nat.le_of_ble_eq_true rfl) (rv_r _) rfl ?_
  refine g_iload_n (q := 143) B dJ10_buildFromSorted_2_142 rfl rfl ?_
  refine g_iload (q := 145) B dJ10_buildFromSorted_2_143 rfl rfl ?_
  refine g_icmp_ne (tgt := 154) (q := 148) B dJ10_buildFromSorted_2_145 rfl (by decide) (iff_true_intro (by decide)) (fun _ => ?_) (fun z => absurd trivial z)
  refine g_aload (q := 156) B dJ10_buildFromSorted_2_154 rfl rfl rv_n ?_
  refine g_ifnull_n (tgt := 173) B dJ10_buildFromSorted_2_156 (by decide) ?_
  refine g_iload (q := 175) B dJ10_buildFromSorted_2_173 rfl rfl ?_
  refine g_iload_n (q := 176) B dJ10_buildFromSorted_2_175 rfl rfl ?_
  refine g_icmp_ge (tgt := 215) (q := 179) B dJ10_buildFromSorted_2_176 rfl (by decide) (iff_false_intro (by decide)) (fun z => z.elim) (fun _ => ?_)
  refine g_aload_n (q := 180) B dJ10_buildFromSorted_2_179 rfl rfl (rv_r _) ?_
  refine g_iload_n (q := 181) B dJ10_buildFromSorted_2_180 rfl rfl ?_
  refine g_iconst (v := nI 1) (q := 182) B dJ10_buildFromSorted_2_181 rfl (by decide) ?_
  refine g_iadd (v := nI 1) (q := 183) B dJ10_buildFromSorted_2_182 rfl (nI_add _ _) ?_
  refine g_iload (q := 185) B dJ10_buildFromSorted_2_183 rfl rfl ?_
  refine g_iconst (v := nI 1) (q := 186) B dJ10_buildFromSorted_2_185 rfl (by decide) ?_
  refine g_iadd (v := nI 1) (q := 187) B dJ10_buildFromSorted_2_186 rfl (nI_add _ _) ?_
  refine g_iload_n (q := 188) B dJ10_buildFromSorted_2_187 rfl rfl ?_
  refine g_iload (q := 190) B dJ10_buildFromSorted_2_188 rfl rfl ?_
  refine g_aload (q := 192) B dJ10_buildFromSorted_2_190 rfl rfl (rv_r _) ?_
  refine g_aload (q := 194) B dJ10_buildFromSorted_2_192 rfl rfl rv_n ?_
  refine g_aload (q := 196) B dJ10_buildFromSorted_2_194 rfl rfl rv_n ?_
  refine g_callV (q := 199) (is := [0, 0, 1, 0]) (kc2 := 0) (ks2 := 0) B [.int (nI 1), .int (nI 1), .int (nI 1), .int (nI 1), .ref i, .null, .null] (ct_bf1111 g J (b := b) (bvs := bvs) (brt := brt) (bn := bn) (bmd := bmd) (bes := bes) (bnk := bnk) (t := t) (vs := vs) (n := n) (md := md) (es := es) (nk := nk) (ns := ns) (key := key) (val := val) (l := l) (r := r) (p := p) (col := col) (lo := lo) (hi := hi) (root := root) (i := i) (la := some a1) (a1 := a2) hw2 (by first | assumption | omega | rfl) (ha2)) dJ10_buildFromSorted_2_196 rfl (rc_at B (ci := 27) rfl (k := 0) rfl) rfl q2670 q2672 qs41 q91 q2673 rfl rfl moJ10_buildFromSorted_2 rfl rfl (by decide) (by decide) (Nat.le_of_ble_eq_true rfl) (Nat.le_of_ble_eq_true rfl) (Nat.le_of_ble_eq_true rfl) (fun _ _ hx => noX_x hx) (fun v196 L1 hp196 => ?_)
  obtain ⟨m2, e196, rfl, rfl, he_196⟩ := hp196
  refine (show Go g κ 199 [some (.ref b), some (.int (nI 0)), some (.int (nI 0)), some (.int (nI 1)), some (.int (nI 1)), some (.ref i), some (.null), some (.null), some (.int (nI 0)), some (.null), some (.ref (kI g (key a1))), some (.ref (val a1)), some (.ref n128), none] [.ref m2] [[(n128, .inr (28, [.ref (kI g (key a1)), .ref (val a1), .null, .null, .null, .int (nI 1)]))], [(b, .inr (27, [.null, va_rf bvs, .null, va_rf brt, .int (nI bn), .int (nI bmd), va_rf bes, va_rf bnk, .null]))], [(t, .inr (27, [.null, va_rf vs, .null, va_rf root, .int (nI n), .int (nI md), va_rf es, va_rf nk, .null]))], w2, [(i, .inr (34, [va_rf e196, .ref a2, .int (nI md), .ref t]))], [(m2, .inr (28, [.ref (kI g (key a2)), .ref (val a2), .null, .null, .null, .int (nI 0)]))]] 0 0 from ?_)
  refine g_astore (q := 201) (lv2 := [some (.ref b), some (.int (nI 0)), some (.int (nI 0)), some (.int (nI 1)), some (.int (nI 1)), some (.ref i), some (.null), some (.null), some (.int (nI 0)), some (.null), some (.ref (kI g (key a1))), some (.ref (val a1)), some (.ref n128), some (.ref m2)]) B dJ10_buildFromSorted_2_199 rfl (Nat.le_of_ble_eq_true rfl) (rv_r _) rfl ?_
  refine g_aload (q := 203) B dJ10_buildFromSorted_2_201 rfl rfl (rv_r _) ?_
  refine g_aload (q := 205) B dJ10_buildFromSorted_2_203 rfl rfl (rv_r _) ?_
  refine g_put (q := 208) (L2 := [[(n128, .inr (28, [.ref (kI g (key a1)), .ref (val a1), .null, .ref m2, .null, .int (nI 1)]))], [(b, .inr (27, [.null, va_rf bvs, .null, va_rf brt, .int (nI bn), .int (nI bmd), va_rf bes, va_rf bnk, .null]))], [(t, .inr (27, [.null, va_rf vs, .null, va_rf root, .int (nI n), .int (nI md), va_rf es, va_rf nk, .null]))], w2, [(i, .inr (34, [va_rf e196, .ref a2, .int (nI md), .ref t]))], [(m2, .inr (28, [.ref (kI g (key a2)), .ref (val a2), .null, .null, .null, .int (nI 0)]))]]) B (ci := 28) (k := 0) (j := 3) in_J37 tyJ37 tyJ37_ok nmJ37 rfl dJ10_buildFromSorted_2_205 rfl rfl (Nat.le_of_ble_eq_true rfl) q2115 rfl rfl rfl rfl (Nat.le_of_ble_eq_true rfl) rfl ?_
  refine g_aload (q := 210) B dJ10_buildFromSorted_2_208 rfl rfl (rv_r _) ?_
  refine g_aload (q := 212) B dJ10_buildFromSorted_2_210 rfl rfl (rv_r _) ?_
  refine g_put (q := 215) (L2 := [[(n128, .inr (28, [.ref (kI g (key a1)), .ref (val a1), .null, .ref m2, .null, .int (nI 1)]))], [(b, .inr (27, [.null, va_rf bvs, .null, va_rf brt, .int (nI bn), .int (nI bmd), va_rf bes, va_rf bnk, .null]))], [(t, .inr (27, [.null, va_rf vs, .null, va_rf root, .int (nI n), .int (nI md), va_rf es, va_rf nk, .null]))], w2, [(i, .inr (34, [va_rf e196, .ref a2, .int (nI md), .ref t]))], [(m2, .inr (28, [.ref (kI g (key a2)), .ref (val a2), .null, .null, .ref n128, .int (nI 0)]))]]) B (ci := 28) (k := 5) (j := 4) in_J37 tyJ37 tyJ37_ok nmJ37 rfl dJ10_buildFromSorted_2_212 rfl rfl (Nat.le_of_ble_eq_true rfl) q2117 rfl rfl rfl rfl (Nat.le_of_ble_eq_true rfl) rfl ?_
  refine g_aload (q := 217) B dJ10_buildFromSorted_2_215 rfl rfl (rv_r _) ?_
  refine g_pk [1, 1, 1, 1, 0, 0] rfl rfl ?_
  refine (show Go g κ 217 [some (.ref b), some (.int (nI 0)), some (.int (nI 0)), some (.int (nI 1)), some (.int (nI 1)), some (.ref i), some (.null), some (.null), some (.int (nI 0)), some (.null), some (.ref (kI g (key a1))), some (.ref (val a1)), some (.ref n128), some (.ref m2)] [.ref n128] [[(b, .inr (27, [.null, va_rf bvs, .null, va_rf brt, .int (nI bn), .int (nI bmd), va_rf bes, va_rf bnk, .null]))], [(t, .inr (27, [.null, va_rf vs, .null, va_rf root, .int (nI n), .int (nI md), va_rf es, va_rf nk, .null]))], w2, [(i, .inr (34, [va_rf e196, .ref a2, .int (nI md), .ref t]))], [(n128, .inr (28, [.ref (kI g (key a1)), .ref (val a1), .null, .ref m2, .null, .int (nI 1)]))], [(m2, .inr (28, [.ref (kI g (key a2)), .ref (val a2), .null, .null, .ref n128, .int (nI 0)]))]] 0 0 from ?_)
  exact g_aret B E dJ10_buildFromSorted_2_217 (by first | exact Or.inl ⟨_, rfl⟩ | exact Or.inr ⟨_, rfl⟩) (rv_r _) (⟨n128, m2, _, rfl, rfl, he_196⟩)
theorem ct_bf1002 (g : Gv) (J : Jd g) {b : Nat} {bvs : Option Nat} {brt : Option Nat} {bn : Nat} {bmd : Nat} {bes : Option Nat} {bnk : Option Nat} {t : Nat} {vs : Option Nat} {n : Nat} {md : Nat} {es : Option Nat} {nk : Option Nat} {ns : List Nat} {key : Nat → Nat} {val : Nat → Nat} {l : Nat → Option Nat} {r : Nat → Option Nat} {p : Nat → Option Nat} {col : Nat → Bool} {lo : Nat → Nat} {hi : Nat → Nat} {root : Option Nat} {i : Nat} {la : Option Nat} {a1 : Nat} {w2 : va_W} (hw2 : EntG g ns key val l r p col w2) (hT : Tr ns key l r p lo hi root 128) (ha1 : a1 ∈ ns) : Ct g yJ10_buildFromSorted_2 (ws_ yJ10_buildFromSorted_2 cJ10_buildFromSorted_2 14 (some (.object "java/util/TreeMap$Entry"))) 5 1 6 [.ref b, .int (nI 1), .int (nI 0), .int (nI 0), .int (nI 2), .ref i, .null, .null] [[(b, .inr (27, [.null, va_rf bvs, .null, va_rf brt, .int (nI bn), .int (nI bmd), va_rf bes, va_rf bnk, .null]))], [(t, .inr (27, [.null, va_rf vs, .null, va_rf root, .int (nI n), .int (nI md), va_rf es, va_rf nk, .null]))], w2, [(i, .inr (34, [.ref a1, va_rf la, .int (nI md), .ref t]))]] (fun (rv_ : Option Value) (rL_ : List va_W) => ∃ (m1 : Nat) (e : Option Nat), rv_ = some (.ref m1) ∧ rL_ = [[(b, .inr (27, [.null, va_rf bvs, .null, va_rf brt, .int (nI bn), .int (nI bmd), va_rf bes, va_rf bnk, .null]))], [(t, .inr (27, [.null, va_rf vs, .null, va_rf root, .int (nI n), .int (nI md), va_rf es, va_rf nk, .null]))], w2, [(i, .inr (34, [va_rf e, .ref a1, .int (nI md), .ref t]))], [(m1, .inr (28, [.ref (kI g (key a1)), .ref (val a1), .null, .null, .null, .int (nI 1)]))]] ∧ (Lf ns key (key a1 + 1) e)) noX := by
  refine Ct.of "java/util/TreeMap" [some (.ref b), some (.int (nI 1)), some (.int (nI 0)), some (.int (nI 0)), some (.int (nI 2)), some (.ref i), some (.null), some (.null), none, none, none, none, none, none] rfl (by decide) rfl (Nat.le_of_ble_eq_true rfl) rfl ?_
  intro κ B E tb
  refine g_iload_n (q := 1) B dJ10_buildFromSorted_2_0 rfl rfl ?_
  refine g_iload_n (q := 2) B dJ10_buildFromSorted_2_1 rfl rfl ?_
  refine g_icmp_ge (tgt := 7) (q := 5) B dJ10_buildFromSorted_2_2 rfl (by decide) (iff_true_intro (by decide)) (fun _ => ?_) (fun z => absurd trivial z)
  refine g_iload_n (q := 8) B dJ10_buildFromSorted_2_7 rfl rfl ?_
  refine g_iload_n (q := 9) B dJ10_buildFromSorted_2_8 rfl rfl ?_
  refine g_iadd (v := nI 0) (q := 10) B dJ10_buildFromSorted_2_9 rfl (nI_add _ _) ?_
  refine g_iconst (v := nI 1) (q := 11) B dJ10_buildFromSorted_2_10 rfl (by decide) ?_
  refine g_iushr (v := nI 0) (q := 12) B dJ10_buildFromSorted_2_11 rfl (by decide) ?_
  refine g_istore (q := 14) (lv2 := [some (.ref b), some (.int (nI 1)), some (.int (nI 0)), some (.int (nI 0)), some (.int (nI 2)), some (.ref i), some (.null), some (.null), some (.int (nI 0)), none, none, none, none, none]) B dJ10_buildFromSorted_2_12 rfl (Nat.le_of_ble_eq_true rfl) rfl ?_
  refine g_aconst_null (q := 15) B dJ10_buildFromSorted_2_14 rfl ?_
  refine g_astore (q := 17) (lv2 := [some (.ref b), some (.int (nI 1)), some (.int (nI 0)), some (.int (nI 0)), some (.int (nI 2)), some (.ref i), some (.null), some (.null), some (.int (nI 0)), some (.null), none, none, none, none]) B dJ10_buildFromSorted_2_15 rfl (Nat.le_of_ble_eq_true rfl) rv_n rfl ?_
  refine g_iload_n (q := 18) B dJ10_buildFromSorted_2_17 rfl rfl ?_
  refine g_iload (q := 20) B dJ10_buildFromSorted_2_18 rfl rfl ?_
  refine g_icmp_ge (tgt := 45) (q := 23) B dJ10_buildFromSorted_2_20 rfl (by decide) (iff_true_intro (by decide)) (fun _ => ?_) (fun z => absurd trivial z)
  refine g_aload (q := 47) B dJ10_buildFromSorted_2_45 rfl rfl (rv_r _) ?_
  refine g_ifnull_r (q := 50) B dJ10_buildFromSorted_2_47 rfl ?_
  refine g_aload (q := 52) B dJ10_buildFromSorted_2_50 rfl rfl rv_n ?_
  refine g_ifnonnull_n (q := 55) B dJ10_buildFromSorted_2_52 rfl ?_
  refine g_aload (q := 57) B dJ10_buildFromSorted_2_55 rfl rfl (rv_r _) ?_
  refine g_callF (q := 62) (is := [1, 1, 1]) (kc2 := 1) (ks2 := 6) B [] (ct_J32_next g J (t := t) (vs := vs) (n := n) (md := md) (es := es) (nk := nk) (ns := ns) (key := key) (val := val) (l := l) (r := r) (p := p) (col := col) (lo := lo) (hi := hi) (root := root) (M := 128) (i := i) (a := a1) (la := la) hw2 (by first | assumption | omega | rfl) (by first | assumption | omega | rfl)) dJ10_buildFromSorted_2_57 rfl (ci := 34) rfl (rc_at B (ci := 34) rfl (k := 3) rfl) q2675 q1014 q1016 q117 q1018 q966 q965 q1017 q1015 q951 rfl rfl mojava_util_Iterator_next___Ljava_lang_Object_ rfl rfl (by decide) (by decide) (Nat.le_of_ble_eq_true rfl) (Nat.le_of_ble_eq_true rfl) (Nat.le_of_ble_eq_true rfl) (fun _ _ hx => noX_x hx) (fun v57 L1 hp57 => ?_)
  obtain ⟨e57, rfl, rfl, he_57⟩ := hp57
  refine (show Go g κ 62 [some (.ref b), some (.int (nI 1)), some (.int (nI 0)), some (.int (nI 0)), some (.int (nI 2)), some (.ref i), some (.null), some (.null), some (.int (nI 0)), some (.null), none, none, none, none] [.ref a1] [[(b, .inr (27, [.null, va_rf bvs, .null, va_rf brt, .int (nI bn), .int (nI bmd), va_rf bes, va_rf bnk, .null]))], [(t, .inr (27, [.null, va_rf vs, .null, va_rf root, .int (nI n), .int (nI md), va_rf es, va_rf nk, .null]))], w2, [(i, .inr (34, [va_rf e57, .ref a1, .int (nI md), .ref t]))]] 1 6 from ?_)
  refine g_castR (q := 65) B (rc_ent B (k := 2) rfl hw2 ha1) dJ10_buildFromSorted_2_62 rfl q2676 q2690 ?_
  refine g_astore (q := 67) (lv2 := [some (.ref b), some (.int (nI 1)), some (.int (nI 0)), some (.int (nI 0)), some (.int (nI 2)), some (.ref i), some (.null), some (.null), some (.int (nI 0)), some (.null), none, none, some (.ref a1), none]) B dJ10_buildFromSorted_2_65 rfl (Nat.le_of_ble_eq_true rfl) (rv_r _) rfl ?_
  refine g_aload (q := 69) B dJ10_buildFromSorted_2_67 rfl rfl (rv_r _) ?_
  refine g_callF (q := 74) (is := [2]) (kc2 := 1) (ks2 := 6) B [] (ct_J37_getKey g J (ns := ns) (key := key) (val := val) (l := l) (r := r) (p := p) (col := col) (a := a1) hw2 (by first | assumption | omega | rfl)) dJ10_buildFromSorted_2_69 rfl (ci := 28) rfl (rc_ent B (k := 2) rfl hw2 ha1) q2678 q2691 q2693 q128 q2695 q2680 q2679 q2694 q2692 q2690 rfl rfl mojava_util_Map_Entry_getKey___Ljava_lang_Object_ rfl rfl (by decide) (by decide) (Nat.le_of_ble_eq_true rfl) (Nat.le_of_ble_eq_true rfl) (Nat.le_of_ble_eq_true rfl) (fun _ _ hx => noX_x hx) (fun v69 L1 hp69 => ?_)
  obtain ⟨rfl, rfl⟩ := hp69
  refine (show Go g κ 74 [some (.ref b), some (.int (nI 1)), some (.int (nI 0)), some (.int (nI 0)), some (.int (nI 2)), some (.ref i), some (.null), some (.null), some (.int (nI 0)), some (.null), none, none, some (.ref a1), none] [.ref (kI g (key a1))] [[(b, .inr (27, [.null, va_rf bvs, .null, va_rf brt, .int (nI bn), .int (nI bmd), va_rf bes, va_rf bnk, .null]))], [(t, .inr (27, [.null, va_rf vs, .null, va_rf root, .int (nI n), .int (nI md), va_rf es, va_rf nk, .null]))], [(i, .inr (34, [va_rf e57, .ref a1, .int (nI md), .ref t]))], w2] 1 6 from ?_)
  refine g_astore (q := 76) (lv2 := [some (.ref b), some (.int (nI 1)), some (.int (nI 0)), some (.int (nI 0)), some (.int (nI 2)), some (.ref i), some (.null), some (.null), some (.int (nI 0)), some (.null), some (.ref (kI g (key a1))), none, some (.ref a1), none]) B dJ10_buildFromSorted_2_74 rfl (Nat.le_of_ble_eq_true rfl) (rv_r _) rfl ?_
  refine g_aload (q := 78) B dJ10_buildFromSorted_2_76 rfl rfl (rv_r _) ?_
  refine g_callF (q := 83) (is := [3]) (kc2 := 1) (ks2 := 6) B [] (ct_J37_getValue g J (ns := ns) (key := key) (val := val) (l := l) (r := r) (p := p) (col := col) (a := a1) hw2 (by first | assumption | omega | rfl)) dJ10_buildFromSorted_2_78 rfl (ci := 28) rfl (rc_ent B (k := 3) rfl hw2 ha1) q2697 q2707 q2709 q128 q2711 q2699 q2698 q2710 q2708 q2690 rfl rfl mojava_util_Map_Entry_getValue___Ljava_lang_Object_ rfl rfl (by decide) (by decide) (Nat.le_of_ble_eq_true rfl) (Nat.le_of_ble_eq_true rfl) (Nat.le_of_ble_eq_true rfl) (fun _ _ hx => noX_x hx) (fun v78 L1 hp78 => ?_)
  obtain ⟨rfl, rfl⟩ := hp78
  refine (show Go g κ 83 [some (.ref b), some (.int (nI 1)), some (.int (nI 0)), some (.int (nI 0)), some (.int (nI 2)), some (.ref i), some (.null), some (.null), some (.int (nI 0)), some (.null), some (.ref (kI g (key a1))), none, some (.ref a1), none] [.ref (val a1)] [[(b, .inr (27, [.null, va_rf bvs, .null, va_rf brt, .int (nI bn), .int (nI bmd), va_rf bes, va_rf bnk, .null]))], [(t, .inr (27, [.null, va_rf vs, .null, va_rf root, .int (nI n), .int (nI md), va_rf es, va_rf nk, .null]))], [(i, .inr (34, [va_rf e57, .ref a1, .int (nI md), .ref t]))], w2] 1 6 from ?_)
  refine g_astore (q := 85) (lv2 := [some (.ref b), some (.int (nI 1)), some (.int (nI 0)), some (.int (nI 0)), some (.int (nI 2)), some (.ref i), some (.null), some (.null), some (.int (nI 0)), some (.null), some (.ref (kI g (key a1))), some (.ref (val a1)), some (.ref a1), none]) B dJ10_buildFromSorted_2_83 rfl (Nat.le_of_ble_eq_true rfl) (rv_r _) rfl ?_
  refine g_goto (tgt := 128) B dJ10_buildFromSorted_2_85 (by decide) ?_
  refine g_new (q := 131) (kc2 := 0) (ks2 := 0) (fs := [.null, .null, .null, .null, .null, .int (nI 0)]) B (ci := 28) in_J37 tyJ37_ok rfl dJ10_buildFromSorted_2_128 rfl q2100 q2101 q128 (nwJ37) (Nat.le_of_ble_eq_true rfl) (Nat.le_of_ble_eq_true rfl) (fun n128 => ?_)
  refine (show Go g κ 131 [some (.ref b), some (.int (nI 1)), some (.int (nI 0)), some (.int (nI 0)), some (.int (nI 2)), some (.ref i), some (.null), some (.null), some (.int (nI 0)), some (.null), some (.ref (kI g (key a1))), some (.ref (val a1)), some (.ref a1), none] [.ref n128] [[(b, .inr (27, [.null, va_rf bvs, .null, va_rf brt, .int (nI bn), .int (nI bmd), va_rf bes, va_rf bnk, .null]))], [(t, .inr (27, [.null, va_rf vs, .null, va_rf root, .int (nI n), .int (nI md), va_rf es, va_rf nk, .null]))], [(i, .inr (34, [va_rf e57, .ref a1, .int (nI md), .ref t]))], w2, [(n128, .inr (28, [.null, .null, .null, .null, .null, .int (nI 0)]))]] 0 0 from ?_)
  refine g_dup (q := 132) B dJ10_buildFromSorted_2_131 rfl rfl ?_
  refine g_aload (q := 134) B dJ10_buildFromSorted_2_132 rfl rfl (rv_r _) ?_
  refine g_aload (q := 136) B dJ10_buildFromSorted_2_134 rfl rfl (rv_r _) ?_
  refine g_aconst_null (q := 137) B dJ10_buildFromSorted_2_136 rfl ?_
  refine g_callI (q := 140) (is := [4]) (kc2 := 0) (ks2 := 0) B [.ref (kI g (key a1)), .ref (val a1), .null] (ct_J37_init g J (e := n128) (kr := (kI g (key a1))) (v := (val a1)) (q := none)  ) dJ10_buildFromSorted_2_137 rfl rfl q2102 q2103 q128 q2104 rfl rfl moJ37_init rfl rfl (by decide) (by decide) (Nat.le_of_ble_eq_true rfl) (Nat.le_of_ble_eq_true rfl) (Nat.le_of_ble_eq_true rfl) (fun _ _ hx => noX_x hx) (fun v137 L1 hp137 => ?_)
  obtain ⟨rfl, rfl⟩ := hp137
  refine (show Go g κ 140 [some (.ref b), some (.int (nI 1)), some (.int (nI 0)), some (.int (nI 0)), some (.int (nI 2)), some (.ref i), some (.null), some (.null), some (.int (nI 0)), some (.null), some (.ref (kI g (key a1))), some (.ref (val a1)), some (.ref a1), none] [.ref n128] [[(b, .inr (27, [.null, va_rf bvs, .null, va_rf brt, .int (nI bn), .int (nI bmd), va_rf bes, va_rf bnk, .null]))], [(t, .inr (27, [.null, va_rf vs, .null, va_rf root, .int (nI n), .int (nI md), va_rf es, va_rf nk, .null]))], [(i, .inr (34, [va_rf e57, .ref a1, .int (nI md), .ref t]))], w2, [(n128, .inr (28, [.ref (kI g (key a1)), .ref (val a1), .null, .null, .null, .int (nI 1)]))]] 0 0 from ?_)
  refine g_astore (q := 142) (lv2 := [some (.ref b), some (.int (nI 1)), some (.int (nI 0)), some (.int (nI 0)), some (.int (nI 2)), some (.ref i), some (.null), some (.null), some (.int (nI 0)), some (.null), some (.ref (kI g (key a1))), some (.ref (val a1)), some (.ref n128), none]) B dJ10_buildFromSorted_2_140 rfl (Nat.le_of_ble_eq_true rfl) (rv_r _) rfl ?_
  refine g_iload_n (q := 143) B dJ10_buildFromSorted_2_142 rfl rfl ?_
  refine g_iload (q := 145) B dJ10_buildFromSorted_2_143 rfl rfl ?_
  refine g_icmp_ne (tgt := 154) (q := 148) B dJ10_buildFromSorted_2_145 rfl (by decide) (iff_true_intro (by decide)) (fun _ => ?_) (fun z => absurd trivial z)
  refine g_aload (q := 156) B dJ10_buildFromSorted_2_154 rfl rfl rv_n ?_
  refine g_ifnull_n (tgt := 173) B dJ10_buildFromSorted_2_156 (by decide) ?_
  refine g_iload (q := 175) B dJ10_buildFromSorted_2_173 rfl rfl ?_
  refine g_iload_n (q := 176) B dJ10_buildFromSorted_2_175 rfl rfl ?_
  refine g_icmp_ge (tgt := 215) (q := 179) B dJ10_buildFromSorted_2_176 rfl (by decide) (iff_true_intro (by decide)) (fun _ => ?_) (fun z => absurd trivial z)
  refine g_aload (q := 217) B dJ10_buildFromSorted_2_215 rfl rfl (rv_r _) ?_
  refine g_pk [0, 0, 1, 0, 0] rfl rfl ?_
  refine (show Go g κ 217 [some (.ref b), some (.int (nI 1)), some (.int (nI 0)), some (.int (nI 0)), some (.int (nI 2)), some (.ref i), some (.null), some (.null), some (.int (nI 0)), some (.null), some (.ref (kI g (key a1))), some (.ref (val a1)), some (.ref n128), none] [.ref n128] [[(b, .inr (27, [.null, va_rf bvs, .null, va_rf brt, .int (nI bn), .int (nI bmd), va_rf bes, va_rf bnk, .null]))], [(t, .inr (27, [.null, va_rf vs, .null, va_rf root, .int (nI n), .int (nI md), va_rf es, va_rf nk, .null]))], w2, [(i, .inr (34, [va_rf e57, .ref a1, .int (nI md), .ref t]))], [(n128, .inr (28, [.ref (kI g (key a1)), .ref (val a1), .null, .null, .null, .int (nI 1)]))]] 0 0 from ?_)
  exact g_aret B E dJ10_buildFromSorted_2_217 (by first | exact Or.inl ⟨_, rfl⟩ | exact Or.inr ⟨_, rfl⟩) (rv_r _) (⟨n128, _, rfl, rfl, he_57⟩)
theorem ct_bf1222 (g : Gv) (J : Jd g) {b : Nat} {bvs : Option Nat} {brt : Option Nat} {bn : Nat} {bmd : Nat} {bes : Option Nat} {bnk : Option Nat} {t : Nat} {vs : Option Nat} {n : Nat} {md : Nat} {es : Option Nat} {nk : Option Nat} {ns : List Nat} {key : Nat → Nat} {val : Nat → Nat} {l : Nat → Option Nat} {r : Nat → Option Nat} {p : Nat → Option Nat} {col : Nat → Bool} {lo : Nat → Nat} {hi : Nat → Nat} {root : Option Nat} {i : Nat} {la : Option Nat} {a1 : Nat} {w2 : va_W} (hw2 : EntG g ns key val l r p col w2) (hT : Tr ns key l r p lo hi root 128) (ha1 : a1 ∈ ns) : Ct g yJ10_buildFromSorted_2 (ws_ yJ10_buildFromSorted_2 cJ10_buildFromSorted_2 14 (some (.object "java/util/TreeMap$Entry"))) 5 1 6 [.ref b, .int (nI 1), .int (nI 2), .int (nI 2), .int (nI 2), .ref i, .null, .null] [[(b, .inr (27, [.null, va_rf bvs, .null, va_rf brt, .int (nI bn), .int (nI bmd), va_rf bes, va_rf bnk, .null]))], [(t, .inr (27, [.null, va_rf vs, .null, va_rf root, .int (nI n), .int (nI md), va_rf es, va_rf nk, .null]))], w2, [(i, .inr (34, [.ref a1, va_rf la, .int (nI md), .ref t]))]] (fun (rv_ : Option Value) (rL_ : List va_W) => ∃ (m1 : Nat) (e : Option Nat), rv_ = some (.ref m1) ∧ rL_ = [[(b, .inr (27, [.null, va_rf bvs, .null, va_rf brt, .int (nI bn), .int (nI bmd), va_rf bes, va_rf bnk, .null]))], [(t, .inr (27, [.null, va_rf vs, .null, va_rf root, .int (nI n), .int (nI md), va_rf es, va_rf nk, .null]))], w2, [(i, .inr (34, [va_rf e, .ref a1, .int (nI md), .ref t]))], [(m1, .inr (28, [.ref (kI g (key a1)), .ref (val a1), .null, .null, .null, .int (nI 1)]))]] ∧ (Lf ns key (key a1 + 1) e)) noX := by
  refine Ct.of "java/util/TreeMap" [some (.ref b), some (.int (nI 1)), some (.int (nI 2)), some (.int (nI 2)), some (.int (nI 2)), some (.ref i), some (.null), some (.null), none, none, none, none, none, none] rfl (by decide) rfl (Nat.le_of_ble_eq_true rfl) rfl ?_
  intro κ B E tb
  refine g_iload_n (q := 1) B dJ10_buildFromSorted_2_0 rfl rfl ?_
  refine g_iload_n (q := 2) B dJ10_buildFromSorted_2_1 rfl rfl ?_
  refine g_icmp_ge (tgt := 7) (q := 5) B dJ10_buildFromSorted_2_2 rfl (by decide) (iff_true_intro (by decide)) (fun _ => ?_) (fun z => absurd trivial z)
  refine g_iload_n (q := 8) B dJ10_buildFromSorted_2_7 rfl rfl ?_
  refine g_iload_n (q := 9) B dJ10_buildFromSorted_2_8 rfl rfl ?_
  refine g_iadd (v := nI 4) (q := 10) B dJ10_buildFromSorted_2_9 rfl (nI_add _ _) ?_
  refine g_iconst (v := nI 1) (q := 11) B dJ10_buildFromSorted_2_10 rfl (by decide) ?_
  refine g_iushr (v := nI 2) (q := 12) B dJ10_buildFromSorted_2_11 rfl (by decide) ?_
  refine g_istore (q := 14) (lv2 := [some (.ref b), some (.int (nI 1)), some (.int (nI 2)), some (.int (nI 2)), some (.int (nI 2)), some (.ref i), some (.null), some (.null), some (.int (nI 2)), none, none, none, none, none]) B dJ10_buildFromSorted_2_12 rfl (Nat.le_of_ble_eq_true rfl) rfl ?_
  refine g_aconst_null (q := 15) B dJ10_buildFromSorted_2_14 rfl ?_
  refine g_astore (q := 17) (lv2 := [some (.ref b), some (.int (nI 1)), some (.int (nI 2)), some (.int (nI 2)), some (.int (nI 2)), some (.ref i), some (.null), some (.null), some (.int (nI 2)), some (.null), none, none, none, none]) B dJ10_buildFromSorted_2_15 rfl (Nat.le_of_ble_eq_true rfl) rv_n rfl ?_
  refine g_iload_n (q := 18) B dJ10_buildFromSorted_2_17 rfl rfl ?_
  refine g_iload (q := 20) B dJ10_buildFromSorted_2_18 rfl rfl ?_
  refine g_icmp_ge (tgt := 45) (q := 23) B dJ10_buildFromSorted_2_20 rfl (by decide) (iff_true_intro (by decide)) (fun _ => ?_) (fun z => absurd trivial z)
  refine g_aload (q := 47) B dJ10_buildFromSorted_2_45 rfl rfl (rv_r _) ?_
  refine g_ifnull_r (q := 50) B dJ10_buildFromSorted_2_47 rfl ?_
  refine g_aload (q := 52) B dJ10_buildFromSorted_2_50 rfl rfl rv_n ?_
  refine g_ifnonnull_n (q := 55) B dJ10_buildFromSorted_2_52 rfl ?_
  refine g_aload (q := 57) B dJ10_buildFromSorted_2_55 rfl rfl (rv_r _) ?_
  refine g_callF (q := 62) (is := [1, 1, 1]) (kc2 := 1) (ks2 := 6) B [] (ct_J32_next g J (t := t) (vs := vs) (n := n) (md := md) (es := es) (nk := nk) (ns := ns) (key := key) (val := val) (l := l) (r := r) (p := p) (col := col) (lo := lo) (hi := hi) (root := root) (M := 128) (i := i) (a := a1) (la := la) hw2 (by first | assumption | omega | rfl) (by first | assumption | omega | rfl)) dJ10_buildFromSorted_2_57 rfl (ci := 34) rfl (rc_at B (ci := 34) rfl (k := 3) rfl) q2675 q1014 q1016 q117 q1018 q966 q965 q1017 q1015 q951 rfl rfl mojava_util_Iterator_next___Ljava_lang_Object_ rfl rfl (by decide) (by decide) (Nat.le_of_ble_eq_true rfl) (Nat.le_of_ble_eq_true rfl) (Nat.le_of_ble_eq_true rfl) (fun _ _ hx => noX_x hx) (fun v57 L1 hp57 => ?_)
  obtain ⟨e57, rfl, rfl, he_57⟩ := hp57
  refine (show Go g κ 62 [some (.ref b), some (.int (nI 1)), some (.int (nI 2)), some (.int (nI 2)), some (.int (nI 2)), some (.ref i), some (.null), some (.null), some (.int (nI 2)), some (.null), none, none, none, none] [.ref a1] [[(b, .inr (27, [.null, va_rf bvs, .null, va_rf brt, .int (nI bn), .int (nI bmd), va_rf bes, va_rf bnk, .null]))], [(t, .inr (27, [.null, va_rf vs, .null, va_rf root, .int (nI n), .int (nI md), va_rf es, va_rf nk, .null]))], w2, [(i, .inr (34, [va_rf e57, .ref a1, .int (nI md), .ref t]))]] 1 6 from ?_)
  refine g_castR (q := 65) B (rc_ent B (k := 2) rfl hw2 ha1) dJ10_buildFromSorted_2_62 rfl q2676 q2690 ?_
  refine g_astore (q := 67) (lv2 := [some (.ref b), some (.int (nI 1)), some (.int (nI 2)), some (.int (nI 2)), some (.int (nI 2)), some (.ref i), some (.null), some (.null), some (.int (nI 2)), some (.null), none, none, some (.ref a1), none]) B dJ10_buildFromSorted_2_65 rfl (Nat.le_of_ble_eq_true rfl) (rv_r _) rfl ?_
  refine g_aload (q := 69) B dJ10_buildFromSorted_2_67 rfl rfl (rv_r _) ?_
  refine g_callF (q := 74) (is := [2]) (kc2 := 1) (ks2 := 6) B [] (ct_J37_getKey g J (ns := ns) (key := key) (val := val) (l := l) (r := r) (p := p) (col := col) (a := a1) hw2 (by first | assumption | omega | rfl)) dJ10_buildFromSorted_2_69 rfl (ci := 28) rfl (rc_ent B (k := 2) rfl hw2 ha1) q2678 q2691 q2693 q128 q2695 q2680 q2679 q2694 q2692 q2690 rfl rfl mojava_util_Map_Entry_getKey___Ljava_lang_Object_ rfl rfl (by decide) (by decide) (Nat.le_of_ble_eq_true rfl) (Nat.le_of_ble_eq_true rfl) (Nat.le_of_ble_eq_true rfl) (fun _ _ hx => noX_x hx) (fun v69 L1 hp69 => ?_)
  obtain ⟨rfl, rfl⟩ := hp69
  refine (show Go g κ 74 [some (.ref b), some (.int (nI 1)), some (.int (nI 2)), some (.int (nI 2)), some (.int (nI 2)), some (.ref i), some (.null), some (.null), some (.int (nI 2)), some (.null), none, none, some (.ref a1), none] [.ref (kI g (key a1))] [[(b, .inr (27, [.null, va_rf bvs, .null, va_rf brt, .int (nI bn), .int (nI bmd), va_rf bes, va_rf bnk, .null]))], [(t, .inr (27, [.null, va_rf vs, .null, va_rf root, .int (nI n), .int (nI md), va_rf es, va_rf nk, .null]))], [(i, .inr (34, [va_rf e57, .ref a1, .int (nI md), .ref t]))], w2] 1 6 from ?_)
  refine g_astore (q := 76) (lv2 := [some (.ref b), some (.int (nI 1)), some (.int (nI 2)), some (.int (nI 2)), some (.int (nI 2)), some (.ref i), some (.null), some (.null), some (.int (nI 2)), some (.null), some (.ref (kI g (key a1))), none, some (.ref a1), none]) B dJ10_buildFromSorted_2_74 rfl (Nat.le_of_ble_eq_true rfl) (rv_r _) rfl ?_
  refine g_aload (q := 78) B dJ10_buildFromSorted_2_76 rfl rfl (rv_r _) ?_
  refine g_callF (q := 83) (is := [3]) (kc2 := 1) (ks2 := 6) B [] (ct_J37_getValue g J (ns := ns) (key := key) (val := val) (l := l) (r := r) (p := p) (col := col) (a := a1) hw2 (by first | assumption | omega | rfl)) dJ10_buildFromSorted_2_78 rfl (ci := 28) rfl (rc_ent B (k := 3) rfl hw2 ha1) q2697 q2707 q2709 q128 q2711 q2699 q2698 q2710 q2708 q2690 rfl rfl mojava_util_Map_Entry_getValue___Ljava_lang_Object_ rfl rfl (by decide) (by decide) (Nat.le_of_ble_eq_true rfl) (Nat.le_of_ble_eq_true rfl) (Nat.le_of_ble_eq_true rfl) (fun _ _ hx => noX_x hx) (fun v78 L1 hp78 => ?_)
  obtain ⟨rfl, rfl⟩ := hp78
  refine (show Go g κ 83 [some (.ref b), some (.int (nI 1)), some (.int (nI 2)), some (.int (nI 2)), some (.int (nI 2)), some (.ref i), some (.null), some (.null), some (.int (nI 2)), some (.null), some (.ref (kI g (key a1))), none, some (.ref a1), none] [.ref (val a1)] [[(b, .inr (27, [.null, va_rf bvs, .null, va_rf brt, .int (nI bn), .int (nI bmd), va_rf bes, va_rf bnk, .null]))], [(t, .inr (27, [.null, va_rf vs, .null, va_rf root, .int (nI n), .int (nI md), va_rf es, va_rf nk, .null]))], [(i, .inr (34, [va_rf e57, .ref a1, .int (nI md), .ref t]))], w2] 1 6 from ?_)
  refine g_astore (q := 85) (lv2 := [some (.ref b), some (.int (nI 1)), some (.int (nI 2)), some (.int (nI 2)), some (.int (nI 2)), some (.ref i), some (.null), some (.null), some (.int (nI 2)), some (.null), some (.ref (kI g (key a1))), some (.ref (val a1)), some (.ref a1), none]) B dJ10_buildFromSorted_2_83 rfl (Nat.le_of_ble_eq_true rfl) (rv_r _) rfl ?_
  refine g_goto (tgt := 128) B dJ10_buildFromSorted_2_85 (by decide) ?_
  refine g_new (q := 131) (kc2 := 0) (ks2 := 0) (fs := [.null, .null, .null, .null, .null, .int (nI 0)]) B (ci := 28) in_J37 tyJ37_ok rfl dJ10_buildFromSorted_2_128 rfl q2100 q2101 q128 (nwJ37) (Nat.le_of_ble_eq_true rfl) (Nat.le_of_ble_eq_true rfl) (fun n128 => ?_)
  refine (show Go g κ 131 [some (.ref b), some (.int (nI 1)), some (.int (nI 2)), some (.int (nI 2)), some (.int (nI 2)), some (.ref i), some (.null), some (.null), some (.int (nI 2)), some (.null), some (.ref (kI g (key a1))), some (.ref (val a1)), some (.ref a1), none] [.ref n128] [[(b, .inr (27, [.null, va_rf bvs, .null, va_rf brt, .int (nI bn), .int (nI bmd), va_rf bes, va_rf bnk, .null]))], [(t, .inr (27, [.null, va_rf vs, .null, va_rf root, .int (nI n), .int (nI md), va_rf es, va_rf nk, .null]))], [(i, .inr (34, [va_rf e57, .ref a1, .int (nI md), .ref t]))], w2, [(n128, .inr (28, [.null, .null, .null, .null, .null, .int (nI 0)]))]] 0 0 from ?_)
  refine g_dup (q := 132) B dJ10_buildFromSorted_2_131 rfl rfl ?_
  refine g_aload (q := 134) B dJ10_buildFromSorted_2_132 rfl rfl (rv_r _) ?_
  refine g_aload (q := 136) B dJ10_buildFromSorted_2_134 rfl rfl (rv_r _) ?_
  refine g_aconst_null (q := 137) B dJ10_buildFromSorted_2_136 rfl ?_
  refine g_callI (q := 140) (is := [4]) (kc2 := 0) (ks2 := 0) B [.ref (kI g (key a1)), .ref (val a1), .null] (ct_J37_init g J (e := n128) (kr := (kI g (key a1))) (v := (val a1)) (q := none)  ) dJ10_buildFromSorted_2_137 rfl rfl q2102 q2103 q128 q2104 rfl rfl moJ37_init rfl rfl (by decide) (by decide) (Nat.le_of_ble_eq_true rfl) (Nat.le_of_ble_eq_true rfl) (Nat.le_of_ble_eq_true rfl) (fun _ _ hx => noX_x hx) (fun v137 L1 hp137 => ?_)
  obtain ⟨rfl, rfl⟩ := hp137
  refine (show Go g κ 140 [some (.ref b), some (.int (nI 1)), some (.int (nI 2)), some (.int (nI 2)), some (.int (nI 2)), some (.ref i), some (.null), some (.null), some (.int (nI 2)), some (.null), some (.ref (kI g (key a1))), some (.ref (val a1)), some (.ref a1), none] [.ref n128] [[(b, .inr (27, [.null, va_rf bvs, .null, va_rf brt, .int (nI bn), .int (nI bmd), va_rf bes, va_rf bnk, .null]))], [(t, .inr (27, [.null, va_rf vs, .null, va_rf root, .int (nI n), .int (nI md), va_rf es, va_rf nk, .null]))], [(i, .inr (34, [va_rf e57, .ref a1, .int (nI md), .ref t]))], w2, [(n128, .inr (28, [.ref (kI g (key a1)), .ref (val a1), .null, .null, .null, .int (nI 1)]))]] 0 0 from ?_)
  refine g_astore (q := 142) (lv2 := [some (.ref b), some (.int (nI 1)), some (.int (nI 2)), some (.int (nI 2)), some (.int (nI 2)), some (.ref i), some (.null), some (.null), some (.int (nI 2)), some (.null), some (.ref (kI g (key a1))), some (.ref (val a1)), some (.ref n128), none]) B dJ10_buildFromSorted_2_140 rfl (Nat.le_of_ble_eq_true rfl) (rv_r _) rfl ?_
  refine g_iload_n (q := 143) B dJ10_buildFromSorted_2_142 rfl rfl ?_
  refine g_iload (q := 145) B dJ10_buildFromSorted_2_143 rfl rfl ?_
  refine g_icmp_ne (tgt := 154) (q := 148) B dJ10_buildFromSorted_2_145 rfl (by decide) (iff_true_intro (by decide)) (fun _ => ?_) (fun z => absurd trivial z)
  refine g_aload (q := 156) B dJ10_buildFromSorted_2_154 rfl rfl rv_n ?_
  refine g_ifnull_n (tgt := 173) B dJ10_buildFromSorted_2_156 (by decide) ?_
  refine g_iload (q := 175) B dJ10_buildFromSorted_2_173 rfl rfl ?_
  refine g_iload_n (q := 176) B dJ10_buildFromSorted_2_175 rfl rfl ?_
  refine g_icmp_ge (tgt := 215) (q := 179) B dJ10_buildFromSorted_2_176 rfl (by decide) (iff_true_intro (by decide)) (fun _ => ?_) (fun z => absurd trivial z)
  refine g_aload (q := 217) B dJ10_buildFromSorted_2_215 rfl rfl (rv_r _) ?_
  refine g_pk [0, 0, 1, 0, 0] rfl rfl ?_
  refine (show Go g κ 217 [some (.ref b), some (.int (nI 1)), some (.int (nI 2)), some (.int (nI 2)), some (.int (nI 2)), some (.ref i), some (.null), some (.null), some (.int (nI 2)), some (.null), some (.ref (kI g (key a1))), some (.ref (val a1)), some (.ref n128), none] [.ref n128] [[(b, .inr (27, [.null, va_rf bvs, .null, va_rf brt, .int (nI bn), .int (nI bmd), va_rf bes, va_rf bnk, .null]))], [(t, .inr (27, [.null, va_rf vs, .null, va_rf root, .int (nI n), .int (nI md), va_rf es, va_rf nk, .null]))], w2, [(i, .inr (34, [va_rf e57, .ref a1, .int (nI md), .ref t]))], [(n128, .inr (28, [.ref (kI g (key a1)), .ref (val a1), .null, .null, .null, .int (nI 1)]))]] 0 0 from ?_)
  exact g_aret B E dJ10_buildFromSorted_2_217 (by first | exact Or.inl ⟨_, rfl⟩ | exact Or.inr ⟨_, rfl⟩) (rv_r _) (⟨n128, _, rfl, rfl, he_57⟩)
theorem ct_bf0022 (g : Gv) (J : Jd g) {b : Nat} {bvs : Option Nat} {brt : Option Nat} {bn : Nat} {bmd : Nat} {bes : Option Nat} {bnk : Option Nat} {t : Nat} {vs : Option Nat} {n : Nat} {md : Nat} {es : Option Nat} {nk : Option Nat} {ns : List Nat} {key : Nat → Nat} {val : Nat → Nat} {l : Nat → Option Nat} {r : Nat → Option Nat} {p : Nat → Option Nat} {col : Nat → Bool} {lo : Nat → Nat} {hi : Nat → Nat} {root : Option Nat} {i : Nat} {la : Option Nat} {a1 : Nat} {a2 : Nat} {a3 : Nat} {w2 : va_W} (hw2 : EntG g ns key val l r p col w2) (hT : Tr ns key l r p lo hi root 128) (ha1 : a1 ∈ ns) (hc1 : Lf ns key (key a1 + 1) (some a2)) (hc2 : Lf ns key (key a2 + 1) (some a3)) : Ct g yJ10_buildFromSorted_2 (ws_ yJ10_buildFromSorted_2 cJ10_buildFromSorted_2 14 (some (.object "java/util/TreeMap$Entry"))) 7 3 18 [.ref b, .int (nI 0), .int (nI 0), .int (nI 2), .int (nI 2), .ref i, .null, .null] [[(b, .inr (27, [.null, va_rf bvs, .null, va_rf brt, .int (nI bn), .int (nI bmd), va_rf bes, va_rf bnk, .null]))], [(t, .inr (27, [.null, va_rf vs, .null, va_rf root, .int (nI n), .int (nI md), va_rf es, va_rf nk, .null]))], w2, [(i, .inr (34, [.ref a1, va_rf la, .int (nI md), .ref t]))]] (fun (rv_ : Option Value) (rL_ : List va_W) => ∃ (m1 : Nat) (m2 : Nat) (m3 : Nat) (e : Option Nat), rv_ = some (.ref m2) ∧ rL_ = [[(b, .inr (27, [.null, va_rf bvs, .null, va_rf brt, .int (nI bn), .int (nI bmd), va_rf bes, va_rf bnk, .null]))], [(t, .inr (27, [.null, va_rf vs, .null, va_rf root, .int (nI n), .int (nI md), va_rf es, va_rf nk, .null]))], w2, [(i, .inr (34, [va_rf e, .ref a3, .int (nI md), .ref t]))], [(m1, .inr (28, [.ref (kI g (key a1)), .ref (val a1), .null, .null, .ref m2, .int (nI 1)]))], [(m2, .inr (28, [.ref (kI g (key a2)), .ref (val a2), .ref m1, .ref m3, .null, .int (nI 1)]))], [(m3, .inr (28, [.ref (kI g (key a3)), .ref (val a3), .null, .null, .ref m2, .int (nI 1)]))]] ∧ (Lf ns key (key a3 + 1) e)) noX := by
  refine Ct.of "java/util/TreeMap" [some (.ref b), some (.int (nI 0)), some (.int (nI 0)), some (.int (nI 2)), some (.int (nI 2)), some (.ref i), some (.null), some (.null), none, none, none, none, none, none] rfl (by decide) rfl (Nat.le_of_ble_eq_true rfl) rfl ?_
  intro κ B E tb
  have ha2 := (hc1.1 a2 rfl).1
  have ha3 := (hc2.1 a3 rfl).1
  refine g_iload_n (q := 1) B dJ10_buildFromSorted_2_0 rfl rfl ?_
  refine g_iload_n (q := 2) B dJ10_buildFromSorted_2_1 rfl rfl ?_
  refine g_icmp_ge (tgt := 7) (q := 5) B dJ10_buildFromSorted_2_2 rfl (by decide) (iff_true_intro (by decide)) (fun _ => ?_) (fun z => absurd trivial z)
  refine g_iload_n (q := 8) B dJ10_buildFromSorted_2_7 rfl rfl ?_
  refine g_iload_n (q := 9) B dJ10_buildFromSorted_2_8 rfl rfl ?_
  refine g_iadd (v := nI 2) (q := 10) B dJ10_buildFromSorted_2_9 rfl (nI_add _ _) ?_
  refine g_iconst (v := nI 1) (q := 11) B dJ10_buildFromSorted_2_10 rfl (by decide) ?_
  refine g_iushr (v := nI 1) (q := 12) B dJ10_buildFromSorted_2_11 rfl (by decide) ?_
  refine g_istore (q := 14) (lv2 := [some (.ref b), some (.int (nI 0)), some (.int (nI 0)), some (.int (nI 2)), some (.int (nI 2)), some (.ref i), some (.null), some (.null), some (.int (nI 1)), none, none, none, none, none]) B dJ10_buildFromSorted_2_12 rfl (Nat.le_of_ble_eq_true rfl) rfl ?_
  refine g_aconst_null (q := 15) B dJ10_buildFromSorted_2_14 rfl ?_
  refine g_astore (q := 17) (lv2 := [some (.ref b), some (.int (nI 0)), some (.int (nI 0)), some (.int (nI 2)), some (.int (nI 2)), some (.ref i), some (.null), some (.null), some (.int (nI 1)), some (.null), none, none, none, none]) B dJ10_buildFromSorted_2_15 rfl (Nat.le_of_ble_eq_true rfl) rv_n rfl ?_
  refine g_iload_n (q := 18) B dJ10_buildFromSorted_2_17 rfl rfl ?_
  refine g_iload (q := 20) B dJ10_buildFromSorted_2_18 rfl rfl ?_
  refine g_icmp_ge (tgt := 45) (q := 23) B dJ10_buildFromSorted_2_20 rfl (by decide) (iff_false_intro (by decide)) (fun z => z.elim) (fun _ => ?_)
  refine g_aload_n (q := 24) B dJ10_buildFromSorted_2_23 rfl rfl (rv_r _) ?_
  refine g_iload_n (q := 25) B dJ10_buildFromSorted_2_24 rfl rfl ?_
  refine g_iconst (v := nI 1) (q := 26) B dJ10_buildFromSorted_2_25 rfl (by decide) ?_
  refine g_iadd (v := nI 1) (q := 27) B dJ10_buildFromSorted_2_26 rfl (nI_add _ _) ?_
  refine g_iload_n (q := 28) B dJ10_buildFromSorted_2_27 rfl rfl ?_
  refine g_iload (q := 30) B dJ10_buildFromSorted_2_28 rfl rfl ?_
  refine g_iconst (v := nI 1) (q := 31) B dJ10_buildFromSorted_2_30 rfl (by decide) ?_
  refine g_isub (v := nI 0) (q := 32) B dJ10_buildFromSorted_2_31 rfl (pk_sub (by omega)) ?_
  refine g_iload (q := 34) B dJ10_buildFromSorted_2_32 rfl rfl ?_
  refine g_aload (q := 36) B dJ10_buildFromSorted_2_34 rfl rfl (rv_r _) ?_
  refine g_aload (q := 38) B dJ10_buildFromSorted_2_36 rfl rfl rv_n ?_
  refine g_aload (q := 40) B dJ10_buildFromSorted_2_38 rfl rfl rv_n ?_
  refine g_callV (q := 43) (is := [0, 0, 0, 0]) (kc2 := 2) (ks2 := 12) B [.int (nI 1), .int (nI 0), .int (nI 0), .int (nI 2), .ref i, .null, .null] (ct_bf1002 g J (b := b) (bvs := bvs) (brt := brt) (bn := bn) (bmd := bmd) (bes := bes) (bnk := bnk) (t := t) (vs := vs) (n := n) (md := md) (es := es) (nk := nk) (ns := ns) (key := key) (val := val) (l := l) (r := r) (p := p) (col := col) (lo := lo) (hi := hi) (root := root) (i := i) (la := la) (a1 := a1) hw2 (by first | assumption | omega | rfl) (by first | assumption | omega | rfl)) dJ10_buildFromSorted_2_40 rfl (rc_at B (ci := 27) rfl (k := 0) rfl) rfl q2670 q2672 qs41 q91 q2673 rfl rfl moJ10_buildFromSorted_2 rfl rfl (by decide) (by decide) (Nat.le_of_ble_eq_true rfl) (Nat.le_of_ble_eq_true rfl) (Nat.le_of_ble_eq_true rfl) (fun _ _ hx => noX_x hx) (fun v40 L1 hp40 => ?_)
  obtain ⟨m1, e40, rfl, rfl, he_40⟩ := hp40
  refine (show Go g κ 43 [some (.ref b), some (.int (nI 0)), some (.int (nI 0)), some (.int (nI 2)), some (.int (nI 2)), some (.ref i), some (.null), some (.null), some (.int (nI 1)), some (.null), none, none, none, none] [.ref m1] [[(b, .inr (27, [.null, va_rf bvs, .null, va_rf brt, .int (nI bn), .int (nI bmd), va_rf bes, va_rf bnk, .null]))], [(t, .inr (27, [.null, va_rf vs, .null, va_rf root, .int (nI n), .int (nI md), va_rf es, va_rf nk, .null]))], w2, [(i, .inr (34, [va_rf e40, .ref a1, .int (nI md), .ref t]))], [(m1, .inr (28, [.ref (kI g (key a1)), .ref (val a1), .null, .null, .null, .int (nI 1)]))]] 2 12 from ?_)
  have hq2 : e40 = some a2 := lf_uq hT.1 he_40 hc1
  subst hq2
  refine (show Go g κ 43 [some (.ref b), some (.int (nI 0)), some (.int (nI 0)), some (.int (nI 2)), some (.int (nI 2)), some (.ref i), some (.null), some (.null), some (.int (nI 1)), some (.null), none, none, none, none] [.ref m1] [[(b, .inr (27, [.null, va_rf bvs, .null, va_rf brt, .int (nI bn), .int (nI bmd), va_rf bes, va_rf bnk, .null]))], [(t, .inr (27, [.null, va_rf vs, .null, va_rf root, .int (nI n), .int (nI md), va_rf es, va_rf nk, .null]))], w2, [(i, .inr (34, [.ref a2, .ref a1, .int (nI md), .ref t]))], [(m1, .inr (28, [.ref (kI g (key a1)), .ref (val a1), .null, .null, .null, .int (nI 1)]))]] 2 12 from ?_)
  refine g_astore (q := 45) (lv2 := [some (.ref b), some (.int (nI 0)), some (.int (nI 0)), some (.int (nI 2)), some (.int (nI 2)), some (.ref i), some (.null), some (.null), some (.int (nI 1)), some (.ref m1), none, none, none, none]) B dJ10_buildFromSorted_2_43 rfl (Nat.le_of_ble_eq_true rfl) (rv_r _) rfl ?_
  refine g_aload (q := 47) B dJ10_buildFromSorted_2_45 rfl rfl (rv_r _) ?_
  refine g_ifnull_r (q := 50) B dJ10_buildFromSorted_2_47 rfl ?_
  refine g_aload (q := 52) B dJ10_buildFromSorted_2_50 rfl rfl rv_n ?_
  refine g_ifnonnull_n (q := 55) B dJ10_buildFromSorted_2_52 rfl ?_
  refine g_aload (q := 57) B dJ10_buildFromSorted_2_55 rfl rfl (rv_r _) ?_
  refine g_callF (q := 62) (is := [1, 1, 1]) (kc2 := 2) (ks2 := 12) B [] (ct_J32_next g J (t := t) (vs := vs) (n := n) (md := md) (es := es) (nk := nk) (ns := ns) (key := key) (val := val) (l := l) (r := r) (p := p) (col := col) (lo := lo) (hi := hi) (root := root) (M := 128) (i := i) (a := a2) (la := some a1) hw2 (by first | assumption | omega | rfl) (by first | assumption | omega | rfl)) dJ10_buildFromSorted_2_57 rfl (ci := 34) rfl (rc_at B (ci := 34) rfl (k := 3) rfl) q2675 q1014 q1016 q117 q1018 q966 q965 q1017 q1015 q951 rfl rfl mojava_util_Iterator_next___Ljava_lang_Object_ rfl rfl (by decide) (by decide) (Nat.le_of_ble_eq_true rfl) (Nat.le_of_ble_eq_true rfl) (Nat.le_of_ble_eq_true rfl) (fun _ _ hx => noX_x hx) (fun v57 L1 hp57 => ?_)
  obtain ⟨e57, rfl, rfl, he_57⟩ := hp57
  refine (show Go g κ 62 [some (.ref b), some (.int (nI 0)), some (.int (nI 0)), some (.int (nI 2)), some (.int (nI 2)), some (.ref i), some (.null), some (.null), some (.int (nI 1)), some (.ref m1), none, none, none, none] [.ref a2] [[(b, .inr (27, [.null, va_rf bvs, .null, va_rf brt, .int (nI bn), .int (nI bmd), va_rf bes, va_rf bnk, .null]))], [(m1, .inr (28, [.ref (kI g (key a1)), .ref (val a1), .null, .null, .null, .int (nI 1)]))], [(t, .inr (27, [.null, va_rf vs, .null, va_rf root, .int (nI n), .int (nI md), va_rf es, va_rf nk, .null]))], w2, [(i, .inr (34, [va_rf e57, .ref a2, .int (nI md), .ref t]))]] 2 12 from ?_)
  have hq3 : e57 = some a3 := lf_uq hT.1 he_57 hc2
  subst hq3
  refine (show Go g κ 62 [some (.ref b), some (.int (nI 0)), some (.int (nI 0)), some (.int (nI 2)), some (.int (nI 2)), some (.ref i), some (.null), some (.null), some (.int (nI 1)), some (.ref m1), none, none, none, none] [.ref a2] [[(b, .inr (27, [.null, va_rf bvs, .null, va_rf brt, .int (nI bn), .int (nI bmd), va_rf bes, va_rf bnk, .null]))], [(m1, .inr (28, [.ref (kI g (key a1)), .ref (val a1), .null, .null, .null, .int (nI 1)]))], [(t, .inr (27, [.null, va_rf vs, .null, va_rf root, .int (nI n), .int (nI md), va_rf es, va_rf nk, .null]))], w2, [(i, .inr (34, [.ref a3, .ref a2, .int (nI md), .ref t]))]] 2 12 from ?_)
  refine g_castR (q := 65) B (rc_ent B (k := 3) rfl hw2 ha2) dJ10_buildFromSorted_2_62 rfl q2676 q2690 ?_
  refine g_astore (q := 67) (lv2 := [some (.ref b), some (.int (nI 0)), some (.int (nI 0)), some (.int (nI 2)), some (.int (nI 2)), some (.ref i), some (.null), some (.null), some (.int (nI 1)), some (.ref m1), none, none, some (.ref a2), none]) B dJ10_buildFromSorted_2_65 rfl (Nat.le_of_ble_eq_true rfl) (rv_r _) rfl ?_
  refine g_aload (q := 69) B dJ10_buildFromSorted_2_67 rfl rfl (rv_r _) ?_
  refine g_callF (q := 74) (is := [3]) (kc2 := 2) (ks2 := 12) B [] (ct_J37_getKey g J (ns := ns) (key := key) (val := val) (l := l) (r := r) (p := p) (col := col) (a := a2) hw2 (by first | assumption | omega | rfl)) dJ10_buildFromSorted_2_69 rfl (ci := 28) rfl (rc_ent B (k := 3) rfl hw2 ha2) q2678 q2691 q2693 q128 q2695 q2680 q2679 q2694 q2692 q2690 rfl rfl mojava_util_Map_Entry_getKey___Ljava_lang_Object_ rfl rfl (by decide) (by decide) (Nat.le_of_ble_eq_true rfl) (Nat.le_of_ble_eq_true rfl) (Nat.le_of_ble_eq_true rfl) (fun _ _ hx => noX_x hx) (fun v69 L1 hp69 => ?_)
  obtain ⟨rfl, rfl⟩ := hp69
  refine (show Go g κ 74 [some (.ref b), some (.int (nI 0)), some (.int (nI 0)), some (.int (nI 2)), some (.int (nI 2)), some (.ref i), some (.null), some (.null), some (.int (nI 1)), some (.ref m1), none, none, some (.ref a2), none] [.ref (kI g (key a2))] [[(b, .inr (27, [.null, va_rf bvs, .null, va_rf brt, .int (nI bn), .int (nI bmd), va_rf bes, va_rf bnk, .null]))], [(m1, .inr (28, [.ref (kI g (key a1)), .ref (val a1), .null, .null, .null, .int (nI 1)]))], [(t, .inr (27, [.null, va_rf vs, .null, va_rf root, .int (nI n), .int (nI md), va_rf es, va_rf nk, .null]))], [(i, .inr (34, [.ref a3, .ref a2, .int (nI md), .ref t]))], w2] 2 12 from ?_)
  refine g_astore (q := 76) (lv2 := [some (.ref b), some (.int (nI 0)), some (.int (nI 0)), some (.int (nI 2)), some (.int (nI 2)), some (.ref i), some (.null), some (.null), some (.int (nI 1)), some (.ref m1), some (.ref (kI g (key a2))), none, some (.ref a2), none]) B dJ10_buildFromSorted_2_74 rfl (Nat.le_of_ble_eq_true rfl) (rv_r _) rfl ?_
  refine g_aload (q := 78) B dJ10_buildFromSorted_2_76 rfl rfl (rv_r _) ?_
  refine g_callF (q := 83) (is := [4]) (kc2 := 2) (ks2 := 12) B [] (ct_J37_getValue g J (ns := ns) (key := key) (val := val) (l := l) (r := r) (p := p) (col := col) (a := a2) hw2 (by first | assumption | omega | rfl)) dJ10_buildFromSorted_2_78 rfl (ci := 28) rfl (rc_ent B (k := 4) rfl hw2 ha2) q2697 q2707 q2709 q128 q2711 q2699 q2698 q2710 q2708 q2690 rfl rfl mojava_util_Map_Entry_getValue___Ljava_lang_Object_ rfl rfl (by decide) (by decide) (Nat.le_of_ble_eq_true rfl) (Nat.le_of_ble_eq_true rfl) (Nat.le_of_ble_eq_true rfl) (fun _ _ hx => noX_x hx) (fun v78 L1 hp78 => ?_)
  obtain ⟨rfl, rfl⟩ := hp78
  refine (show Go g κ 83 [some (.ref b), some (.int (nI 0)), some (.int (nI 0)), some (.int (nI 2)), some (.int (nI 2)), some (.ref i), some (.null), some (.null), some (.int (nI 1)), some (.ref m1), some (.ref (kI g (key a2))), none, some (.ref a2), none] [.ref (val a2)] [[(b, .inr (27, [.null, va_rf bvs, .null, va_rf brt, .int (nI bn), .int (nI bmd), va_rf bes, va_rf bnk, .null]))], [(m1, .inr (28, [.ref (kI g (key a1)), .ref (val a1), .null, .null, .null, .int (nI 1)]))], [(t, .inr (27, [.null, va_rf vs, .null, va_rf root, .int (nI n), .int (nI md), va_rf es, va_rf nk, .null]))], [(i, .inr (34, [.ref a3, .ref a2, .int (nI md), .ref t]))], w2] 2 12 from ?_)
  refine g_astore (q := 85) (lv2 := [some (.ref b), some (.int (nI 0)), some (.int (nI 0)), some (.int (nI 2)), some (.int (nI 2)), some (.ref i), some (.null), some (.null), some (.int (nI 1)), some (.ref m1), some (.ref (kI g (key a2))), some (.ref (val a2)), some (.ref a2), none]) B dJ10_buildFromSorted_2_83 rfl (Nat.le_of_ble_eq_true rfl) (rv_r _) rfl ?_
  refine g_goto (tgt := 128) B dJ10_buildFromSorted_2_85 (by decide) ?_
  refine g_new (q := 131) (kc2 := 1) (ks2 := 6) (fs := [.null, .null, .null, .null, .null, .int (nI 0)]) B (ci := 28) in_J37 tyJ37_ok rfl dJ10_buildFromSorted_2_128 rfl q2100 q2101 q128 (nwJ37) (Nat.le_of_ble_eq_true rfl) (Nat.le_of_ble_eq_true rfl) (fun n128 => ?_)
  refine (show Go g κ 131 [some (.ref b), some (.int (nI 0)), some (.int (nI 0)), some (.int (nI 2)), some (.int (nI 2)), some (.ref i), some (.null), some (.null), some (.int (nI 1)), some (.ref m1), some (.ref (kI g (key a2))), some (.ref (val a2)), some (.ref a2), none] [.ref n128] [[(b, .inr (27, [.null, va_rf bvs, .null, va_rf brt, .int (nI bn), .int (nI bmd), va_rf bes, va_rf bnk, .null]))], [(m1, .inr (28, [.ref (kI g (key a1)), .ref (val a1), .null, .null, .null, .int (nI 1)]))], [(t, .inr (27, [.null, va_rf vs, .null, va_rf root, .int (nI n), .int (nI md), va_rf es, va_rf nk, .null]))], [(i, .inr (34, [.ref a3, .ref a2, .int (nI md), .ref t]))], w2, [(n128, .inr (28, [.null, .null, .null, .null, .null, .int (nI 0)]))]] 1 6 from ?_)
  refine g_dup (q := 132) B dJ10_buildFromSorted_2_131 rfl rfl ?_
  refine g_aload (q := 134) B dJ10_buildFromSorted_2_132 rfl rfl (rv_r _) ?_
  refine g_aload (q := 136) B dJ10_buildFromSorted_2_134 rfl rfl (rv_r _) ?_
  refine g_aconst_null (q := 137) B dJ10_buildFromSorted_2_136 rfl ?_
  refine g_callI (q := 140) (is := [5]) (kc2 := 1) (ks2 := 6) B [.ref (kI g (key a2)), .ref (val a2), .null] (ct_J37_init g J (e := n128) (kr := (kI g (key a2))) (v := (val a2)) (q := none)  ) dJ10_buildFromSorted_2_137 rfl rfl q2102 q2103 q128 q2104 rfl rfl moJ37_init rfl rfl (by decide) (by decide) (Nat.le_of_ble_eq_true rfl) (Nat.le_of_ble_eq_true rfl) (Nat.le_of_ble_eq_true rfl) (fun _ _ hx => noX_x hx) (fun v137 L1 hp137 => ?_)
  obtain ⟨rfl, rfl⟩ := hp137
  refine (show Go g κ 140 [some (.ref b), some (.int (nI 0)), some (.int (nI 0)), some (.int (nI 2)), some (.int (nI 2)), some (.ref i), some (.null), some (.null), some (.int (nI 1)), some (.ref m1), some (.ref (kI g (key a2))), some (.ref (val a2)), some (.ref a2), none] [.ref n128] [[(b, .inr (27, [.null, va_rf bvs, .null, va_rf brt, .int (nI bn), .int (nI bmd), va_rf bes, va_rf bnk, .null]))], [(m1, .inr (28, [.ref (kI g (key a1)), .ref (val a1), .null, .null, .null, .int (nI 1)]))], [(t, .inr (27, [.null, va_rf vs, .null, va_rf root, .int (nI n), .int (nI md), va_rf es, va_rf nk, .null]))], [(i, .inr (34, [.ref a3, .ref a2, .int (nI md), .ref t]))], w2, [(n128, .inr (28, [.ref (kI g (key a2)), .ref (val a2), .null, .null, .null, .int (nI 1)]))]] 1 6 from ?_)
  refine g_astore (q := 142) (lv2 := [some (.ref b), some (.int (nI 0)), some (.int (nI 0)), some (.int (nI 2)), some (.int (nI 2)), some (.ref i), some (.null), some (.null), some (.int (nI 1)), some (.ref m1), some (.ref (kI g (key a2))), some (.ref (val a2)), some (.ref n128), none]) B dJ10_buildFromSorted_2_140 rfl (Nat.le_of_ble_eq_true rfl) (rv_r _) rfl ?_
  refine g_iload_n (q := 143) B dJ10_buildFromSorted_2_142 rfl rfl ?_
  refine g_iload (q := 145) B dJ10_buildFromSorted_2_143 rfl rfl ?_
  refine g_icmp_ne (tgt := 154) (q := 148) B dJ10_buildFromSorted_2_145 rfl (by decide) (iff_true_intro (by decide)) (fun _ => ?_) (fun z => absurd trivial z)
  refine g_aload (q := 156) B dJ10_buildFromSorted_2_154 rfl rfl (rv_r _) ?_
  refine g_ifnull_r (q := 159) B dJ10_buildFromSorted_2_156 rfl ?_
  refine g_aload (q := 161) B dJ10_buildFromSorted_2_159 rfl rfl (rv_r _) ?_
  refine g_aload (q := 163) B dJ10_buildFromSorted_2_161 rfl rfl (rv_r _) ?_
  refine g_put (q := 166) (L2 := [[(b, .inr (27, [.null, va_rf bvs, .null, va_rf brt, .int (nI bn), .int (nI bmd), va_rf bes, va_rf bnk, .null]))], [(m1, .inr (28, [.ref (kI g (key a1)), .ref (val a1), .null, .null, .null, .int (nI 1)]))], [(t, .inr (27, [.null, va_rf vs, .null, va_rf root, .int (nI n), .int (nI md), va_rf es, va_rf nk, .null]))], [(i, .inr (34, [.ref a3, .ref a2, .int (nI md), .ref t]))], w2, [(n128, .inr (28, [.ref (kI g (key a2)), .ref (val a2), .ref m1, .null, .null, .int (nI 1)]))]]) B (ci := 28) (k := 5) (j := 2) in_J37 tyJ37 tyJ37_ok nmJ37 rfl dJ10_buildFromSorted_2_163 rfl rfl (Nat.le_of_ble_eq_true rfl) q2113 rfl rfl rfl rfl (Nat.le_of_ble_eq_true rfl) rfl ?_
  refine g_aload (q := 168) B dJ10_buildFromSorted_2_166 rfl rfl (rv_r _) ?_
  refine g_aload (q := 170) B dJ10_buildFromSorted_2_168 rfl rfl (rv_r _) ?_
  refine g_put (q := 173) (L2 := [[(b, .inr (27, [.null, va_rf bvs, .null, va_rf brt, .int (nI bn), .int (nI bmd), va_rf bes, va_rf bnk, .null]))], [(m1, .inr (28, [.ref (kI g (key a1)), .ref (val a1), .null, .null, .ref n128, .int (nI 1)]))], [(t, .inr (27, [.null, va_rf vs, .null, va_rf root, .int (nI n), .int (nI md), va_rf es, va_rf nk, .null]))], [(i, .inr (34, [.ref a3, .ref a2, .int (nI md), .ref t]))], w2, [(n128, .inr (28, [.ref (kI g (key a2)), .ref (val a2), .ref m1, .null, .null, .int (nI 1)]))]]) B (ci := 28) (k := 1) (j := 4) in_J37 tyJ37 tyJ37_ok nmJ37 rfl dJ10_buildFromSorted_2_170 rfl rfl (Nat.le_of_ble_eq_true rfl) q2117 rfl rfl rfl rfl (Nat.le_of_ble_eq_true rfl) rfl ?_
  refine g_iload (q := 175) B dJ10_buildFromSorted_2_173 rfl rfl ?_
  refine g_iload_n (q := 176) B dJ10_buildFromSorted_2_175 rfl rfl ?_
  refine g_icmp_ge (tgt := 215) (q := 179) B dJ10_buildFromSorted_2_176 rfl (by decide) (iff_false_intro (by decide)) (fun z => z.elim) (fun _ => ?_)
  refine g_aload_n (q := 180) B dJ10_buildFromSorted_2_179 rfl rfl (rv_r _) ?_
  refine g_iload_n (q := 181) B dJ10_buildFromSorted_2_180 rfl rfl ?_
  refine g_iconst (v := nI 1) (q := 182) B dJ10_buildFromSorted_2_181 rfl (by decide) ?_
  refine g_iadd (v := nI 1) (q := 183) B dJ10_buildFromSorted_2_182 rfl (nI_add _ _) ?_
  refine g_iload (q := 185) B dJ10_buildFromSorted_2_183 rfl rfl ?_
  refine g_iconst (v := nI 1) (q := 186) B dJ10_buildFromSorted_2_185 rfl (by decide) ?_
  refine g_iadd (v := nI 2) (q := 187) B dJ10_buildFromSorted_2_186 rfl (nI_add _ _) ?_
  refine g_iload_n (q := 188) B dJ10_buildFromSorted_2_187 rfl rfl ?_
  refine g_iload (q := 190) B dJ10_buildFromSorted_2_188 rfl rfl ?_
  refine g_aload (q := 192) B dJ10_buildFromSorted_2_190 rfl rfl (rv_r _) ?_
  refine g_aload (q := 194) B dJ10_buildFromSorted_2_192 rfl rfl rv_n ?_
  refine g_aload (q := 196) B dJ10_buildFromSorted_2_194 rfl rfl rv_n ?_
  refine g_callV (q := 199) (is := [0, 1, 2, 1]) (kc2 := 0) (ks2 := 0) B [.int (nI 1), .int (nI 2), .int (nI 2), .int (nI 2), .ref i, .null, .null] (ct_bf1222 g J (b := b) (bvs := bvs) (brt := brt) (bn := bn) (bmd := bmd) (bes := bes) (bnk := bnk) (t := t) (vs := vs) (n := n) (md := md) (es := es) (nk := nk) (ns := ns) (key := key) (val := val) (l := l) (r := r) (p := p) (col := col) (lo := lo) (hi := hi) (root := root) (i := i) (la := some a2) (a1 := a3) hw2 (by first | assumption | omega | rfl) (ha3)) dJ10_buildFromSorted_2_196 rfl (rc_at B (ci := 27) rfl (k := 0) rfl) rfl q2670 q2672 qs41 q91 q2673 rfl rfl moJ10_buildFromSorted_2 rfl rfl (by decide) (by decide) (Nat.le_of_ble_eq_true rfl) (Nat.le_of_ble_eq_true rfl) (Nat.le_of_ble_eq_true rfl) (fun _ _ hx => noX_x hx) (fun v196 L1 hp196 => ?_)
  obtain ⟨m3, e196, rfl, rfl, he_196⟩ := hp196
  refine (show Go g κ 199 [some (.ref b), some (.int (nI 0)), some (.int (nI 0)), some (.int (nI 2)), some (.int (nI 2)), some (.ref i), some (.null), some (.null), some (.int (nI 1)), some (.ref m1), some (.ref (kI g (key a2))), some (.ref (val a2)), some (.ref n128), none] [.ref m3] [[(m1, .inr (28, [.ref (kI g (key a1)), .ref (val a1), .null, .null, .ref n128, .int (nI 1)]))], [(n128, .inr (28, [.ref (kI g (key a2)), .ref (val a2), .ref m1, .null, .null, .int (nI 1)]))], [(b, .inr (27, [.null, va_rf bvs, .null, va_rf brt, .int (nI bn), .int (nI bmd), va_rf bes, va_rf bnk, .null]))], [(t, .inr (27, [.null, va_rf vs, .null, va_rf root, .int (nI n), .int (nI md), va_rf es, va_rf nk, .null]))], w2, [(i, .inr (34, [va_rf e196, .ref a3, .int (nI md), .ref t]))], [(m3, .inr (28, [.ref (kI g (key a3)), .ref (val a3), .null, .null, .null, .int (nI 1)]))]] 0 0 from ?_)
  refine g_astore (q := 201) (lv2 := [some (.ref b), some (.int (nI 0)), some (.int (nI 0)), some (.int (nI 2)), some (.int (nI 2)), some (.ref i), some (.null), some (.null), some (.int (nI 1)), some (.ref m1), some (.ref (kI g (key a2))), some (.ref (val a2)), some (.ref n128), some (.ref m3)]) B dJ10_buildFromSorted_2_199 rfl (Nat.le_of_ble_eq_true rfl) (rv_r _) rfl ?_
  refine g_aload (q := 203) B dJ10_buildFromSorted_2_201 rfl rfl (rv_r _) ?_
  refine g_aload (q := 205) B dJ10_buildFromSorted_2_203 rfl rfl (rv_r _) ?_
  refine g_put (q := 208) (L2 := [[(m1, .inr (28, [.ref (kI g (key a1)), .ref (val a1), .null, .null, .ref n128, .int (nI 1)]))], [(n128, .inr (28, [.ref (kI g (key a2)), .ref (val a2), .ref m1, .ref m3, .null, .int (nI 1)]))], [(b, .inr (27, [.null, va_rf bvs, .null, va_rf brt, .int (nI bn), .int (nI bmd), va_rf bes, va_rf bnk, .null]))], [(t, .inr (27, [.null, va_rf vs, .null, va_rf root, .int (nI n), .int (nI md), va_rf es, va_rf nk, .null]))], w2, [(i, .inr (34, [va_rf e196, .ref a3, .int (nI md), .ref t]))], [(m3, .inr (28, [.ref (kI g (key a3)), .ref (val a3), .null, .null, .null, .int (nI 1)]))]]) B (ci := 28) (k := 1) (j := 3) in_J37 tyJ37 tyJ37_ok nmJ37 rfl dJ10_buildFromSorted_2_205 rfl rfl (Nat.le_of_ble_eq_true rfl) q2115 rfl rfl rfl rfl (Nat.le_of_ble_eq_true rfl) rfl ?_
  refine g_aload (q := 210) B dJ10_buildFromSorted_2_208 rfl rfl (rv_r _) ?_
  refine g_aload (q := 212) B dJ10_buildFromSorted_2_210 rfl rfl (rv_r _) ?_
  refine g_put (q := 215) (L2 := [[(m1, .inr (28, [.ref (kI g (key a1)), .ref (val a1), .null, .null, .ref n128, .int (nI 1)]))], [(n128, .inr (28, [.ref (kI g (key a2)), .ref (val a2), .ref m1, .ref m3, .null, .int (nI 1)]))], [(b, .inr (27, [.null, va_rf bvs, .null, va_rf brt, .int (nI bn), .int (nI bmd), va_rf bes, va_rf bnk, .null]))], [(t, .inr (27, [.null, va_rf vs, .null, va_rf root, .int (nI n), .int (nI md), va_rf es, va_rf nk, .null]))], w2, [(i, .inr (34, [va_rf e196, .ref a3, .int (nI md), .ref t]))], [(m3, .inr (28, [.ref (kI g (key a3)), .ref (val a3), .null, .null, .ref n128, .int (nI 1)]))]]) B (ci := 28) (k := 6) (j := 4) in_J37 tyJ37 tyJ37_ok nmJ37 rfl dJ10_buildFromSorted_2_212 rfl rfl (Nat.le_of_ble_eq_true rfl) q2117 rfl rfl rfl rfl (Nat.le_of_ble_eq_true rfl) rfl ?_
  refine g_aload (q := 217) B dJ10_buildFromSorted_2_215 rfl rfl (rv_r _) ?_
  refine g_pk [2, 2, 2, 2, 0, 0, 0] rfl rfl ?_
  refine (show Go g κ 217 [some (.ref b), some (.int (nI 0)), some (.int (nI 0)), some (.int (nI 2)), some (.int (nI 2)), some (.ref i), some (.null), some (.null), some (.int (nI 1)), some (.ref m1), some (.ref (kI g (key a2))), some (.ref (val a2)), some (.ref n128), some (.ref m3)] [.ref n128] [[(b, .inr (27, [.null, va_rf bvs, .null, va_rf brt, .int (nI bn), .int (nI bmd), va_rf bes, va_rf bnk, .null]))], [(t, .inr (27, [.null, va_rf vs, .null, va_rf root, .int (nI n), .int (nI md), va_rf es, va_rf nk, .null]))], w2, [(i, .inr (34, [va_rf e196, .ref a3, .int (nI md), .ref t]))], [(m1, .inr (28, [.ref (kI g (key a1)), .ref (val a1), .null, .null, .ref n128, .int (nI 1)]))], [(n128, .inr (28, [.ref (kI g (key a2)), .ref (val a2), .ref m1, .ref m3, .null, .int (nI 1)]))], [(m3, .inr (28, [.ref (kI g (key a3)), .ref (val a3), .null, .null, .ref n128, .int (nI 1)]))]] 0 0 from ?_)
  exact g_aret B E dJ10_buildFromSorted_2_217 (by first | exact Or.inl ⟨_, rfl⟩ | exact Or.inr ⟨_, rfl⟩) (rv_r _) (⟨m1, n128, m3, _, rfl, rfl, he_196⟩)
theorem ct_bf2332 (g : Gv) (J : Jd g) {b : Nat} {bvs : Option Nat} {brt : Option Nat} {bn : Nat} {bmd : Nat} {bes : Option Nat} {bnk : Option Nat} {t : Nat} {vs : Option Nat} {n : Nat} {md : Nat} {es : Option Nat} {nk : Option Nat} {ns : List Nat} {key : Nat → Nat} {val : Nat → Nat} {l : Nat → Option Nat} {r : Nat → Option Nat} {p : Nat → Option Nat} {col : Nat → Bool} {lo : Nat → Nat} {hi : Nat → Nat} {root : Option Nat} {i : Nat} {la : Option Nat} {a1 : Nat} {w2 : va_W} (hw2 : EntG g ns key val l r p col w2) (hT : Tr ns key l r p lo hi root 128) (ha1 : a1 ∈ ns) : Ct g yJ10_buildFromSorted_2 (ws_ yJ10_buildFromSorted_2 cJ10_buildFromSorted_2 14 (some (.object "java/util/TreeMap$Entry"))) 5 1 6 [.ref b, .int (nI 2), .int (nI 3), .int (nI 3), .int (nI 2), .ref i, .null, .null] [[(b, .inr (27, [.null, va_rf bvs, .null, va_rf brt, .int (nI bn), .int (nI bmd), va_rf bes, va_rf bnk, .null]))], [(t, .inr (27, [.null, va_rf vs, .null, va_rf root, .int (nI n), .int (nI md), va_rf es, va_rf nk, .null]))], w2, [(i, .inr (34, [.ref a1, va_rf la, .int (nI md), .ref t]))]] (fun (rv_ : Option Value) (rL_ : List va_W) => ∃ (m1 : Nat) (e : Option Nat), rv_ = some (.ref m1) ∧ rL_ = [[(b, .inr (27, [.null, va_rf bvs, .null, va_rf brt, .int (nI bn), .int (nI bmd), va_rf bes, va_rf bnk, .null]))], [(t, .inr (27, [.null, va_rf vs, .null, va_rf root, .int (nI n), .int (nI md), va_rf es, va_rf nk, .null]))], w2, [(i, .inr (34, [va_rf e, .ref a1, .int (nI md), .ref t]))], [(m1, .inr (28, [.ref (kI g (key a1)), .ref (val a1), .null, .null, .null, .int (nI 0)]))]] ∧ (Lf ns key (key a1 + 1) e)) noX := by
  refine Ct.of "java/util/TreeMap" [some (.ref b), some (.int (nI 2)), some (.int (nI 3)), some (.int (nI 3)), some (.int (nI 2)), some (.ref i), some (.null), some (.null), none, none, none, none, none, none] rfl (by decide) rfl (Nat.le_of_ble_eq_true rfl) rfl ?_
  intro κ B E tb
  refine g_iload_n (q := 1) B dJ10_buildFromSorted_2_0 rfl rfl ?_
  refine g_iload_n (q := 2) B dJ10_buildFromSorted_2_1 rfl rfl ?_
  refine g_icmp_ge (tgt := 7) (q := 5) B dJ10_buildFromSorted_2_2 rfl (by decide) (iff_true_intro (by decide)) (fun _ => ?_) (fun z => absurd trivial z)
  refine g_iload_n (q := 8) B dJ10_buildFromSorted_2_7 rfl rfl ?_
  refine g_iload_n (q := 9) B dJ10_buildFromSorted_2_8 rfl rfl ?_
  refine g_iadd (v := nI 6) (q := 10) B dJ10_buildFromSorted_2_9 rfl (nI_add _ _) ?_
  refine g_iconst (v := nI 1) (q := 11) B dJ10_buildFromSorted_2_10 rfl (by decide) ?_
  refine g_iushr (v := nI 3) (q := 12) B dJ10_buildFromSorted_2_11 rfl (by decide) ?_
  refine g_istore (q := 14) (lv2 := [some (.ref b), some (.int (nI 2)), some (.int (nI 3)), some (.int (nI 3)), some (.int (nI 2)), some (.ref i), some (.null), some (.null), some (.int (nI 3)), none, none, none, none, none]) B dJ10_buildFromSorted_2_12 rfl (Nat.le_of_ble_eq_true rfl) rfl ?_
  refine g_aconst_null (q := 15) B dJ10_buildFromSorted_2_14 rfl ?_
  refine g_astore (q := 17) (lv2 := [some (.ref b), some (.int (nI 2)), some (.int (nI 3)), some (.int (nI 3)), some (.int (nI 2)), some (.ref i), some (.null), some (.null), some (.int (nI 3)), some (.null), none, none, none, none]) B dJ10_buildFromSorted_2_15 rfl (Nat.le_of_ble_eq_true rfl) rv_n rfl ?_
  refine g_iload_n (q := 18) B dJ10_buildFromSorted_2_17 rfl rfl ?_
  refine g_iload (q := 20) B dJ10_buildFromSorted_2_18 rfl rfl ?_
  refine g_icmp_ge (tgt := 45) (q := 23) B dJ10_buildFromSorted_2_20 rfl (by decide) (iff_true_intro (by decide)) (fun _ => ?_) (fun z => absurd trivial z)
  refine g_aload (q := 47) B dJ10_buildFromSorted_2_45 rfl rfl (rv_r _) ?_
  refine g_ifnull_r (q := 50) B dJ10_buildFromSorted_2_47 rfl ?_
  refine g_aload (q := 52) B dJ10_buildFromSorted_2_50 rfl rfl rv_n ?_
  refine g_ifnonnull_n (q := 55) B dJ10_buildFromSorted_2_52 rfl ?_
  refine g_aload (q := 57) B dJ10_buildFromSorted_2_55 rfl rfl (rv_r _) ?_
  refine g_callF (q := 62) (is := [1, 1, 1]) (kc2 := 1) (ks2 := 6) B [] (ct_J32_next g J (t := t) (vs := vs) (n := n) (md := md) (es := es) (nk := nk) (ns := ns) (key := key) (val := val) (l := l) (r := r) (p := p) (col := col) (lo := lo) (hi := hi) (root := root) (M := 128) (i := i) (a := a1) (la := la) hw2 (by first | assumption | omega | rfl) (by first | assumption | omega | rfl)) dJ10_buildFromSorted_2_57 rfl (ci := 34) rfl (rc_at B (ci := 34) rfl (k := 3) rfl) q2675 q1014 q1016 q117 q1018 q966 q965 q1017 q1015 q951 rfl rfl mojava_util_Iterator_next___Ljava_lang_Object_ rfl rfl (by decide) (by decide) (Nat.le_of_ble_eq_true rfl) (Nat.le_of_ble_eq_true rfl) (Nat.le_of_ble_eq_true rfl) (fun _ _ hx => noX_x hx) (fun v57 L1 hp57 => ?_)
  obtain ⟨e57, rfl, rfl, he_57⟩ := hp57
  refine (show Go g κ 62 [some (.ref b), some (.int (nI 2)), some (.int (nI 3)), some (.int (nI 3)), some (.int (nI 2)), some (.ref i), some (.null), some (.null), some (.int (nI 3)), some (.null), none, none, none, none] [.ref a1] [[(b, .inr (27, [.null, va_rf bvs, .null, va_rf brt, .int (nI bn), .int (nI bmd), va_rf bes, va_rf bnk, .null]))], [(t, .inr (27, [.null, va_rf vs, .null, va_rf root, .int (nI n), .int (nI md), va_rf es, va_rf nk, .null]))], w2, [(i, .inr (34, [va_rf e57, .ref a1, .int (nI md), .ref t]))]] 1 6 from ?_)
  refine g_castR (q := 65) B (rc_ent B (k := 2) rfl hw2 ha1) dJ10_buildFromSorted_2_62 rfl q2676 q2690 ?_
  refine g_astore (q := 67) (lv2 := [some (.ref b), some (.int (nI 2)), some (.int (nI 3)), some (.int (nI 3)), some (.int (nI 2)), some (.ref i), some (.null), some (.null), some (.int (nI 3)), some (.null), none, none, some (.ref a1), none]) B dJ10_buildFromSorted_2_65 rfl (Nat.le_of_ble_eq_true rfl) (rv_r _) rfl ?_
  refine g_aload (q := 69) B dJ10_buildFromSorted_2_67 rfl rfl (rv_r _) ?_
  refine g_callF (q := 74) (is := [2]) (kc2 := 1) (ks2 := 6) B [] (ct_J37_getKey g J (ns := ns) (key := key) (val := val) (l := l) (r := r) (p := p) (col := col) (a := a1) hw2 (by first | assumption | omega | rfl)) dJ10_buildFromSorted_2_69 rfl (ci := 28) rfl (rc_ent B (k := 2) rfl hw2 ha1) q2678 q2691 q2693 q128 q2695 q2680 q2679 q2694 q2692 q2690 rfl rfl mojava_util_Map_Entry_getKey___Ljava_lang_Object_ rfl rfl (by decide) (by decide) (Nat.le_of_ble_eq_true rfl) (Nat.le_of_ble_eq_true rfl) (Nat.le_of_ble_eq_true rfl) (fun _ _ hx => noX_x hx) (fun v69 L1 hp69 => ?_)
  obtain ⟨rfl, rfl⟩ := hp69
  refine (show Go g κ 74 [some (.ref b), some (.int (nI 2)), some (.int (nI 3)), some (.int (nI 3)), some (.int (nI 2)), some (.ref i), some (.null), some (.null), some (.int (nI 3)), some (.null), none, none, some (.ref a1), none] [.ref (kI g (key a1))] [[(b, .inr (27, [.null, va_rf bvs, .null, va_rf brt, .int (nI bn), .int (nI bmd), va_rf bes, va_rf bnk, .null]))], [(t, .inr (27, [.null, va_rf vs, .null, va_rf root, .int (nI n), .int (nI md), va_rf es, va_rf nk, .null]))], [(i, .inr (34, [va_rf e57, .ref a1, .int (nI md), .ref t]))], w2] 1 6 from ?_)
  refine g_astore (q := 76) (lv2 := [some (.ref b), some (.int (nI 2)), some (.int (nI 3)), some (.int (nI 3)), some (.int (nI 2)), some (.ref i), some (.null), some (.null), some (.int (nI 3)), some (.null), some (.ref (kI g (key a1))), none, some (.ref a1), none]) B dJ10_buildFromSorted_2_74 rfl (Nat.le_of_ble_eq_true rfl) (rv_r _) rfl ?_
  refine g_aload (q := 78) B dJ10_buildFromSorted_2_76 rfl rfl (rv_r _) ?_
  refine g_callF (q := 83) (is := [3]) (kc2 := 1) (ks2 := 6) B [] (ct_J37_getValue g J (ns := ns) (key := key) (val := val) (l := l) (r := r) (p := p) (col := col) (a := a1) hw2 (by first | assumption | omega | rfl)) dJ10_buildFromSorted_2_78 rfl (ci := 28) rfl (rc_ent B (k := 3) rfl hw2 ha1) q2697 q2707 q2709 q128 q2711 q2699 q2698 q2710 q2708 q2690 rfl rfl mojava_util_Map_Entry_getValue___Ljava_lang_Object_ rfl rfl (by decide) (by decide) (Nat.le_of_ble_eq_true rfl) (Nat.le_of_ble_eq_true rfl) (Nat.le_of_ble_eq_true rfl) (fun _ _ hx => noX_x hx) (fun v78 L1 hp78 => ?_)
  obtain ⟨rfl, rfl⟩ := hp78
  refine (show Go g κ 83 [some (.ref b), some (.int (nI 2)), some (.int (nI 3)), some (.int (nI 3)), some (.int (nI 2)), some (.ref i), some (.null), some (.null), some (.int (nI 3)), some (.null), some (.ref (kI g (key a1))), none, some (.ref a1), none] [.ref (val a1)] [[(b, .inr (27, [.null, va_rf bvs, .null, va_rf brt, .int (nI bn), .int (nI bmd), va_rf bes, va_rf bnk, .null]))], [(t, .inr (27, [.null, va_rf vs, .null, va_rf root, .int (nI n), .int (nI md), va_rf es, va_rf nk, .null]))], [(i, .inr (34, [va_rf e57, .ref a1, .int (nI md), .ref t]))], w2] 1 6 from ?_)
  refine g_astore (q := 85) (lv2 := [some (.ref b), some (.int (nI 2)), some (.int (nI 3)), some (.int (nI 3)), some (.int (nI 2)), some (.ref i), some (.null), some (.null), some (.int (nI 3)), some (.null), some (.ref (kI g (key a1))), some (.ref (val a1)), some (.ref a1), none]) B dJ10_buildFromSorted_2_83 rfl (Nat.le_of_ble_eq_true rfl) (rv_r _) rfl ?_
  refine g_goto (tgt := 128) B dJ10_buildFromSorted_2_85 (by decide) ?_
  refine g_new (q := 131) (kc2 := 0) (ks2 := 0) (fs := [.null, .null, .null, .null, .null, .int (nI 0)]) B (ci := 28) in_J37 tyJ37_ok rfl dJ10_buildFromSorted_2_128 rfl q2100 q2101 q128 (nwJ37) (Nat.le_of_ble_eq_true rfl) (Nat.le_of_ble_eq_true rfl) (fun n128 => ?_)
  refine (show Go g κ 131 [some (.ref b), some (.int (nI 2)), some (.int (nI 3)), some (.int (nI 3)), some (.int (nI 2)), some (.ref i), some (.null), some (.null), some (.int (nI 3)), some (.null), some (.ref (kI g (key a1))), some (.ref (val a1)), some (.ref a1), none] [.ref n128] [[(b, .inr (27, [.null, va_rf bvs, .null, va_rf brt, .int (nI bn), .int (nI bmd), va_rf bes, va_rf bnk, .null]))], [(t, .inr (27, [.null, va_rf vs, .null, va_rf root, .int (nI n), .int (nI md), va_rf es, va_rf nk, .null]))], [(i, .inr (34, [va_rf e57, .ref a1, .int (nI md), .ref t]))], w2, [(n128, .inr (28, [.null, .null, .null, .null, .null, .int (nI 0)]))]] 0 0 from ?_)
  refine g_dup (q := 132) B dJ10_buildFromSorted_2_131 rfl rfl ?_
  refine g_aload (q := 134) B dJ10_buildFromSorted_2_132 rfl rfl (rv_r _) ?_
  refine g_aload (q := 136) B dJ10_buildFromSorted_2_134 rfl rfl (rv_r _) ?_
  refine g_aconst_null (q := 137) B dJ10_buildFromSorted_2_136 rfl ?_
  refine g_callI (q := 140) (is := [4]) (kc2 := 0) (ks2 := 0) B [.ref (kI g (key a1)), .ref (val a1), .null] (ct_J37_init g J (e := n128) (kr := (kI g (key a1))) (v := (val a1)) (q := none)  ) dJ10_buildFromSorted_2_137 rfl rfl q2102 q2103 q128 q2104 rfl rfl moJ37_init rfl rfl (by decide) (by decide) (Nat.le_of_ble_eq_true rfl) (Nat.le_of_ble_eq_true rfl) (Nat.le_of_ble_eq_true rfl) (fun _ _ hx => noX_x hx) (fun v137 L1 hp137 => ?_)
  obtain ⟨rfl, rfl⟩ := hp137
  refine (show Go g κ 140 [some (.ref b), some (.int (nI 2)), some (.int (nI 3)), some (.int (nI 3)), some (.int (nI 2)), some (.ref i), some (.null), some (.null), some (.int (nI 3)), some (.null), some (.ref (kI g (key a1))), some (.ref (val a1)), some (.ref a1), none] [.ref n128] [[(b, .inr (27, [.null, va_rf bvs, .null, va_rf brt, .int (nI bn), .int (nI bmd), va_rf bes, va_rf bnk, .null]))], [(t, .inr (27, [.null, va_rf vs, .null, va_rf root, .int (nI n), .int (nI md), va_rf es, va_rf nk, .null]))], [(i, .inr (34, [va_rf e57, .ref a1, .int (nI md), .ref t]))], w2, [(n128, .inr (28, [.ref (kI g (key a1)), .ref (val a1), .null, .null, .null, .int (nI 1)]))]] 0 0 from ?_)
  refine g_astore (q := 142) (lv2 := [some (.ref b), some (.int (nI 2)), some (.int (nI 3)), some (.int (nI 3)), some (.int (nI 2)), some (.ref i), some (.null), some (.null), some (.int (nI 3)), some (.null), some (.ref (kI g (key a1))), some (.ref (val a1)), some (.ref n128), none]) B dJ10_buildFromSorted_2_140 rfl (Nat.le_of_ble_eq_true rfl) (rv_r _) rfl ?_
  refine g_iload_n (q := 143) B dJ10_buildFromSorted_2_142 rfl rfl ?_
  refine g_iload (q := 145) B dJ10_buildFromSorted_2_143 rfl rfl ?_
  refine g_icmp_ne (tgt := 154) (q := 148) B dJ10_buildFromSorted_2_145 rfl (by decide) (iff_false_intro (by decide)) (fun z => z.elim) (fun _ => ?_)
  refine g_aload (q := 150) B dJ10_buildFromSorted_2_148 rfl rfl (rv_r _) ?_
  refine g_iconst (v := nI 0) (q := 151) B dJ10_buildFromSorted_2_150 rfl (by decide) ?_
  refine g_put (q := 154) (L2 := [[(b, .inr (27, [.null, va_rf bvs, .null, va_rf brt, .int (nI bn), .int (nI bmd), va_rf bes, va_rf bnk, .null]))], [(t, .inr (27, [.null, va_rf vs, .null, va_rf root, .int (nI n), .int (nI md), va_rf es, va_rf nk, .null]))], [(i, .inr (34, [va_rf e57, .ref a1, .int (nI md), .ref t]))], w2, [(n128, .inr (28, [.ref (kI g (key a1)), .ref (val a1), .null, .null, .null, .int (nI 0)]))]]) B (ci := 28) (k := 4) (j := 5) in_J37 tyJ37 tyJ37_ok nmJ37 rfl dJ10_buildFromSorted_2_151 rfl rfl (Nat.le_of_ble_eq_true rfl) q2119 rfl rfl rfl rfl (Nat.le_of_ble_eq_true rfl) rfl ?_
  refine g_aload (q := 156) B dJ10_buildFromSorted_2_154 rfl rfl rv_n ?_
  refine g_ifnull_n (tgt := 173) B dJ10_buildFromSorted_2_156 (by decide) ?_
  refine g_iload (q := 175) B dJ10_buildFromSorted_2_173 rfl rfl ?_
  refine g_iload_n (q := 176) B dJ10_buildFromSorted_2_175 rfl rfl ?_
  refine g_icmp_ge (tgt := 215) (q := 179) B dJ10_buildFromSorted_2_176 rfl (by decide) (iff_true_intro (by decide)) (fun _ => ?_) (fun z => absurd trivial z)
  refine g_aload (q := 217) B dJ10_buildFromSorted_2_215 rfl rfl (rv_r _) ?_
  refine g_pk [0, 0, 1, 0, 0] rfl rfl ?_
  refine (show Go g κ 217 [some (.ref b), some (.int (nI 2)), some (.int (nI 3)), some (.int (nI 3)), some (.int (nI 2)), some (.ref i), some (.null), some (.null), some (.int (nI 3)), some (.null), some (.ref (kI g (key a1))), some (.ref (val a1)), some (.ref n128), none] [.ref n128] [[(b, .inr (27, [.null, va_rf bvs, .null, va_rf brt, .int (nI bn), .int (nI bmd), va_rf bes, va_rf bnk, .null]))], [(t, .inr (27, [.null, va_rf vs, .null, va_rf root, .int (nI n), .int (nI md), va_rf es, va_rf nk, .null]))], w2, [(i, .inr (34, [va_rf e57, .ref a1, .int (nI md), .ref t]))], [(n128, .inr (28, [.ref (kI g (key a1)), .ref (val a1), .null, .null, .null, .int (nI 0)]))]] 0 0 from ?_)
  exact g_aret B E dJ10_buildFromSorted_2_217 (by first | exact Or.inl ⟨_, rfl⟩ | exact Or.inr ⟨_, rfl⟩) (rv_r _) (⟨n128, _, rfl, rfl, he_57⟩)
theorem ct_bf1232 (g : Gv) (J : Jd g) {b : Nat} {bvs : Option Nat} {brt : Option Nat} {bn : Nat} {bmd : Nat} {bes : Option Nat} {bnk : Option Nat} {t : Nat} {vs : Option Nat} {n : Nat} {md : Nat} {es : Option Nat} {nk : Option Nat} {ns : List Nat} {key : Nat → Nat} {val : Nat → Nat} {l : Nat → Option Nat} {r : Nat → Option Nat} {p : Nat → Option Nat} {col : Nat → Bool} {lo : Nat → Nat} {hi : Nat → Nat} {root : Option Nat} {i : Nat} {la : Option Nat} {a1 : Nat} {a2 : Nat} {w2 : va_W} (hw2 : EntG g ns key val l r p col w2) (hT : Tr ns key l r p lo hi root 128) (ha1 : a1 ∈ ns) (hc1 : Lf ns key (key a1 + 1) (some a2)) : Ct g yJ10_buildFromSorted_2 (ws_ yJ10_buildFromSorted_2 cJ10_buildFromSorted_2 14 (some (.object "java/util/TreeMap$Entry"))) 6 2 12 [.ref b, .int (nI 1), .int (nI 2), .int (nI 3), .int (nI 2), .ref i, .null, .null] [[(b, .inr (27, [.null, va_rf bvs, .null, va_rf brt, .int (nI bn), .int (nI bmd), va_rf bes, va_rf bnk, .null]))], [(t, .inr (27, [.null, va_rf vs, .null, va_rf root, .int (nI n), .int (nI md), va_rf es, va_rf nk, .null]))], w2, [(i, .inr (34, [.ref a1, va_rf la, .int (nI md), .ref t]))]] (fun (rv_ : Option Value) (rL_ : List va_W) => ∃ (m1 : Nat) (m2 : Nat) (e : Option Nat), rv_ = some (.ref m1) ∧ rL_ = [[(b, .inr (27, [.null, va_rf bvs, .null, va_rf brt, .int (nI bn), .int (nI bmd), va_rf bes, va_rf bnk, .null]))], [(t, .inr (27, [.null, va_rf vs, .null, va_rf root, .int (nI n), .int (nI md), va_rf es, va_rf nk, .null]))], w2, [(i, .inr (34, [va_rf e, .ref a2, .int (nI md), .ref t]))], [(m1, .inr (28, [.ref (kI g (key a1)), .ref (val a1), .null, .ref m2, .null, .int (nI 1)]))], [(m2, .inr (28, [.ref (kI g (key a2)), .ref (val a2), .null, .null, .ref m1, .int (nI 0)]))]] ∧ (Lf ns key (key a2 + 1) e)) noX := by
  refine Ct.of "java/util/TreeMap" [some (.ref b), some (.int (nI 1)), some (.int (nI 2)), some (.int (nI 3)), some (.int (nI 2)), some (.ref i), some (.null), some (.null), none, none, none, none, none, none] rfl (by decide) rfl (Nat.le_of_ble_eq_true rfl) rfl ?_
  intro κ B E tb
  have ha2 := (hc1.1 a2 rfl).1
  refine g_iload_n (q := 1) B dJ10_buildFromSorted_2_0 rfl rfl ?_
  refine g_iload_n (q := 2) B dJ10_buildFromSorted_2_1 rfl rfl ?_
  refine g_icmp_ge (tgt := 7) (q := 5) B dJ10_buildFromSorted_2_2 rfl (by decide) (iff_true_intro (by decide)) (fun _ => ?_) (fun z => absurd trivial z)
  refine g_iload_n (q := 8) B dJ10_buildFromSorted_2_7 rfl rfl ?_
  refine g_iload_n (q := 9) B dJ10_buildFromSorted_2_8 rfl rfl ?_
  refine g_iadd (v := nI 5) (q := 10) B dJ10_buildFromSorted_2_9 rfl (nI_add _ _) ?_
  refine g_iconst (v := nI 1) (q := 11) B dJ10_buildFromSorted_2_10 rfl (by decide) ?_
  refine g_iushr (v := nI 2) (q := 12) B dJ10_buildFromSorted_2_11 rfl (by decide) ?_
  refine g_istore (q := 14) (lv2 := [some (.ref b), some (.int (nI 1)), some (.int (nI 2)), some (.int (nI 3)), some (.int (nI 2)), some (.ref i), some (.null), some (.null), some (.int (nI 2)), none, none, none, none, none]) B dJ10_buildFromSorted_2_12 rfl (Nat.le_of_ble_eq_true rfl) rfl ?_
  refine g_aconst_null (q := 15) B dJ10_buildFromSorted_2_14 rfl ?_
  refine g_astore (q := 17) (lv2 := [some (.ref b), some (.int (nI 1)), some (.int (nI 2)), some (.int (nI 3)), some (.int (nI 2)), some (.ref i), some (.null), some (.null), some (.int (nI 2)), some (.null), none, none, none, none]) B dJ10_buildFromSorted_2_15 rfl (Nat.le_of_ble_eq_true rfl) rv_n rfl ?_
  refine g_iload_n (q := 18) B dJ10_buildFromSorted_2_17 rfl rfl ?_
  refine g_iload (q := 20) B dJ10_buildFromSorted_2_18 rfl rfl ?_
  refine g_icmp_ge (tgt := 45) (q := 23) B dJ10_buildFromSorted_2_20 rfl (by decide) (iff_true_intro (by decide)) (fun _ => ?_) (fun z => absurd trivial z)
  refine g_aload (q := 47) B dJ10_buildFromSorted_2_45 rfl rfl (rv_r _) ?_
  refine g_ifnull_r (q := 50) B dJ10_buildFromSorted_2_47 rfl ?_
  refine g_aload (q := 52) B dJ10_buildFromSorted_2_50 rfl rfl rv_n ?_
  refine g_ifnonnull_n (q := 55) B dJ10_buildFromSorted_2_52 rfl ?_
  refine g_aload (q := 57) B dJ10_buildFromSorted_2_55 rfl rfl (rv_r _) ?_
  refine g_callF (q := 62) (is := [1, 1, 1]) (kc2 := 2) (ks2 := 12) B [] (ct_J32_next g J (t := t) (vs := vs) (n := n) (md := md) (es := es) (nk := nk) (ns := ns) (key := key) (val := val) (l := l) (r := r) (p := p) (col := col) (lo := lo) (hi := hi) (root := root) (M := 128) (i := i) (a := a1) (la := la) hw2 (by first | assumption | omega | rfl) (by first | assumption | omega | rfl)) dJ10_buildFromSorted_2_57 rfl (ci := 34) rfl (rc_at B (ci := 34) rfl (k := 3) rfl) q2675 q1014 q1016 q117 q1018 q966 q965 q1017 q1015 q951 rfl rfl mojava_util_Iterator_next___Ljava_lang_Object_ rfl rfl (by decide) (by decide) (Nat.le_of_ble_eq_true rfl) (Nat.le_of_ble_eq_true rfl) (Nat.le_of_ble_eq_true rfl) (fun _ _ hx => noX_x hx) (fun v57 L1 hp57 => ?_)
  obtain ⟨e57, rfl, rfl, he_57⟩ := hp57
  refine (show Go g κ 62 [some (.ref b), some (.int (nI 1)), some (.int (nI 2)), some (.int (nI 3)), some (.int (nI 2)), some (.ref i), some (.null), some (.null), some (.int (nI 2)), some (.null), none, none, none, none] [.ref a1] [[(b, .inr (27, [.null, va_rf bvs, .null, va_rf brt, .int (nI bn), .int (nI bmd), va_rf bes, va_rf bnk, .null]))], [(t, .inr (27, [.null, va_rf vs, .null, va_rf root, .int (nI n), .int (nI md), va_rf es, va_rf nk, .null]))], w2, [(i, .inr (34, [va_rf e57, .ref a1, .int (nI md), .ref t]))]] 2 12 from ?_)
  have hq2 : e57 = some a2 := lf_uq hT.1 he_57 hc1
  subst hq2
  refine (show Go g κ 62 [some (.ref b), some (.int (nI 1)), some (.int (nI 2)), some (.int (nI 3)), some (.int (nI 2)), some (.ref i), some (.null), some (.null), some (.int (nI 2)), some (.null), none, none, none, none] [.ref a1] [[(b, .inr (27, [.null, va_rf bvs, .null, va_rf brt, .int (nI bn), .int (nI bmd), va_rf bes, va_rf bnk, .null]))], [(t, .inr (27, [.null, va_rf vs, .null, va_rf root, .int (nI n), .int (nI md), va_rf es, va_rf nk, .null]))], w2, [(i, .inr (34, [.ref a2, .ref a1, .int (nI md), .ref t]))]] 2 12 from ?_)
  refine g_castR (q := 65) B (rc_ent B (k := 2) rfl hw2 ha1) dJ10_buildFromSorted_2_62 rfl q2676 q2690 ?_
  refine g_astore (q := 67) (lv2 := [some (.ref b), some (.int (nI 1)), some (.int (nI 2)), some (.int (nI 3)), some (.int (nI 2)), some (.ref i), some (.null), some (.null), some (.int (nI 2)), some (.null), none, none, some (.ref a1), none]) B dJ10_buildFromSorted_2_65 rfl (Nat.le_of_ble_eq_true rfl) (rv_r _) rfl ?_
  refine g_aload (q := 69) B dJ10_buildFromSorted_2_67 rfl rfl (rv_r _) ?_
  refine g_callF (q := 74) (is := [2]) (kc2 := 2) (ks2 := 12) B [] (ct_J37_getKey g J (ns := ns) (key := key) (val := val) (l := l) (r := r) (p := p) (col := col) (a := a1) hw2 (by first | assumption | omega | rfl)) dJ10_buildFromSorted_2_69 rfl (ci := 28) rfl (rc_ent B (k := 2) rfl hw2 ha1) q2678 q2691 q2693 q128 q2695 q2680 q2679 q2694 q2692 q2690 rfl rfl mojava_util_Map_Entry_getKey___Ljava_lang_Object_ rfl rfl (by decide) (by decide) (Nat.le_of_ble_eq_true rfl) (Nat.le_of_ble_eq_true rfl) (Nat.le_of_ble_eq_true rfl) (fun _ _ hx => noX_x hx) (fun v69 L1 hp69 => ?_)
  obtain ⟨rfl, rfl⟩ := hp69
  refine (show Go g κ 74 [some (.ref b), some (.int (nI 1)), some (.int (nI 2)), some (.int (nI 3)), some (.int (nI 2)), some (.ref i), some (.null), some (.null), some (.int (nI 2)), some (.null), none, none, some (.ref a1), none] [.ref (kI g (key a1))] [[(b, .inr (27, [.null, va_rf bvs, .null, va_rf brt, .int (nI bn), .int (nI bmd), va_rf bes, va_rf bnk, .null]))], [(t, .inr (27, [.null, va_rf vs, .null, va_rf root, .int (nI n), .int (nI md), va_rf es, va_rf nk, .null]))], [(i, .inr (34, [.ref a2, .ref a1, .int (nI md), .ref t]))], w2] 2 12 from ?_)
  refine g_astore (q := 76) (lv2 := [some (.ref b), some (.int (nI 1)), some (.int (nI 2)), some (.int (nI 3)), some (.int (nI 2)), some (.ref i), some (.null), some (.null), some (.int (nI 2)), some (.null), some (.ref (kI g (key a1))), none, some (.ref a1), none]) B dJ10_buildFromSorted_2_74 rfl (Nat.le_of_ble_eq_true rfl) (rv_r _) rfl ?_
  refine g_aload (q := 78) B dJ10_buildFromSorted_2_76 rfl rfl (rv_r _) ?_
  refine g_callF (q := 83) (is := [3]) (kc2 := 2) (ks2 := 12) B [] (ct_J37_getValue g J (ns := ns) (key := key) (val := val) (l := l) (r := r) (p := p) (col := col) (a := a1) hw2 (by first | assumption | omega | rfl)) dJ10_buildFromSorted_2_78 rfl (ci := 28) rfl (rc_ent B (k := 3) rfl hw2 ha1) q2697 q2707 q2709 q128 q2711 q2699 q2698 q2710 q2708 q2690 rfl rfl mojava_util_Map_Entry_getValue___Ljava_lang_Object_ rfl rfl (by decide) (by decide) (Nat.le_of_ble_eq_true rfl) (Nat.le_of_ble_eq_true rfl) (Nat.le_of_ble_eq_true rfl) (fun _ _ hx => noX_x hx) (fun v78 L1 hp78 => ?_)
  obtain ⟨rfl, rfl⟩ := hp78
  refine (show Go g κ 83 [some (.ref b), some (.int (nI 1)), some (.int (nI 2)), some (.int (nI 3)), some (.int (nI 2)), some (.ref i), some (.null), some (.null), some (.int (nI 2)), some (.null), some (.ref (kI g (key a1))), none, some (.ref a1), none] [.ref (val a1)] [[(b, .inr (27, [.null, va_rf bvs, .null, va_rf brt, .int (nI bn), .int (nI bmd), va_rf bes, va_rf bnk, .null]))], [(t, .inr (27, [.null, va_rf vs, .null, va_rf root, .int (nI n), .int (nI md), va_rf es, va_rf nk, .null]))], [(i, .inr (34, [.ref a2, .ref a1, .int (nI md), .ref t]))], w2] 2 12 from ?_)
  refine g_astore (q := 85) (lv2 := [some (.ref b), some (.int (nI 1)), some (.int (nI 2)), some (.int (nI 3)), some (.int (nI 2)), some (.ref i), some (.null), some (.null), some (.int (nI 2)), some (.null), some (.ref (kI g (key a1))), some (.ref (val a1)), some (.ref a1), none]) B dJ10_buildFromSorted_2_83 rfl (Nat.le_of_ble_eq_true rfl) (rv_r _) rfl ?_
  refine g_goto (tgt := 128) B dJ10_buildFromSorted_2_85 (by decide) ?_
  refine g_new (q := 131) (kc2 := 1) (ks2 := 6) (fs := [.null, .null, .null, .null, .null, .int (nI 0)]) B (ci := 28) in_J37 tyJ37_ok rfl dJ10_buildFromSorted_2_128 rfl q2100 q2101 q128 (nwJ37) (Nat.le_of_ble_eq_true rfl) (Nat.le_of_ble_eq_true rfl) (fun n128 => ?_)
  refine (show Go g κ 131 [some (.ref b), some (.int (nI 1)), some (.int (nI 2)), some (.int (nI 3)), some (.int (nI 2)), some (.ref i), some (.null), some (.null), some (.int (nI 2)), some (.null), some (.ref (kI g (key a1))), some (.ref (val a1)), some (.ref a1), none] [.ref n128] [[(b, .inr (27, [.null, va_rf bvs, .null, va_rf brt, .int (nI bn), .int (nI bmd), va_rf bes, va_rf bnk, .null]))], [(t, .inr (27, [.null, va_rf vs, .null, va_rf root, .int (nI n), .int (nI md), va_rf es, va_rf nk, .null]))], [(i, .inr (34, [.ref a2, .ref a1, .int (nI md), .ref t]))], w2, [(n128, .inr (28, [.null, .null, .null, .null, .null, .int (nI 0)]))]] 1 6 from ?_)
  refine g_dup (q := 132) B dJ10_buildFromSorted_2_131 rfl rfl ?_
  refine g_aload (q := 134) B dJ10_buildFromSorted_2_132 rfl rfl (rv_r _) ?_
  refine g_aload (q := 136) B dJ10_buildFromSorted_2_134 rfl rfl (rv_r _) ?_
  refine g_aconst_null (q := 137) B dJ10_buildFromSorted_2_136 rfl ?_
  refine g_callI (q := 140) (is := [4]) (kc2 := 1) (ks2 := 6) B [.ref (kI g (key a1)), .ref (val a1), .null] (ct_J37_init g J (e := n128) (kr := (kI g (key a1))) (v := (val a1)) (q := none)  ) dJ10_buildFromSorted_2_137 rfl rfl q2102 q2103 q128 q2104 rfl rfl moJ37_init rfl rfl (by decide) (by decide) (Nat.le_of_ble_eq_true rfl) (Nat.le_of_ble_eq_true rfl) (Nat.le_of_ble_eq_true rfl) (fun _ _ hx => noX_x hx) (fun v137 L1 hp137 => ?_)
  obtain ⟨rfl, rfl⟩ := hp137
  refine (show Go g κ 140 [some (.ref b), some (.int (nI 1)), some (.int (nI 2)), some (.int (nI 3)), some (.int (nI 2)), some (.ref i), some (.null), some (.null), some (.int (nI 2)), some (.null), some (.ref (kI g (key a1))), some (.ref (val a1)), some (.ref a1), none] [.ref n128] [[(b, .inr (27, [.null, va_rf bvs, .null, va_rf brt, .int (nI bn), .int (nI bmd), va_rf bes, va_rf bnk, .null]))], [(t, .inr (27, [.null, va_rf vs, .null, va_rf root, .int (nI n), .int (nI md), va_rf es, va_rf nk, .null]))], [(i, .inr (34, [.ref a2, .ref a1, .int (nI md), .ref t]))], w2, [(n128, .inr (28, [.ref (kI g (key a1)), .ref (val a1), .null, .null, .null, .int (nI 1)]))]] 1 6 from ?_)
  refine g_astore (q := 142) (lv2 := [some (.ref b), some (.int (nI 1)), some (.int (nI 2)), some (.int (nI 3)), some (.int (nI 2)), some (.ref i), some (.null), some (.null), some (.int (nI 2)), some (.null), some (.ref (kI g (key a1))), some (.ref (val a1)), some (.ref n128), none]) B dJ10_buildFromSorted_2_140 rfl (Nat.le_of_ble_eq_true rfl) (rv_r _) rfl ?_
  refine g_iload_n (q := 143) B dJ10_buildFromSorted_2_142 rfl rfl ?_
  refine g_iload (q := 145) B dJ10_buildFromSorted_2_143 rfl rfl ?_
  refine g_icmp_ne (tgt := 154) (q := 148) B dJ10_buildFromSorted_2_145 rfl (by decide) (iff_true_intro (by decide)) (fun _ => ?_) (fun z => absurd trivial z)
  refine g_aload (q := 156) B dJ10_buildFromSorted_2_154 rfl rfl rv_n ?_
  refine g_ifnull_n (tgt := 173) B dJ10_buildFromSorted_2_156 (by decide) ?_
  refine g_iload (q := 175) B dJ10_buildFromSorted_2_173 rfl rfl ?_
  refine g_iload_n (q := 176) B dJ10_buildFromSorted_2_175 rfl rfl ?_
  refine g_icmp_ge (tgt := 215) (q := 179) B dJ10_buildFromSorted_2_176 rfl (by decide) (iff_false_intro (by decide)) (fun z => z.elim) (fun _ => ?_)
  refine g_aload_n (q := 180) B dJ10_buildFromSorted_2_179 rfl rfl (rv_r _) ?_
  refine g_iload_n (q := 181) B dJ10_buildFromSorted_2_180 rfl rfl ?_
  refine g_iconst (v := nI 1) (q := 182) B dJ10_buildFromSorted_2_181 rfl (by decide) ?_
  refine g_iadd (v := nI 2) (q := 183) B dJ10_buildFromSorted_2_182 rfl (nI_add _ _) ?_
  refine g_iload (q := 185) B dJ10_buildFromSorted_2_183 rfl rfl ?_
  refine g_iconst (v := nI 1) (q := 186) B dJ10_buildFromSorted_2_185 rfl (by decide) ?_
  refine g_iadd (v := nI 3) (q := 187) B dJ10_buildFromSorted_2_186 rfl (nI_add _ _) ?_
  refine g_iload_n (q := 188) B dJ10_buildFromSorted_2_187 rfl rfl ?_
  refine g_iload (q := 190) B dJ10_buildFromSorted_2_188 rfl rfl ?_
  refine g_aload (q := 192) B dJ10_buildFromSorted_2_190 rfl rfl (rv_r _) ?_
  refine g_aload (q := 194) B dJ10_buildFromSorted_2_192 rfl rfl rv_n ?_
  refine g_aload (q := 196) B dJ10_buildFromSorted_2_194 rfl rfl rv_n ?_
  refine g_callV (q := 199) (is := [0, 0, 1, 0]) (kc2 := 0) (ks2 := 0) B [.int (nI 2), .int (nI 3), .int (nI 3), .int (nI 2), .ref i, .null, .null] (ct_bf2332 g J (b := b) (bvs := bvs) (brt := brt) (bn := bn) (bmd := bmd) (bes := bes) (bnk := bnk) (t := t) (vs := vs) (n := n) (md := md) (es := es) (nk := nk) (ns := ns) (key := key) (val := val) (l := l) (r := r) (p := p) (col := col) (lo := lo) (hi := hi) (root := root) (i := i) (la := some a1) (a1 := a2) hw2 (by first | assumption | omega | rfl) (ha2)) dJ10_buildFromSorted_2_196 rfl (rc_at B (ci := 27) rfl (k := 0) rfl) rfl q2670 q2672 qs41 q91 q2673 rfl rfl moJ10_buildFromSorted_2 rfl rfl (by decide) (by decide) (Nat.le_of_ble_eq_true rfl) (Nat.le_of_ble_eq_true rfl) (Nat.le_of_ble_eq_true rfl) (fun _ _ hx => noX_x hx) (fun v196 L1 hp196 => ?_)
  obtain ⟨m2, e196, rfl, rfl, he_196⟩ := hp196
  refine (show Go g κ 199 [some (.ref b), some (.int (nI 1)), some (.int (nI 2)), some (.int (nI 3)), some (.int (nI 2)), some (.ref i), some (.null), some (.null), some (.int (nI 2)), some (.null), some (.ref (kI g (key a1))), some (.ref (val a1)), some (.ref n128), none] [.ref m2] [[(n128, .inr (28, [.ref (kI g (key a1)), .ref (val a1), .null, .null, .null, .int (nI 1)]))], [(b, .inr (27, [.null, va_rf bvs, .null, va_rf brt, .int (nI bn), .int (nI bmd), va_rf bes, va_rf bnk, .null]))], [(t, .inr (27, [.null, va_rf vs, .null, va_rf root, .int (nI n), .int (nI md), va_rf es, va_rf nk, .null]))], w2, [(i, .inr (34, [va_rf e196, .ref a2, .int (nI md), .ref t]))], [(m2, .inr (28, [.ref (kI g (key a2)), .ref (val a2), .null, .null, .null, .int (nI 0)]))]] 0 0 from ?_)
  refine g_astore (q := 201) (lv2 := [some (.ref b), some (.int (nI 1)), some (.int (nI 2)), some (.int (nI 3)), some (.int (nI 2)), some (.ref i), some (.null), some (.null), some (.int (nI 2)), some (.null), some (.ref (kI g (key a1))), some (.ref (val a1)), some (.ref n128), some (.ref m2)]) B dJ10_buildFromSorted_2_199 rfl (Nat.le_of_ble_eq_true rfl) (rv_r _) rfl ?_
  refine g_aload (q := 203) B dJ10_buildFromSorted_2_201 rfl rfl (rv_r _) ?_
  refine g_aload (q := 205) B dJ10_buildFromSorted_2_203 rfl rfl (rv_r _) ?_
  refine g_put (q := 208) (L2 := [[(n128, .inr (28, [.ref (kI g (key a1)), .ref (val a1), .null, .ref m2, .null, .int (nI 1)]))], [(b, .inr (27, [.null, va_rf bvs, .null, va_rf brt, .int (nI bn), .int (nI bmd), va_rf bes, va_rf bnk, .null]))], [(t, .inr (27, [.null, va_rf vs, .null, va_rf root, .int (nI n), .int (nI md), va_rf es, va_rf nk, .null]))], w2, [(i, .inr (34, [va_rf e196, .ref a2, .int (nI md), .ref t]))], [(m2, .inr (28, [.ref (kI g (key a2)), .ref (val a2), .null, .null, .null, .int (nI 0)]))]]) B (ci := 28) (k := 0) (j := 3) in_J37 tyJ37 tyJ37_ok nmJ37 rfl dJ10_buildFromSorted_2_205 rfl rfl (Nat.le_of_ble_eq_true rfl) q2115 rfl rfl rfl rfl (Nat.le_of_ble_eq_true rfl) rfl ?_
  refine g_aload (q := 210) B dJ10_buildFromSorted_2_208 rfl rfl (rv_r _) ?_
  refine g_aload (q := 212) B dJ10_buildFromSorted_2_210 rfl rfl (rv_r _) ?_
  refine g_put (q := 215) (L2 := [[(n128, .inr (28, [.ref (kI g (key a1)), .ref (val a1), .null, .ref m2, .null, .int (nI 1)]))], [(b, .inr (27, [.null, va_rf bvs, .null, va_rf brt, .int (nI bn), .int (nI bmd), va_rf bes, va_rf bnk, .null]))], [(t, .inr (27, [.null, va_rf vs, .null, va_rf root, .int (nI n), .int (nI md), va_rf es, va_rf nk, .null]))], w2, [(i, .inr (34, [va_rf e196, .ref a2, .int (nI md), .ref t]))], [(m2, .inr (28, [.ref (kI g (key a2)), .ref (val a2), .null, .null, .ref n128, .int (nI 0)]))]]) B (ci := 28) (k := 5) (j := 4) in_J37 tyJ37 tyJ37_ok nmJ37 rfl dJ10_buildFromSorted_2_212 rfl rfl (Nat.le_of_ble_eq_true rfl) q2117 rfl rfl rfl rfl (Nat.le_of_ble_eq_true rfl) rfl ?_
  refine g_aload (q := 217) B dJ10_buildFromSorted_2_215 rfl rfl (rv_r _) ?_
  refine g_pk [1, 1, 1, 1, 0, 0] rfl rfl ?_
  refine (show Go g κ 217 [some (.ref b), some (.int (nI 1)), some (.int (nI 2)), some (.int (nI 3)), some (.int (nI 2)), some (.ref i), some (.null), some (.null), some (.int (nI 2)), some (.null), some (.ref (kI g (key a1))), some (.ref (val a1)), some (.ref n128), some (.ref m2)] [.ref n128] [[(b, .inr (27, [.null, va_rf bvs, .null, va_rf brt, .int (nI bn), .int (nI bmd), va_rf bes, va_rf bnk, .null]))], [(t, .inr (27, [.null, va_rf vs, .null, va_rf root, .int (nI n), .int (nI md), va_rf es, va_rf nk, .null]))], w2, [(i, .inr (34, [va_rf e196, .ref a2, .int (nI md), .ref t]))], [(n128, .inr (28, [.ref (kI g (key a1)), .ref (val a1), .null, .ref m2, .null, .int (nI 1)]))], [(m2, .inr (28, [.ref (kI g (key a2)), .ref (val a2), .null, .null, .ref n128, .int (nI 0)]))]] 0 0 from ?_)
  exact g_aret B E dJ10_buildFromSorted_2_217 (by first | exact Or.inl ⟨_, rfl⟩ | exact Or.inr ⟨_, rfl⟩) (rv_r _) (⟨n128, m2, _, rfl, rfl, he_196⟩)
theorem ct_bf0032 (g : Gv) (J : Jd g) {b : Nat} {bvs : Option Nat} {brt : Option Nat} {bn : Nat} {bmd : Nat} {bes : Option Nat} {bnk : Option Nat} {t : Nat} {vs : Option Nat} {n : Nat} {md : Nat} {es : Option Nat} {nk : Option Nat} {ns : List Nat} {key : Nat → Nat} {val : Nat → Nat} {l : Nat → Option Nat} {r : Nat → Option Nat} {p : Nat → Option Nat} {col : Nat → Bool} {lo : Nat → Nat} {hi : Nat → Nat} {root : Option Nat} {i : Nat} {la : Option Nat} {a1 : Nat} {a2 : Nat} {a3 : Nat} {a4 : Nat} {w2 : va_W} (hw2 : EntG g ns key val l r p col w2) (hT : Tr ns key l r p lo hi root 128) (ha1 : a1 ∈ ns) (hc1 : Lf ns key (key a1 + 1) (some a2)) (hc2 : Lf ns key (key a2 + 1) (some a3)) (hc3 : Lf ns key (key a3 + 1) (some a4)) : Ct g yJ10_buildFromSorted_2 (ws_ yJ10_buildFromSorted_2 cJ10_buildFromSorted_2 14 (some (.object "java/util/TreeMap$Entry"))) 8 4 24 [.ref b, .int (nI 0), .int (nI 0), .int (nI 3), .int (nI 2), .ref i, .null, .null] [[(b, .inr (27, [.null, va_rf bvs, .null, va_rf brt, .int (nI bn), .int (nI bmd), va_rf bes, va_rf bnk, .null]))], [(t, .inr (27, [.null, va_rf vs, .null, va_rf root, .int (nI n), .int (nI md), va_rf es, va_rf nk, .null]))], w2, [(i, .inr (34, [.ref a1, va_rf la, .int (nI md), .ref t]))]] (fun (rv_ : Option Value) (rL_ : List va_W) => ∃ (m1 : Nat) (m2 : Nat) (m3 : Nat) (m4 : Nat) (e : Option Nat), rv_ = some (.ref m2) ∧ rL_ = [[(b, .inr (27, [.null, va_rf bvs, .null, va_rf brt, .int (nI bn), .int (nI bmd), va_rf bes, va_rf bnk, .null]))], [(t, .inr (27, [.null, va_rf vs, .null, va_rf root, .int (nI n), .int (nI md), va_rf es, va_rf nk, .null]))], w2, [(i, .inr (34, [va_rf e, .ref a4, .int (nI md), .ref t]))], [(m1, .inr (28, [.ref (kI g (key a1)), .ref (val a1), .null, .null, .ref m2, .int (nI 1)]))], [(m2, .inr (28, [.ref (kI g (key a2)), .ref (val a2), .ref m1, .ref m3, .null, .int (nI 1)]))], [(m3, .inr (28, [.ref (kI g (key a3)), .ref (val a3), .null, .ref m4, .ref m2, .int (nI 1)]))], [(m4, .inr (28, [.ref (kI g (key a4)), .ref (val a4), .null, .null, .ref m3, .int (nI 0)]))]] ∧ (Lf ns key (key a4 + 1) e)) noX := by
  refine Ct.of "java/util/TreeMap" [some (.ref b), some (.int (nI 0)), some (.int (nI 0)), some (.int (nI 3)), some (.int (nI 2)), some (.ref i), some (.null), some (.null), none, none, none, none, none, none] rfl (by decide) rfl (Nat.le_of_ble_eq_true rfl) rfl ?_
  intro κ B E tb
  have ha2 := (hc1.1 a2 rfl).1
  have ha3 := (hc2.1 a3 rfl).1
  have ha4 := (hc3.1 a4 rfl).1
  refine g_iload_n (q := 1) B dJ10_buildFromSorted_2_0 rfl rfl ?_
  refine g_iload_n (q := 2) B dJ10_buildFromSorted_2_1 rfl rfl ?_
  refine g_icmp_ge (tgt := 7) (q := 5) B dJ10_buildFromSorted_2_2 rfl (by decide) (iff_true_intro (by decide)) (fun _ => ?_) (fun z => absurd trivial z)
  refine g_iload_n (q := 8) B dJ10_buildFromSorted_2_7 rfl rfl ?_
  refine g_iload_n (q := 9) B dJ10_buildFromSorted_2_8 rfl rfl ?_
  refine g_iadd (v := nI 3) (q := 10) B dJ10_buildFromSorted_2_9 rfl (nI_add _ _) ?_
  refine g_iconst (v := nI 1) (q := 11) B dJ10_buildFromSorted_2_10 rfl (by decide) ?_
  refine g_iushr (v := nI 1) (q := 12) B dJ10_buildFromSorted_2_11 rfl (by decide) ?_
  refine g_istore (q := 14) (lv2 := [some (.ref b), some (.int (nI 0)), some (.int (nI 0)), some (.int (nI 3)), some (.int (nI 2)), some (.ref i), some (.null), some (.null), some (.int (nI 1)), none, none, none, none, none]) B dJ10_buildFromSorted_2_12 rfl (Nat.le_of_ble_eq_true rfl) rfl ?_
  refine g_aconst_null (q := 15) B dJ10_buildFromSorted_2_14 rfl ?_
  refine g_astore (q := 17) (lv2 := [some (.ref b), some (.int (nI 0)), some (.int (nI 0)), some (.int (nI 3)), some (.int (nI 2)), some (.ref i), some (.null), some (.null), some (.int (nI 1)), some (.null), none, none, none, none]) B dJ10_buildFromSorted_2_15 rfl (Nat.le_of_ble_eq_true rfl) rv_n rfl ?_
  refine g_iload_n (q := 18) B dJ10_buildFromSorted_2_17 rfl rfl ?_
  refine g_iload (q := 20) B dJ10_buildFromSorted_2_18 rfl rfl ?_
  refine g_icmp_ge (tgt := 45) (q := 23) B dJ10_buildFromSorted_2_20 rfl (by decide) (iff_false_intro (by decide)) (fun z => z.elim) (fun _ => ?_)
  refine g_aload_n (q := 24) B dJ10_buildFromSorted_2_23 rfl rfl (rv_r _) ?_
  refine g_iload_n (q := 25) B dJ10_buildFromSorted_2_24 rfl rfl ?_
  refine g_iconst (v := nI 1) (q := 26) B dJ10_buildFromSorted_2_25 rfl (by decide) ?_
  refine g_iadd (v := nI 1) (q := 27) B dJ10_buildFromSorted_2_26 rfl (nI_add _ _) ?_
  refine g_iload_n (q := 28) B dJ10_buildFromSorted_2_27 rfl rfl ?_
  refine g_iload (q := 30) B dJ10_buildFromSorted_2_28 rfl rfl ?_
  refine g_iconst (v := nI 1) (q := 31) B dJ10_buildFromSorted_2_30 rfl (by decide) ?_
  refine g_isub (v := nI 0) (q := 32) B dJ10_buildFromSorted_2_31 rfl (pk_sub (by omega)) ?_
  refine g_iload (q := 34) B dJ10_buildFromSorted_2_32 rfl rfl ?_
  refine g_aload (q := 36) B dJ10_buildFromSorted_2_34 rfl rfl (rv_r _) ?_
  refine g_aload (q := 38) B dJ10_buildFromSorted_2_36 rfl rfl rv_n ?_
  refine g_aload (q := 40) B dJ10_buildFromSorted_2_38 rfl rfl rv_n ?_
  refine g_callV (q := 43) (is := [0, 0, 0, 0]) (kc2 := 3) (ks2 := 18) B [.int (nI 1), .int (nI 0), .int (nI 0), .int (nI 2), .ref i, .null, .null] (ct_bf1002 g J (b := b) (bvs := bvs) (brt := brt) (bn := bn) (bmd := bmd) (bes := bes) (bnk := bnk) (t := t) (vs := vs) (n := n) (md := md) (es := es) (nk := nk) (ns := ns) (key := key) (val := val) (l := l) (r := r) (p := p) (col := col) (lo := lo) (hi := hi) (root := root) (i := i) (la := la) (a1 := a1) hw2 (by first | assumption | omega | rfl) (by first | assumption | omega | rfl)) dJ10_buildFromSorted_2_40 rfl (rc_at B (ci := 27) rfl (k := 0) rfl) rfl q2670 q2672 qs41 q91 q2673 rfl rfl moJ10_buildFromSorted_2 rfl rfl (by decide) (by decide) (Nat.le_of_ble_eq_true rfl) (Nat.le_of_ble_eq_true rfl) (Nat.le_of_ble_eq_true rfl) (fun _ _ hx => noX_x hx) (fun v40 L1 hp40 => ?_)
  obtain ⟨m1, e40, rfl, rfl, he_40⟩ := hp40
  refine (show Go g κ 43 [some (.ref b), some (.int (nI 0)), some (.int (nI 0)), some (.int (nI 3)), some (.int (nI 2)), some (.ref i), some (.null), some (.null), some (.int (nI 1)), some (.null), none, none, none, none] [.ref m1] [[(b, .inr (27, [.null, va_rf bvs, .null, va_rf brt, .int (nI bn), .int (nI bmd), va_rf bes, va_rf bnk, .null]))], [(t, .inr (27, [.null, va_rf vs, .null, va_rf root, .int (nI n), .int (nI md), va_rf es, va_rf nk, .null]))], w2, [(i, .inr (34, [va_rf e40, .ref a1, .int (nI md), .ref t]))], [(m1, .inr (28, [.ref (kI g (key a1)), .ref (val a1), .null, .null, .null, .int (nI 1)]))]] 3 18 from ?_)
  have hq2 : e40 = some a2 := lf_uq hT.1 he_40 hc1
  subst hq2
  refine (show Go g κ 43 [some (.ref b), some (.int (nI 0)), some (.int (nI 0)), some (.int (nI 3)), some (.int (nI 2)), some (.ref i), some (.null), some (.null), some (.int (nI 1)), some (.null), none, none, none, none] [.ref m1] [[(b, .inr (27, [.null, va_rf bvs, .null, va_rf brt, .int (nI bn), .int (nI bmd), va_rf bes, va_rf bnk, .null]))], [(t, .inr (27, [.null, va_rf vs, .null, va_rf root, .int (nI n), .int (nI md), va_rf es, va_rf nk, .null]))], w2, [(i, .inr (34, [.ref a2, .ref a1, .int (nI md), .ref t]))], [(m1, .inr (28, [.ref (kI g (key a1)), .ref (val a1), .null, .null, .null, .int (nI 1)]))]] 3 18 from ?_)
  refine g_astore (q := 45) (lv2 := [some (.ref b), some (.int (nI 0)), some (.int (nI 0)), some (.int (nI 3)), some (.int (nI 2)), some (.ref i), some (.null), some (.null), some (.int (nI 1)), some (.ref m1), none, none, none, none]) B dJ10_buildFromSorted_2_43 rfl (Nat.le_of_ble_eq_true rfl) (rv_r _) rfl ?_
  refine g_aload (q := 47) B dJ10_buildFromSorted_2_45 rfl rfl (rv_r _) ?_
  refine g_ifnull_r (q := 50) B dJ10_buildFromSorted_2_47 rfl ?_
  refine g_aload (q := 52) B dJ10_buildFromSorted_2_50 rfl rfl rv_n ?_
  refine g_ifnonnull_n (q := 55) B dJ10_buildFromSorted_2_52 rfl ?_
  refine g_aload (q := 57) B dJ10_buildFromSorted_2_55 rfl rfl (rv_r _) ?_
  refine g_callF (q := 62) (is := [1, 1, 1]) (kc2 := 3) (ks2 := 18) B [] (ct_J32_next g J (t := t) (vs := vs) (n := n) (md := md) (es := es) (nk := nk) (ns := ns) (key := key) (val := val) (l := l) (r := r) (p := p) (col := col) (lo := lo) (hi := hi) (root := root) (M := 128) (i := i) (a := a2) (la := some a1) hw2 (by first | assumption | omega | rfl) (by first | assumption | omega | rfl)) dJ10_buildFromSorted_2_57 rfl (ci := 34) rfl (rc_at B (ci := 34) rfl (k := 3) rfl) q2675 q1014 q1016 q117 q1018 q966 q965 q1017 q1015 q951 rfl rfl mojava_util_Iterator_next___Ljava_lang_Object_ rfl rfl (by decide) (by decide) (Nat.le_of_ble_eq_true rfl) (Nat.le_of_ble_eq_true rfl) (Nat.le_of_ble_eq_true rfl) (fun _ _ hx => noX_x hx) (fun v57 L1 hp57 => ?_)
  obtain ⟨e57, rfl, rfl, he_57⟩ := hp57
  refine (show Go g κ 62 [some (.ref b), some (.int (nI 0)), some (.int (nI 0)), some (.int (nI 3)), some (.int (nI 2)), some (.ref i), some (.null), some (.null), some (.int (nI 1)), some (.ref m1), none, none, none, none] [.ref a2] [[(b, .inr (27, [.null, va_rf bvs, .null, va_rf brt, .int (nI bn), .int (nI bmd), va_rf bes, va_rf bnk, .null]))], [(m1, .inr (28, [.ref (kI g (key a1)), .ref (val a1), .null, .null, .null, .int (nI 1)]))], [(t, .inr (27, [.null, va_rf vs, .null, va_rf root, .int (nI n), .int (nI md), va_rf es, va_rf nk, .null]))], w2, [(i, .inr (34, [va_rf e57, .ref a2, .int (nI md), .ref t]))]] 3 18 from ?_)
  have hq3 : e57 = some a3 := lf_uq hT.1 he_57 hc2
  subst hq3
  refine (show Go g κ 62 [some (.ref b), some (.int (nI 0)), some (.int (nI 0)), some (.int (nI 3)), some (.int (nI 2)), some (.ref i), some (.null), some (.null), some (.int (nI 1)), some (.ref m1), none, none, none, none] [.ref a2] [[(b, .inr (27, [.null, va_rf bvs, .null, va_rf brt, .int (nI bn), .int (nI bmd), va_rf bes, va_rf bnk, .null]))], [(m1, .inr (28, [.ref (kI g (key a1)), .ref (val a1), .null, .null, .null, .int (nI 1)]))], [(t, .inr (27, [.null, va_rf vs, .null, va_rf root, .int (nI n), .int (nI md), va_rf es, va_rf nk, .null]))], w2, [(i, .inr (34, [.ref a3, .ref a2, .int (nI md), .ref t]))]] 3 18 from ?_)
  refine g_castR (q := 65) B (rc_ent B (k := 3) rfl hw2 ha2) dJ10_buildFromSorted_2_62 rfl q2676 q2690 ?_
  refine g_astore (q := 67) (lv2 := [some (.ref b), some (.int (nI 0)), some (.int (nI 0)), some (.int (nI 3)), some (.int (nI 2)), some (.ref i), some (.null), some (.null), some (.int (nI 1)), some (.ref m1), none, none, some (.ref a2), none]) B dJ10_buildFromSorted_2_65 rfl (Nat.le_of_ble_eq_true rfl) (rv_r _) rfl ?_
  refine g_aload (q := 69) B dJ10_buildFromSorted_2_67 rfl rfl (rv_r _) ?_
  refine g_callF (q := 74) (is := [3]) (kc2 := 3) (ks2 := 18) B [] (ct_J37_getKey g J (ns := ns) (key := key) (val := val) (l := l) (r := r) (p := p) (col := col) (a := a2) hw2 (by first | assumption | omega | rfl)) dJ10_buildFromSorted_2_69 rfl (ci := 28) rfl (rc_ent B (k := 3) rfl hw2 ha2) q2678 q2691 q2693 q128 q2695 q2680 q2679 q2694 q2692 q2690 rfl rfl mojava_util_Map_Entry_getKey___Ljava_lang_Object_ rfl rfl (by decide) (by decide) (Nat.le_of_ble_eq_true rfl) (Nat.le_of_ble_eq_true rfl) (Nat.le_of_ble_eq_true rfl) (fun _ _ hx => noX_x hx) (fun v69 L1 hp69 => ?_)
  obtain ⟨rfl, rfl⟩ := hp69
  refine (show Go g κ 74 [some (.ref b), some (.int (nI 0)), some (.int (nI 0)), some (.int (nI 3)), some (.int (nI 2)), some (.ref i), some (.null), some (.null), some (.int (nI 1)), some (.ref m1), none, none, some (.ref a2), none] [.ref (kI g (key a2))] [[(b, .inr (27, [.null, va_rf bvs, .null, va_rf brt, .int (nI bn), .int (nI bmd), va_rf bes, va_rf bnk, .null]))], [(m1, .inr (28, [.ref (kI g (key a1)), .ref (val a1), .null, .null, .null, .int (nI 1)]))], [(t, .inr (27, [.null, va_rf vs, .null, va_rf root, .int (nI n), .int (nI md), va_rf es, va_rf nk, .null]))], [(i, .inr (34, [.ref a3, .ref a2, .int (nI md), .ref t]))], w2] 3 18 from ?_)
  refine g_astore (q := 76) (lv2 := [some (.ref b), some (.int (nI 0)), some (.int (nI 0)), some (.int (nI 3)), some (.int (nI 2)), some (.ref i), some (.null), some (.null), some (.int (nI 1)), some (.ref m1), some (.ref (kI g (key a2))), none, some (.ref a2), none]) B dJ10_buildFromSorted_2_74 rfl (Nat.le_of_ble_eq_true rfl) (rv_r _) rfl ?_
  refine g_aload (q := 78) B dJ10_buildFromSorted_2_76 rfl rfl (rv_r _) ?_
  refine g_callF (q := 83) (is := [4]) (kc2 := 3) (ks2 := 18) B [] (ct_J37_getValue g J (ns := ns) (key := key) (val := val) (l := l) (r := r) (p := p) (col := col) (a := a2) hw2 (by first | assumption | omega | rfl)) dJ10_buildFromSorted_2_78 rfl (ci := 28) rfl (rc_ent B (k := 4) rfl hw2 ha2) q2697 q2707 q2709 q128 q2711 q2699 q2698 q2710 q2708 q2690 rfl rfl mojava_util_Map_Entry_getValue___Ljava_lang_Object_ rfl rfl (by decide) (by decide) (Nat.le_of_ble_eq_true rfl) (Nat.le_of_ble_eq_true rfl) (Nat.le_of_ble_eq_true rfl) (fun _ _ hx => noX_x hx) (fun v78 L1 hp78 => ?_)
  obtain ⟨rfl, rfl⟩ := hp78
  refine (show Go g κ 83 [some (.ref b), some (.int (nI 0)), some (.int (nI 0)), some (.int (nI 3)), some (.int (nI 2)), some (.ref i), some (.null), some (.null), some (.int (nI 1)), some (.ref m1), some (.ref (kI g (key a2))), none, some (.ref a2), none] [.ref (val a2)] [[(b, .inr (27, [.null, va_rf bvs, .null, va_rf brt, .int (nI bn), .int (nI bmd), va_rf bes, va_rf bnk, .null]))], [(m1, .inr (28, [.ref (kI g (key a1)), .ref (val a1), .null, .null, .null, .int (nI 1)]))], [(t, .inr (27, [.null, va_rf vs, .null, va_rf root, .int (nI n), .int (nI md), va_rf es, va_rf nk, .null]))], [(i, .inr (34, [.ref a3, .ref a2, .int (nI md), .ref t]))], w2] 3 18 from ?_)
  refine g_astore (q := 85) (lv2 := [some (.ref b), some (.int (nI 0)), some (.int (nI 0)), some (.int (nI 3)), some (.int (nI 2)), some (.ref i), some (.null), some (.null), some (.int (nI 1)), some (.ref m1), some (.ref (kI g (key a2))), some (.ref (val a2)), some (.ref a2), none]) B dJ10_buildFromSorted_2_83 rfl (Nat.le_of_ble_eq_true rfl) (rv_r _) rfl ?_
  refine g_goto (tgt := 128) B dJ10_buildFromSorted_2_85 (by decide) ?_
  refine g_new (q := 131) (kc2 := 2) (ks2 := 12) (fs := [.null, .null, .null, .null, .null, .int (nI 0)]) B (ci := 28) in_J37 tyJ37_ok rfl dJ10_buildFromSorted_2_128 rfl q2100 q2101 q128 (nwJ37) (Nat.le_of_ble_eq_true rfl) (Nat.le_of_ble_eq_true rfl) (fun n128 => ?_)
  refine (show Go g κ 131 [some (.ref b), some (.int (nI 0)), some (.int (nI 0)), some (.int (nI 3)), some (.int (nI 2)), some (.ref i), some (.null), some (.null), some (.int (nI 1)), some (.ref m1), some (.ref (kI g (key a2))), some (.ref (val a2)), some (.ref a2), none] [.ref n128] [[(b, .inr (27, [.null, va_rf bvs, .null, va_rf brt, .int (nI bn), .int (nI bmd), va_rf bes, va_rf bnk, .null]))], [(m1, .inr (28, [.ref (kI g (key a1)), .ref (val a1), .null, .null, .null, .int (nI 1)]))], [(t, .inr (27, [.null, va_rf vs, .null, va_rf root, .int (nI n), .int (nI md), va_rf es, va_rf nk, .null]))], [(i, .inr (34, [.ref a3, .ref a2, .int (nI md), .ref t]))], w2, [(n128, .inr (28, [.null, .null, .null, .null, .null, .int (nI 0)]))]] 2 12 from ?_)
  refine g_dup (q := 132) B dJ10_buildFromSorted_2_131 rfl rfl ?_
  refine g_aload (q := 134) B dJ10_buildFromSorted_2_132 rfl rfl (rv_r _) ?_
  refine g_aload (q := 136) B dJ10_buildFromSorted_2_134 rfl rfl (rv_r _) ?_
  refine g_aconst_null (q := 137) B dJ10_buildFromSorted_2_136 rfl ?_
  refine g_callI (q := 140) (is := [5]) (kc2 := 2) (ks2 := 12) B [.ref (kI g (key a2)), .ref (val a2), .null] (ct_J37_init g J (e := n128) (kr := (kI g (key a2))) (v := (val a2)) (q := none)  ) dJ10_buildFromSorted_2_137 rfl rfl q2102 q2103 q128 q2104 rfl rfl moJ37_init rfl rfl (by decide) (by decide) (Nat.le_of_ble_eq_true rfl) (Nat.le_of_ble_eq_true rfl) (Nat.le_of_ble_eq_true rfl) (fun _ _ hx => noX_x hx) (fun v137 L1 hp137 => ?_)
  obtain ⟨rfl, rfl⟩ := hp137
  refine (show Go g κ 140 [some (.ref b), some (.int (nI 0)), some (.int (nI 0)), some (.int (nI 3)), some (.int (nI 2)), some (.ref i), some (.null), some (.null), some (.int (nI 1)), some (.ref m1), some (.ref (kI g (key a2))), some (.ref (val a2)), some (.ref a2), none] [.ref n128] [[(b, .inr (27, [.null, va_rf bvs, .null, va_rf brt, .int (nI bn), .int (nI bmd), va_rf bes, va_rf bnk, .null]))], [(m1, .inr (28, [.ref (kI g (key a1)), .ref (val a1), .null, .null, .null, .int (nI 1)]))], [(t, .inr (27, [.null, va_rf vs, .null, va_rf root, .int (nI n), .int (nI md), va_rf es, va_rf nk, .null]))], [(i, .inr (34, [.ref a3, .ref a2, .int (nI md), .ref t]))], w2, [(n128, .inr (28, [.ref (kI g (key a2)), .ref (val a2), .null, .null, .null, .int (nI 1)]))]] 2 12 from ?_)
  refine g_astore (q := 142) (lv2 := [some (.ref b), some (.int (nI 0)), some (.int (nI 0)), some (.int (nI 3)), some (.int (nI 2)), some (.ref i), some (.null), some (.null), some (.int (nI 1)), some (.ref m1), some (.ref (kI g (key a2))), some (.ref (val a2)), some (.ref n128), none]) B dJ10_buildFromSorted_2_140 rfl (Nat.le_of_ble_eq_true rfl) (rv_r _) rfl ?_
  refine g_iload_n (q := 143) B dJ10_buildFromSorted_2_142 rfl rfl ?_
  refine g_iload (q := 145) B dJ10_buildFromSorted_2_143 rfl rfl ?_
  refine g_icmp_ne (tgt := 154) (q := 148) B dJ10_buildFromSorted_2_145 rfl (by decide) (iff_true_intro (by decide)) (fun _ => ?_) (fun z => absurd trivial z)
  refine g_aload (q := 156) B dJ10_buildFromSorted_2_154 rfl rfl (rv_r _) ?_
  refine g_ifnull_r (q := 159) B dJ10_buildFromSorted_2_156 rfl ?_
  refine g_aload (q := 161) B dJ10_buildFromSorted_2_159 rfl rfl (rv_r _) ?_
  refine g_aload (q := 163) B dJ10_buildFromSorted_2_161 rfl rfl (rv_r _) ?_
  refine g_put (q := 166) (L2 := [[(b, .inr (27, [.null, va_rf bvs, .null, va_rf brt, .int (nI bn), .int (nI bmd), va_rf bes, va_rf bnk, .null]))], [(m1, .inr (28, [.ref (kI g (key a1)), .ref (val a1), .null, .null, .null, .int (nI 1)]))], [(t, .inr (27, [.null, va_rf vs, .null, va_rf root, .int (nI n), .int (nI md), va_rf es, va_rf nk, .null]))], [(i, .inr (34, [.ref a3, .ref a2, .int (nI md), .ref t]))], w2, [(n128, .inr (28, [.ref (kI g (key a2)), .ref (val a2), .ref m1, .null, .null, .int (nI 1)]))]]) B (ci := 28) (k := 5) (j := 2) in_J37 tyJ37 tyJ37_ok nmJ37 rfl dJ10_buildFromSorted_2_163 rfl rfl (Nat.le_of_ble_eq_true rfl) q2113 rfl rfl rfl rfl (Nat.le_of_ble_eq_true rfl) rfl ?_
  refine g_aload (q := 168) B dJ10_buildFromSorted_2_166 rfl rfl (rv_r _) ?_
  refine g_aload (q := 170) B dJ10_buildFromSorted_2_168 rfl rfl (rv_r _) ?_
  refine g_put (q := 173) (L2 := [[(b, .inr (27, [.null, va_rf bvs, .null, va_rf brt, .int (nI bn), .int (nI bmd), va_rf bes, va_rf bnk, .null]))], [(m1, .inr (28, [.ref (kI g (key a1)), .ref (val a1), .null, .null, .ref n128, .int (nI 1)]))], [(t, .inr (27, [.null, va_rf vs, .null, va_rf root, .int (nI n), .int (nI md), va_rf es, va_rf nk, .null]))], [(i, .inr (34, [.ref a3, .ref a2, .int (nI md), .ref t]))], w2, [(n128, .inr (28, [.ref (kI g (key a2)), .ref (val a2), .ref m1, .null, .null, .int (nI 1)]))]]) B (ci := 28) (k := 1) (j := 4) in_J37 tyJ37 tyJ37_ok nmJ37 rfl dJ10_buildFromSorted_2_170 rfl rfl (Nat.le_of_ble_eq_true rfl) q2117 rfl rfl rfl rfl (Nat.le_of_ble_eq_true rfl) rfl ?_
  refine g_iload (q := 175) B dJ10_buildFromSorted_2_173 rfl rfl ?_
  refine g_iload_n (q := 176) B dJ10_buildFromSorted_2_175 rfl rfl ?_
  refine g_icmp_ge (tgt := 215) (q := 179) B dJ10_buildFromSorted_2_176 rfl (by decide) (iff_false_intro (by decide)) (fun z => z.elim) (fun _ => ?_)
  refine g_aload_n (q := 180) B dJ10_buildFromSorted_2_179 rfl rfl (rv_r _) ?_
  refine g_iload_n (q := 181) B dJ10_buildFromSorted_2_180 rfl rfl ?_
  refine g_iconst (v := nI 1) (q := 182) B dJ10_buildFromSorted_2_181 rfl (by decide) ?_
  refine g_iadd (v := nI 1) (q := 183) B dJ10_buildFromSorted_2_182 rfl (nI_add _ _) ?_
  refine g_iload (q := 185) B dJ10_buildFromSorted_2_183 rfl rfl ?_
  refine g_iconst (v := nI 1) (q := 186) B dJ10_buildFromSorted_2_185 rfl (by decide) ?_
  refine g_iadd (v := nI 2) (q := 187) B dJ10_buildFromSorted_2_186 rfl (nI_add _ _) ?_
  refine g_iload_n (q := 188) B dJ10_buildFromSorted_2_187 rfl rfl ?_
  refine g_iload (q := 190) B dJ10_buildFromSorted_2_188 rfl rfl ?_
  refine g_aload (q := 192) B dJ10_buildFromSorted_2_190 rfl rfl (rv_r _) ?_
  refine g_aload (q := 194) B dJ10_buildFromSorted_2_192 rfl rfl rv_n ?_
  refine g_aload (q := 196) B dJ10_buildFromSorted_2_194 rfl rfl rv_n ?_
  refine g_callV (q := 199) (is := [0, 1, 2, 1]) (kc2 := 0) (ks2 := 0) B [.int (nI 1), .int (nI 2), .int (nI 3), .int (nI 2), .ref i, .null, .null] (ct_bf1232 g J (b := b) (bvs := bvs) (brt := brt) (bn := bn) (bmd := bmd) (bes := bes) (bnk := bnk) (t := t) (vs := vs) (n := n) (md := md) (es := es) (nk := nk) (ns := ns) (key := key) (val := val) (l := l) (r := r) (p := p) (col := col) (lo := lo) (hi := hi) (root := root) (i := i) (la := some a2) (a1 := a3) (a2 := a4) hw2 (by first | assumption | omega | rfl) (ha3) (hc3)) dJ10_buildFromSorted_2_196 rfl (rc_at B (ci := 27) rfl (k := 0) rfl) rfl q2670 q2672 qs41 q91 q2673 rfl rfl moJ10_buildFromSorted_2 rfl rfl (by decide) (by decide) (Nat.le_of_ble_eq_true rfl) (Nat.le_of_ble_eq_true rfl) (Nat.le_of_ble_eq_true rfl) (fun _ _ hx => noX_x hx) (fun v196 L1 hp196 => ?_)
  obtain ⟨m3, m4, e196, rfl, rfl, he_196⟩ := hp196
  refine (show Go g κ 199 [some (.ref b), some (.int (nI 0)), some (.int (nI 0)), some (.int (nI 3)), some (.int (nI 2)), some (.ref i), some (.null), some (.null), some (.int (nI 1)), some (.ref m1), some (.ref (kI g (key a2))), some (.ref (val a2)), some (.ref n128), none] [.ref m3] [[(m1, .inr (28, [.ref (kI g (key a1)), .ref (val a1), .null, .null, .ref n128, .int (nI 1)]))], [(n128, .inr (28, [.ref (kI g (key a2)), .ref (val a2), .ref m1, .null, .null, .int (nI 1)]))], [(b, .inr (27, [.null, va_rf bvs, .null, va_rf brt, .int (nI bn), .int (nI bmd), va_rf bes, va_rf bnk, .null]))], [(t, .inr (27, [.null, va_rf vs, .null, va_rf root, .int (nI n), .int (nI md), va_rf es, va_rf nk, .null]))], w2, [(i, .inr (34, [va_rf e196, .ref a4, .int (nI md), .ref t]))], [(m3, .inr (28, [.ref (kI g (key a3)), .ref (val a3), .null, .ref m4, .null, .int (nI 1)]))], [(m4, .inr (28, [.ref (kI g (key a4)), .ref (val a4), .null, .null, .ref m3, .int (nI 0)]))]] 0 0 from ?_)
  refine g_astore (q := 201) (lv2 := [some (.ref b), some (.int (nI 0)), some (.int (nI 0)), some (.int (nI 3)), some (.int (nI 2)), some (.ref i), some (.null), some (.null), some (.int (nI 1)), some (.ref m1), some (.ref (kI g (key a2))), some (.ref (val a2)), some (.ref n128), some (.ref m3)]) B dJ10_buildFromSorted_2_199 rfl (Nat.le_of_ble_eq_true rfl) (rv_r _) rfl ?_
  refine g_aload (q := 203) B dJ10_buildFromSorted_2_201 rfl rfl (rv_r _) ?_
  refine g_aload (q := 205) B dJ10_buildFromSorted_2_203 rfl rfl (rv_r _) ?_
  refine g_put (q := 208) (L2 := [[(m1, .inr (28, [.ref (kI g (key a1)), .ref (val a1), .null, .null, .ref n128, .int (nI 1)]))], [(n128, .inr (28, [.ref (kI g (key a2)), .ref (val a2), .ref m1, .ref m3, .null, .int (nI 1)]))], [(b, .inr (27, [.null, va_rf bvs, .null, va_rf brt, .int (nI bn), .int (nI bmd), va_rf bes, va_rf bnk, .null]))], [(t, .inr (27, [.null, va_rf vs, .null, va_rf root, .int (nI n), .int (nI md), va_rf es, va_rf nk, .null]))], w2, [(i, .inr (34, [va_rf e196, .ref a4, .int (nI md), .ref t]))], [(m3, .inr (28, [.ref (kI g (key a3)), .ref (val a3), .null, .ref m4, .null, .int (nI 1)]))], [(m4, .inr (28, [.ref (kI g (key a4)), .ref (val a4), .null, .null, .ref m3, .int (nI 0)]))]]) B (ci := 28) (k := 1) (j := 3) in_J37 tyJ37 tyJ37_ok nmJ37 rfl dJ10_buildFromSorted_2_205 rfl rfl (Nat.le_of_ble_eq_true rfl) q2115 rfl rfl rfl rfl (Nat.le_of_ble_eq_true rfl) rfl ?_
  refine g_aload (q := 210) B dJ10_buildFromSorted_2_208 rfl rfl (rv_r _) ?_
  refine g_aload (q := 212) B dJ10_buildFromSorted_2_210 rfl rfl (rv_r _) ?_
  refine g_put (q := 215) (L2 := [[(m1, .inr (28, [.ref (kI g (key a1)), .ref (val a1), .null, .null, .ref n128, .int (nI 1)]))], [(n128, .inr (28, [.ref (kI g (key a2)), .ref (val a2), .ref m1, .ref m3, .null, .int (nI 1)]))], [(b, .inr (27, [.null, va_rf bvs, .null, va_rf brt, .int (nI bn), .int (nI bmd), va_rf bes, va_rf bnk, .null]))], [(t, .inr (27, [.null, va_rf vs, .null, va_rf root, .int (nI n), .int (nI md), va_rf es, va_rf nk, .null]))], w2, [(i, .inr (34, [va_rf e196, .ref a4, .int (nI md), .ref t]))], [(m3, .inr (28, [.ref (kI g (key a3)), .ref (val a3), .null, .ref m4, .ref n128, .int (nI 1)]))], [(m4, .inr (28, [.ref (kI g (key a4)), .ref (val a4), .null, .null, .ref m3, .int (nI 0)]))]]) B (ci := 28) (k := 6) (j := 4) in_J37 tyJ37 tyJ37_ok nmJ37 rfl dJ10_buildFromSorted_2_212 rfl rfl (Nat.le_of_ble_eq_true rfl) q2117 rfl rfl rfl rfl (Nat.le_of_ble_eq_true rfl) rfl ?_
  refine g_aload (q := 217) B dJ10_buildFromSorted_2_215 rfl rfl (rv_r _) ?_
  refine g_pk [2, 2, 2, 2, 0, 0, 0, 0] rfl rfl ?_
  refine (show Go g κ 217 [some (.ref b), some (.int (nI 0)), some (.int (nI 0)), some (.int (nI 3)), some (.int (nI 2)), some (.ref i), some (.null), some (.null), some (.int (nI 1)), some (.ref m1), some (.ref (kI g (key a2))), some (.ref (val a2)), some (.ref n128), some (.ref m3)] [.ref n128] [[(b, .inr (27, [.null, va_rf bvs, .null, va_rf brt, .int (nI bn), .int (nI bmd), va_rf bes, va_rf bnk, .null]))], [(t, .inr (27, [.null, va_rf vs, .null, va_rf root, .int (nI n), .int (nI md), va_rf es, va_rf nk, .null]))], w2, [(i, .inr (34, [va_rf e196, .ref a4, .int (nI md), .ref t]))], [(m1, .inr (28, [.ref (kI g (key a1)), .ref (val a1), .null, .null, .ref n128, .int (nI 1)]))], [(n128, .inr (28, [.ref (kI g (key a2)), .ref (val a2), .ref m1, .ref m3, .null, .int (nI 1)]))], [(m3, .inr (28, [.ref (kI g (key a3)), .ref (val a3), .null, .ref m4, .ref n128, .int (nI 1)]))], [(m4, .inr (28, [.ref (kI g (key a4)), .ref (val a4), .null, .null, .ref m3, .int (nI 0)]))]] 0 0 from ?_)
  exact g_aret B E dJ10_buildFromSorted_2_217 (by first | exact Or.inl ⟨_, rfl⟩ | exact Or.inr ⟨_, rfl⟩) (rv_r _) (⟨m1, n128, m3, m4, _, rfl, rfl, he_196⟩)
theorem ct_J26_nlz_2 (g : Gv) (J : Jd g)  : Ct g yJ26_numberOfLeadingZeros (ws_ yJ26_numberOfLeadingZeros cJ26_numberOfLeadingZeros 2 (some .int)) 0 0 0 [.int (nI 2)] [] (fun (rv_ : Option Value) (rL_ : List va_W) => rv_ = some (.int (nI 30)) ∧ rL_ = []) noX := by
  refine Ct.of "java/lang/Integer" [some (.int (nI 2)), none] rfl (by decide) rfl (Nat.le_of_ble_eq_true rfl) rfl ?_
  intro κ B E tb
  refine g_iload_n (q := 1) B dJ26_numberOfLeadingZeros_0 rfl rfl ?_
  refine g_if_gt (tgt := 15) (q := 4) B dJ26_numberOfLeadingZeros_1 rfl (by decide) (iff_true_intro (by decide)) (fun _ => ?_) (fun z => absurd trivial z)
  refine g_bipush (v := nI 31) (q := 17) B dJ26_numberOfLeadingZeros_15 rfl (by decide) ?_
  refine g_istore_n (q := 18) (lv2 := [some (.int (nI 2)), some (.int (nI 31))]) B dJ26_numberOfLeadingZeros_17 rfl (Nat.le_of_ble_eq_true rfl) rfl ?_
  refine g_iload_n (q := 19) B dJ26_numberOfLeadingZeros_18 rfl rfl ?_
  refine g_ldcw (v := nI 65536) (q := 22) B dJ26_numberOfLeadingZeros_19 rfl q684 ?_
  refine g_icmp_lt (tgt := 33) (q := 25) B dJ26_numberOfLeadingZeros_22 rfl (by decide) (iff_true_intro (by decide)) (fun _ => ?_) (fun z => absurd trivial z)
  refine g_iload_n (q := 34) B dJ26_numberOfLeadingZeros_33 rfl rfl ?_
  refine g_sipush (v := nI 256) (q := 37) B dJ26_numberOfLeadingZeros_34 rfl (by decide) ?_
  refine g_icmp_lt (tgt := 48) (q := 40) B dJ26_numberOfLeadingZeros_37 rfl (by decide) (iff_true_intro (by decide)) (fun _ => ?_) (fun z => absurd trivial z)
  refine g_iload_n (q := 49) B dJ26_numberOfLeadingZeros_48 rfl rfl ?_
  refine g_bipush (v := nI 16) (q := 51) B dJ26_numberOfLeadingZeros_49 rfl (by decide) ?_
  refine g_icmp_lt (tgt := 61) (q := 54) B dJ26_numberOfLeadingZeros_51 rfl (by decide) (iff_true_intro (by decide)) (fun _ => ?_) (fun z => absurd trivial z)
  refine g_iload_n (q := 62) B dJ26_numberOfLeadingZeros_61 rfl rfl ?_
  refine g_iconst (v := nI 4) (q := 63) B dJ26_numberOfLeadingZeros_62 rfl (by decide) ?_
  refine g_icmp_lt (tgt := 73) (q := 66) B dJ26_numberOfLeadingZeros_63 rfl (by decide) (iff_true_intro (by decide)) (fun _ => ?_) (fun z => absurd trivial z)
  refine g_iload_n (q := 74) B dJ26_numberOfLeadingZeros_73 rfl rfl ?_
  refine g_iload_n (q := 75) B dJ26_numberOfLeadingZeros_74 rfl rfl ?_
  refine g_iconst (v := nI 1) (q := 76) B dJ26_numberOfLeadingZeros_75 rfl (by decide) ?_
  refine g_iushr (v := nI 1) (q := 77) B dJ26_numberOfLeadingZeros_76 rfl (by decide) ?_
  refine g_isub (v := nI 30) (q := 78) B dJ26_numberOfLeadingZeros_77 rfl (by decide) ?_
  exact g_iret B E dJ26_numberOfLeadingZeros_78 (⟨rfl, rfl⟩)
theorem moJ26_numberOfLeadingZeros : Mo yJ26_numberOfLeadingZeros 1 := by
  refine ⟨by decide, by decide, by decide +kernel⟩
theorem ct_J10_red_1 (g : Gv) (J : Jd g)  : Ct g yJ10_computeRedLevel (ws_ yJ10_computeRedLevel cJ10_computeRedLevel 1 (some .int)) 1 0 0 [.int (nI 1)] [] (fun (rv_ : Option Value) (rL_ : List va_W) => rv_ = some (.int (nI 1)) ∧ rL_ = []) noX := by
  refine Ct.of "java/util/TreeMap" [some (.int (nI 1))] rfl (by decide) rfl (Nat.le_of_ble_eq_true rfl) rfl ?_
  intro κ B E tb
  refine g_bipush (v := nI 31) (q := 2) B dJ10_computeRedLevel_0 rfl (by decide) ?_
  refine g_iload_n (q := 3) B dJ10_computeRedLevel_2 rfl rfl ?_
  refine g_iconst (v := nI 1) (q := 4) B dJ10_computeRedLevel_3 rfl (by decide) ?_
  refine g_iadd (v := nI 2) (q := 5) B dJ10_computeRedLevel_4 rfl (nI_add _ _) ?_
  refine g_callS (q := 8) (is := []) (kc2 := 0) (ks2 := 0) B [.int (nI 2)] (ct_J26_nlz_2 g J   ) dJ10_computeRedLevel_5 rfl q2669 q1537 q111 q1538 rfl rfl moJ26_numberOfLeadingZeros rfl rfl (by decide) (by decide) (Nat.le_of_ble_eq_true rfl) (Nat.le_of_ble_eq_true rfl) (Nat.le_of_ble_eq_true rfl) (fun _ _ hx => noX_x hx) (fun v5 L1 hp5 => ?_)
  obtain ⟨rfl, rfl⟩ := hp5
  refine (show Go g κ 8 [some (.int (nI 1))] [.int (nI 30), .int (nI 31)] [] 0 0 from ?_)
  refine g_isub (v := nI 1) (q := 9) B dJ10_computeRedLevel_8 rfl (by decide) ?_
  exact g_iret B E dJ10_computeRedLevel_9 (⟨rfl, rfl⟩)
theorem ct_J26_nlz_3 (g : Gv) (J : Jd g)  : Ct g yJ26_numberOfLeadingZeros (ws_ yJ26_numberOfLeadingZeros cJ26_numberOfLeadingZeros 2 (some .int)) 0 0 0 [.int (nI 3)] [] (fun (rv_ : Option Value) (rL_ : List va_W) => rv_ = some (.int (nI 30)) ∧ rL_ = []) noX := by
  refine Ct.of "java/lang/Integer" [some (.int (nI 3)), none] rfl (by decide) rfl (Nat.le_of_ble_eq_true rfl) rfl ?_
  intro κ B E tb
  refine g_iload_n (q := 1) B dJ26_numberOfLeadingZeros_0 rfl rfl ?_
  refine g_if_gt (tgt := 15) (q := 4) B dJ26_numberOfLeadingZeros_1 rfl (by decide) (iff_true_intro (by decide)) (fun _ => ?_) (fun z => absurd trivial z)
  refine g_bipush (v := nI 31) (q := 17) B dJ26_numberOfLeadingZeros_15 rfl (by decide) ?_
  refine g_istore_n (q := 18) (lv2 := [some (.int (nI 3)), some (.int (nI 31))]) B dJ26_numberOfLeadingZeros_17 rfl (Nat.le_of_ble_eq_true rfl) rfl ?_
  refine g_iload_n (q := 19) B dJ26_numberOfLeadingZeros_18 rfl rfl ?_
  refine g_ldcw (v := nI 65536) (q := 22) B dJ26_numberOfLeadingZeros_19 rfl q684 ?_
  refine g_icmp_lt (tgt := 33) (q := 25) B dJ26_numberOfLeadingZeros_22 rfl (by decide) (iff_true_intro (by decide)) (fun _ => ?_) (fun z => absurd trivial z)
  refine g_iload_n (q := 34) B dJ26_numberOfLeadingZeros_33 rfl rfl ?_
  refine g_sipush (v := nI 256) (q := 37) B dJ26_numberOfLeadingZeros_34 rfl (by decide) ?_
  refine g_icmp_lt (tgt := 48) (q := 40) B dJ26_numberOfLeadingZeros_37 rfl (by decide) (iff_true_intro (by decide)) (fun _ => ?_) (fun z => absurd trivial z)
  refine g_iload_n (q := 49) B dJ26_numberOfLeadingZeros_48 rfl rfl ?_
  refine g_bipush (v := nI 16) (q := 51) B dJ26_numberOfLeadingZeros_49 rfl (by decide) ?_
  refine g_icmp_lt (tgt := 61) (q := 54) B dJ26_numberOfLeadingZeros_51 rfl (by decide) (iff_true_intro (by decide)) (fun _ => ?_) (fun z => absurd trivial z)
  refine g_iload_n (q := 62) B dJ26_numberOfLeadingZeros_61 rfl rfl ?_
  refine g_iconst (v := nI 4) (q := 63) B dJ26_numberOfLeadingZeros_62 rfl (by decide) ?_
  refine g_icmp_lt (tgt := 73) (q := 66) B dJ26_numberOfLeadingZeros_63 rfl (by decide) (iff_true_intro (by decide)) (fun _ => ?_) (fun z => absurd trivial z)
  refine g_iload_n (q := 74) B dJ26_numberOfLeadingZeros_73 rfl rfl ?_
  refine g_iload_n (q := 75) B dJ26_numberOfLeadingZeros_74 rfl rfl ?_
  refine g_iconst (v := nI 1) (q := 76) B dJ26_numberOfLeadingZeros_75 rfl (by decide) ?_
  refine g_iushr (v := nI 1) (q := 77) B dJ26_numberOfLeadingZeros_76 rfl (by decide) ?_
  refine g_isub (v := nI 30) (q := 78) B dJ26_numberOfLeadingZeros_77 rfl (by decide) ?_
  exact g_iret B E dJ26_numberOfLeadingZeros_78 (⟨rfl, rfl⟩)
theorem ct_J10_red_2 (g : Gv) (J : Jd g)  : Ct g yJ10_computeRedLevel (ws_ yJ10_computeRedLevel cJ10_computeRedLevel 1 (some .int)) 1 0 0 [.int (nI 2)] [] (fun (rv_ : Option Value) (rL_ : List va_W) => rv_ = some (.int (nI 1)) ∧ rL_ = []) noX := by
  refine Ct.of "java/util/TreeMap" [some (.int (nI 2))] rfl (by decide) rfl (Nat.le_of_ble_eq_true rfl) rfl ?_
  intro κ B E tb
  refine g_bipush (v := nI 31) (q := 2) B dJ10_computeRedLevel_0 rfl (by decide) ?_
  refine g_iload_n (q := 3) B dJ10_computeRedLevel_2 rfl rfl ?_
  refine g_iconst (v := nI 1) (q := 4) B dJ10_computeRedLevel_3 rfl (by decide) ?_
  refine g_iadd (v := nI 3) (q := 5) B dJ10_computeRedLevel_4 rfl (nI_add _ _) ?_
  refine g_callS (q := 8) (is := []) (kc2 := 0) (ks2 := 0) B [.int (nI 3)] (ct_J26_nlz_3 g J   ) dJ10_computeRedLevel_5 rfl q2669 q1537 q111 q1538 rfl rfl moJ26_numberOfLeadingZeros rfl rfl (by decide) (by decide) (Nat.le_of_ble_eq_true rfl) (Nat.le_of_ble_eq_true rfl) (Nat.le_of_ble_eq_true rfl) (fun _ _ hx => noX_x hx) (fun v5 L1 hp5 => ?_)
  obtain ⟨rfl, rfl⟩ := hp5
  refine (show Go g κ 8 [some (.int (nI 2))] [.int (nI 30), .int (nI 31)] [] 0 0 from ?_)
  refine g_isub (v := nI 1) (q := 9) B dJ10_computeRedLevel_8 rfl (by decide) ?_
  exact g_iret B E dJ10_computeRedLevel_9 (⟨rfl, rfl⟩)
theorem ct_J26_nlz_4 (g : Gv) (J : Jd g)  : Ct g yJ26_numberOfLeadingZeros (ws_ yJ26_numberOfLeadingZeros cJ26_numberOfLeadingZeros 2 (some .int)) 0 0 0 [.int (nI 4)] [] (fun (rv_ : Option Value) (rL_ : List va_W) => rv_ = some (.int (nI 29)) ∧ rL_ = []) noX := by
  refine Ct.of "java/lang/Integer" [some (.int (nI 4)), none] rfl (by decide) rfl (Nat.le_of_ble_eq_true rfl) rfl ?_
  intro κ B E tb
  refine g_iload_n (q := 1) B dJ26_numberOfLeadingZeros_0 rfl rfl ?_
  refine g_if_gt (tgt := 15) (q := 4) B dJ26_numberOfLeadingZeros_1 rfl (by decide) (iff_true_intro (by decide)) (fun _ => ?_) (fun z => absurd trivial z)
  refine g_bipush (v := nI 31) (q := 17) B dJ26_numberOfLeadingZeros_15 rfl (by decide) ?_
  refine g_istore_n (q := 18) (lv2 := [some (.int (nI 4)), some (.int (nI 31))]) B dJ26_numberOfLeadingZeros_17 rfl (Nat.le_of_ble_eq_true rfl) rfl ?_
  refine g_iload_n (q := 19) B dJ26_numberOfLeadingZeros_18 rfl rfl ?_
  refine g_ldcw (v := nI 65536) (q := 22) B dJ26_numberOfLeadingZeros_19 rfl q684 ?_
  refine g_icmp_lt (tgt := 33) (q := 25) B dJ26_numberOfLeadingZeros_22 rfl (by decide) (iff_true_intro (by decide)) (fun _ => ?_) (fun z => absurd trivial z)
  refine g_iload_n (q := 34) B dJ26_numberOfLeadingZeros_33 rfl rfl ?_
  refine g_sipush (v := nI 256) (q := 37) B dJ26_numberOfLeadingZeros_34 rfl (by decide) ?_
  refine g_icmp_lt (tgt := 48) (q := 40) B dJ26_numberOfLeadingZeros_37 rfl (by decide) (iff_true_intro (by decide)) (fun _ => ?_) (fun z => absurd trivial z)
  refine g_iload_n (q := 49) B dJ26_numberOfLeadingZeros_48 rfl rfl ?_
  refine g_bipush (v := nI 16) (q := 51) B dJ26_numberOfLeadingZeros_49 rfl (by decide) ?_
  refine g_icmp_lt (tgt := 61) (q := 54) B dJ26_numberOfLeadingZeros_51 rfl (by decide) (iff_true_intro (by decide)) (fun _ => ?_) (fun z => absurd trivial z)
  refine g_iload_n (q := 62) B dJ26_numberOfLeadingZeros_61 rfl rfl ?_
  refine g_iconst (v := nI 4) (q := 63) B dJ26_numberOfLeadingZeros_62 rfl (by decide) ?_
  refine g_icmp_lt (tgt := 73) (q := 66) B dJ26_numberOfLeadingZeros_63 rfl (by decide) (iff_false_intro (by decide)) (fun z => z.elim) (fun _ => ?_)
  refine g_iinc (v := nI 29) (q := 69) (lv2 := [some (.int (nI 4)), some (.int (nI 29))]) B dJ26_numberOfLeadingZeros_66 rfl rfl (by decide) (Nat.le_of_ble_eq_true rfl) rfl ?_
  refine g_iload_n (q := 70) B dJ26_numberOfLeadingZeros_69 rfl rfl ?_
  refine g_iconst (v := nI 2) (q := 71) B dJ26_numberOfLeadingZeros_70 rfl (by decide) ?_
  refine g_iushr (v := nI 1) (q := 72) B dJ26_numberOfLeadingZeros_71 rfl (by decide) ?_
  refine g_istore_n (q := 73) (lv2 := [some (.int (nI 1)), some (.int (nI 29))]) B dJ26_numberOfLeadingZeros_72 rfl (Nat.le_of_ble_eq_true rfl) rfl ?_
  refine g_iload_n (q := 74) B dJ26_numberOfLeadingZeros_73 rfl rfl ?_
  refine g_iload_n (q := 75) B dJ26_numberOfLeadingZeros_74 rfl rfl ?_
  refine g_iconst (v := nI 1) (q := 76) B dJ26_numberOfLeadingZeros_75 rfl (by decide) ?_
  refine g_iushr (v := nI 0) (q := 77) B dJ26_numberOfLeadingZeros_76 rfl (by decide) ?_
  refine g_isub (v := nI 29) (q := 78) B dJ26_numberOfLeadingZeros_77 rfl (by decide) ?_
  exact g_iret B E dJ26_numberOfLeadingZeros_78 (⟨rfl, rfl⟩)
theorem ct_J10_red_3 (g : Gv) (J : Jd g)  : Ct g yJ10_computeRedLevel (ws_ yJ10_computeRedLevel cJ10_computeRedLevel 1 (some .int)) 1 0 0 [.int (nI 3)] [] (fun (rv_ : Option Value) (rL_ : List va_W) => rv_ = some (.int (nI 2)) ∧ rL_ = []) noX := by
  refine Ct.of "java/util/TreeMap" [some (.int (nI 3))] rfl (by decide) rfl (Nat.le_of_ble_eq_true rfl) rfl ?_
  intro κ B E tb
  refine g_bipush (v := nI 31) (q := 2) B dJ10_computeRedLevel_0 rfl (by decide) ?_
  refine g_iload_n (q := 3) B dJ10_computeRedLevel_2 rfl rfl ?_
  refine g_iconst (v := nI 1) (q := 4) B dJ10_computeRedLevel_3 rfl (by decide) ?_
  refine g_iadd (v := nI 4) (q := 5) B dJ10_computeRedLevel_4 rfl (nI_add _ _) ?_
  refine g_callS (q := 8) (is := []) (kc2 := 0) (ks2 := 0) B [.int (nI 4)] (ct_J26_nlz_4 g J   ) dJ10_computeRedLevel_5 rfl q2669 q1537 q111 q1538 rfl rfl moJ26_numberOfLeadingZeros rfl rfl (by decide) (by decide) (Nat.le_of_ble_eq_true rfl) (Nat.le_of_ble_eq_true rfl) (Nat.le_of_ble_eq_true rfl) (fun _ _ hx => noX_x hx) (fun v5 L1 hp5 => ?_)
  obtain ⟨rfl, rfl⟩ := hp5
  refine (show Go g κ 8 [some (.int (nI 3))] [.int (nI 29), .int (nI 31)] [] 0 0 from ?_)
  refine g_isub (v := nI 2) (q := 9) B dJ10_computeRedLevel_8 rfl (by decide) ?_
  exact g_iret B E dJ10_computeRedLevel_9 (⟨rfl, rfl⟩)
theorem ct_J26_nlz_5 (g : Gv) (J : Jd g)  : Ct g yJ26_numberOfLeadingZeros (ws_ yJ26_numberOfLeadingZeros cJ26_numberOfLeadingZeros 2 (some .int)) 0 0 0 [.int (nI 5)] [] (fun (rv_ : Option Value) (rL_ : List va_W) => rv_ = some (.int (nI 29)) ∧ rL_ = []) noX := by
  refine Ct.of "java/lang/Integer" [some (.int (nI 5)), none] rfl (by decide) rfl (Nat.le_of_ble_eq_true rfl) rfl ?_
  intro κ B E tb
  refine g_iload_n (q := 1) B dJ26_numberOfLeadingZeros_0 rfl rfl ?_
  refine g_if_gt (tgt := 15) (q := 4) B dJ26_numberOfLeadingZeros_1 rfl (by decide) (iff_true_intro (by decide)) (fun _ => ?_) (fun z => absurd trivial z)
  refine g_bipush (v := nI 31) (q := 17) B dJ26_numberOfLeadingZeros_15 rfl (by decide) ?_
  refine g_istore_n (q := 18) (lv2 := [some (.int (nI 5)), some (.int (nI 31))]) B dJ26_numberOfLeadingZeros_17 rfl (Nat.le_of_ble_eq_true rfl) rfl ?_
  refine g_iload_n (q := 19) B dJ26_numberOfLeadingZeros_18 rfl rfl ?_
  refine g_ldcw (v := nI 65536) (q := 22) B dJ26_numberOfLeadingZeros_19 rfl q684 ?_
  refine g_icmp_lt (tgt := 33) (q := 25) B dJ26_numberOfLeadingZeros_22 rfl (by decide) (iff_true_intro (by decide)) (fun _ => ?_) (fun z => absurd trivial z)
  refine g_iload_n (q := 34) B dJ26_numberOfLeadingZeros_33 rfl rfl ?_
  refine g_sipush (v := nI 256) (q := 37) B dJ26_numberOfLeadingZeros_34 rfl (by decide) ?_
  refine g_icmp_lt (tgt := 48) (q := 40) B dJ26_numberOfLeadingZeros_37 rfl (by decide) (iff_true_intro (by decide)) (fun _ => ?_) (fun z => absurd trivial z)
  refine g_iload_n (q := 49) B dJ26_numberOfLeadingZeros_48 rfl rfl ?_
  refine g_bipush (v := nI 16) (q := 51) B dJ26_numberOfLeadingZeros_49 rfl (by decide) ?_
  refine g_icmp_lt (tgt := 61) (q := 54) B dJ26_numberOfLeadingZeros_51 rfl (by decide) (iff_true_intro (by decide)) (fun _ => ?_) (fun z => absurd trivial z)
  refine g_iload_n (q := 62) B dJ26_numberOfLeadingZeros_61 rfl rfl ?_
  refine g_iconst (v := nI 4) (q := 63) B dJ26_numberOfLeadingZeros_62 rfl (by decide) ?_
  refine g_icmp_lt (tgt := 73) (q := 66) B dJ26_numberOfLeadingZeros_63 rfl (by decide) (iff_false_intro (by decide)) (fun z => z.elim) (fun _ => ?_)
  refine g_iinc (v := nI 29) (q := 69) (lv2 := [some (.int (nI 5)), some (.int (nI 29))]) B dJ26_numberOfLeadingZeros_66 rfl rfl (by decide) (Nat.le_of_ble_eq_true rfl) rfl ?_
  refine g_iload_n (q := 70) B dJ26_numberOfLeadingZeros_69 rfl rfl ?_
  refine g_iconst (v := nI 2) (q := 71) B dJ26_numberOfLeadingZeros_70 rfl (by decide) ?_
  refine g_iushr (v := nI 1) (q := 72) B dJ26_numberOfLeadingZeros_71 rfl (by decide) ?_
  refine g_istore_n (q := 73) (lv2 := [some (.int (nI 1)), some (.int (nI 29))]) B dJ26_numberOfLeadingZeros_72 rfl (Nat.le_of_ble_eq_true rfl) rfl ?_
  refine g_iload_n (q := 74) B dJ26_numberOfLeadingZeros_73 rfl rfl ?_
  refine g_iload_n (q := 75) B dJ26_numberOfLeadingZeros_74 rfl rfl ?_
  refine g_iconst (v := nI 1) (q := 76) B dJ26_numberOfLeadingZeros_75 rfl (by decide) ?_
  refine g_iushr (v := nI 0) (q := 77) B dJ26_numberOfLeadingZeros_76 rfl (by decide) ?_
  refine g_isub (v := nI 29) (q := 78) B dJ26_numberOfLeadingZeros_77 rfl (by decide) ?_
  exact g_iret B E dJ26_numberOfLeadingZeros_78 (⟨rfl, rfl⟩)
theorem ct_J10_red_4 (g : Gv) (J : Jd g)  : Ct g yJ10_computeRedLevel (ws_ yJ10_computeRedLevel cJ10_computeRedLevel 1 (some .int)) 1 0 0 [.int (nI 4)] [] (fun (rv_ : Option Value) (rL_ : List va_W) => rv_ = some (.int (nI 2)) ∧ rL_ = []) noX := by
  refine Ct.of "java/util/TreeMap" [some (.int (nI 4))] rfl (by decide) rfl (Nat.le_of_ble_eq_true rfl) rfl ?_
  intro κ B E tb
  refine g_bipush (v := nI 31) (q := 2) B dJ10_computeRedLevel_0 rfl (by decide) ?_
  refine g_iload_n (q := 3) B dJ10_computeRedLevel_2 rfl rfl ?_
  refine g_iconst (v := nI 1) (q := 4) B dJ10_computeRedLevel_3 rfl (by decide) ?_
  refine g_iadd (v := nI 5) (q := 5) B dJ10_computeRedLevel_4 rfl (nI_add _ _) ?_
  refine g_callS (q := 8) (is := []) (kc2 := 0) (ks2 := 0) B [.int (nI 5)] (ct_J26_nlz_5 g J   ) dJ10_computeRedLevel_5 rfl q2669 q1537 q111 q1538 rfl rfl moJ26_numberOfLeadingZeros rfl rfl (by decide) (by decide) (Nat.le_of_ble_eq_true rfl) (Nat.le_of_ble_eq_true rfl) (Nat.le_of_ble_eq_true rfl) (fun _ _ hx => noX_x hx) (fun v5 L1 hp5 => ?_)
  obtain ⟨rfl, rfl⟩ := hp5
  refine (show Go g κ 8 [some (.int (nI 4))] [.int (nI 29), .int (nI 31)] [] 0 0 from ?_)
  refine g_isub (v := nI 2) (q := 9) B dJ10_computeRedLevel_8 rfl (by decide) ?_
  exact g_iret B E dJ10_computeRedLevel_9 (⟨rfl, rfl⟩)
theorem moJ10_computeRedLevel : Mo yJ10_computeRedLevel 1 := by
  refine ⟨by decide, by decide, by decide +kernel⟩
theorem ct_bfs_1 (g : Gv) (J : Jd g) {b : Nat} {bvs : Option Nat} {brt : Option Nat} {bn : Nat} {bmd : Nat} {bes : Option Nat} {bnk : Option Nat} {t : Nat} {vs : Option Nat} {n : Nat} {md : Nat} {es : Option Nat} {nk : Option Nat} {ns : List Nat} {key : Nat → Nat} {val : Nat → Nat} {l : Nat → Option Nat} {r : Nat → Option Nat} {p : Nat → Option Nat} {col : Nat → Bool} {lo : Nat → Nat} {hi : Nat → Nat} {root : Option Nat} {i : Nat} {la : Option Nat} {a1 : Nat} {w2 : va_W} (hw2 : EntG g ns key val l r p col w2) (hT : Tr ns key l r p lo hi root 128) (ha1 : a1 ∈ ns) : Ct g yJ10_buildFromSorted (ws_ yJ10_buildFromSorted cJ10_buildFromSorted 5 none) 9 1 6 [.ref b, .int (nI 1), .ref i, .null, .null] [[(b, .inr (27, [.null, va_rf bvs, .null, va_rf brt, .int (nI bn), .int (nI bmd), va_rf bes, va_rf bnk, .null]))], [(t, .inr (27, [.null, va_rf vs, .null, va_rf root, .int (nI n), .int (nI md), va_rf es, va_rf nk, .null]))], w2, [(i, .inr (34, [.ref a1, va_rf la, .int (nI md), .ref t]))]] (fun (rv_ : Option Value) (rL_ : List va_W) => ∃ (m1 : Nat) (e : Option Nat), rv_ = none ∧ rL_ = [[(b, .inr (27, [.null, va_rf bvs, .null, .ref m1, .int (nI 1), .int (nI bmd), va_rf bes, va_rf bnk, .null]))], [(t, .inr (27, [.null, va_rf vs, .null, va_rf root, .int (nI n), .int (nI md), va_rf es, va_rf nk, .null]))], w2, [(i, .inr (34, [va_rf e, .ref a1, .int (nI md), .ref t]))], [(m1, .inr (28, [.ref (kI g (key a1)), .ref (val a1), .null, .null, .null, .int (nI 1)]))]] ∧ (Lf ns key (key a1 + 1) e)) noX := by
  refine Ct.of "java/util/TreeMap" [some (.ref b), some (.int (nI 1)), some (.ref i), some (.null), some (.null)] rfl (by decide) rfl (Nat.le_of_ble_eq_true rfl) rfl ?_
  intro κ B E tb
  refine g_aload_n (q := 1) B dJ10_buildFromSorted_0 rfl rfl (rv_r _) ?_
  refine g_iload_n (q := 2) B dJ10_buildFromSorted_1 rfl rfl ?_
  refine g_put (q := 5) (L2 := [[(b, .inr (27, [.null, va_rf bvs, .null, va_rf brt, .int (nI 1), .int (nI bmd), va_rf bes, va_rf bnk, .null]))], [(t, .inr (27, [.null, va_rf vs, .null, va_rf root, .int (nI n), .int (nI md), va_rf es, va_rf nk, .null]))], w2, [(i, .inr (34, [.ref a1, va_rf la, .int (nI md), .ref t]))]]) B (ci := 27) (k := 0) (j := 4) in_J10 tyJ10 tyJ10_ok nmJ10 rfl dJ10_buildFromSorted_2 rfl rfl (Nat.le_of_ble_eq_true rfl) q1872 rfl rfl rfl rfl (Nat.le_of_ble_eq_true rfl) rfl ?_
  refine g_aload_n (q := 6) B dJ10_buildFromSorted_5 rfl rfl (rv_r _) ?_
  refine g_aload_n (q := 7) B dJ10_buildFromSorted_6 rfl rfl (rv_r _) ?_
  refine g_iconst (v := nI 0) (q := 8) B dJ10_buildFromSorted_7 rfl (by decide) ?_
  refine g_iconst (v := nI 0) (q := 9) B dJ10_buildFromSorted_8 rfl (by decide) ?_
  refine g_iload_n (q := 10) B dJ10_buildFromSorted_9 rfl rfl ?_
  refine g_iconst (v := nI 1) (q := 11) B dJ10_buildFromSorted_10 rfl (by decide) ?_
  refine g_isub (v := nI 0) (q := 12) B dJ10_buildFromSorted_11 rfl (by decide) ?_
  refine g_iload_n (q := 13) B dJ10_buildFromSorted_12 rfl rfl ?_
  refine g_callS (q := 16) (is := []) (kc2 := 1) (ks2 := 6) B [.int (nI 1)] (ct_J10_red_1 g J   ) dJ10_buildFromSorted_13 rfl q2666 q2667 q91 q2668 rfl rfl moJ10_computeRedLevel rfl rfl (by decide) (by decide) (Nat.le_of_ble_eq_true rfl) (Nat.le_of_ble_eq_true rfl) (Nat.le_of_ble_eq_true rfl) (fun _ _ hx => noX_x hx) (fun v13 L1 hp13 => ?_)
  obtain ⟨rfl, rfl⟩ := hp13
  refine (show Go g κ 16 [some (.ref b), some (.int (nI 1)), some (.ref i), some (.null), some (.null)] [.int (nI 1), .int (nI 0), .int (nI 0), .int (nI 0), .ref b, .ref b] [[(b, .inr (27, [.null, va_rf bvs, .null, va_rf brt, .int (nI 1), .int (nI bmd), va_rf bes, va_rf bnk, .null]))], [(t, .inr (27, [.null, va_rf vs, .null, va_rf root, .int (nI n), .int (nI md), va_rf es, va_rf nk, .null]))], w2, [(i, .inr (34, [.ref a1, va_rf la, .int (nI md), .ref t]))]] 1 6 from ?_)
  refine g_aload_n (q := 17) B dJ10_buildFromSorted_16 rfl rfl (rv_r _) ?_
  refine g_aload_n (q := 18) B dJ10_buildFromSorted_17 rfl rfl rv_n ?_
  refine g_aload (q := 20) B dJ10_buildFromSorted_18 rfl rfl rv_n ?_
  refine g_callV (q := 23) (is := [0, 0, 0, 0]) (kc2 := 0) (ks2 := 0) B [.int (nI 0), .int (nI 0), .int (nI 0), .int (nI 1), .ref i, .null, .null] (ct_bf0001 g J (b := b) (bvs := bvs) (brt := brt) (bn := 1) (bmd := bmd) (bes := bes) (bnk := bnk) (t := t) (vs := vs) (n := n) (md := md) (es := es) (nk := nk) (ns := ns) (key := key) (val := val) (l := l) (r := r) (p := p) (col := col) (lo := lo) (hi := hi) (root := root) (i := i) (la := la) (a1 := a1) hw2 (by first | assumption | omega | rfl) (by first | assumption | omega | rfl)) dJ10_buildFromSorted_20 rfl (rc_at B (ci := 27) rfl (k := 0) rfl) rfl q2670 q2672 qs41 q91 q2673 rfl rfl moJ10_buildFromSorted_2 rfl rfl (by decide) (by decide) (Nat.le_of_ble_eq_true rfl) (Nat.le_of_ble_eq_true rfl) (Nat.le_of_ble_eq_true rfl) (fun _ _ hx => noX_x hx) (fun v20 L1 hp20 => ?_)
  obtain ⟨m1, e20, rfl, rfl, he_20⟩ := hp20
  refine (show Go g κ 23 [some (.ref b), some (.int (nI 1)), some (.ref i), some (.null), some (.null)] [.ref m1, .ref b] [[(b, .inr (27, [.null, va_rf bvs, .null, va_rf brt, .int (nI 1), .int (nI bmd), va_rf bes, va_rf bnk, .null]))], [(t, .inr (27, [.null, va_rf vs, .null, va_rf root, .int (nI n), .int (nI md), va_rf es, va_rf nk, .null]))], w2, [(i, .inr (34, [va_rf e20, .ref a1, .int (nI md), .ref t]))], [(m1, .inr (28, [.ref (kI g (key a1)), .ref (val a1), .null, .null, .null, .int (nI 1)]))]] 0 0 from ?_)
  refine g_put (q := 26) (L2 := [[(b, .inr (27, [.null, va_rf bvs, .null, .ref m1, .int (nI 1), .int (nI bmd), va_rf bes, va_rf bnk, .null]))], [(t, .inr (27, [.null, va_rf vs, .null, va_rf root, .int (nI n), .int (nI md), va_rf es, va_rf nk, .null]))], w2, [(i, .inr (34, [va_rf e20, .ref a1, .int (nI md), .ref t]))], [(m1, .inr (28, [.ref (kI g (key a1)), .ref (val a1), .null, .null, .null, .int (nI 1)]))]]) B (ci := 27) (k := 0) (j := 3) in_J10 tyJ10 tyJ10_ok nmJ10 rfl dJ10_buildFromSorted_23 rfl rfl (Nat.le_of_ble_eq_true rfl) q1871 rfl rfl rfl rfl (Nat.le_of_ble_eq_true rfl) rfl ?_
  exact g_vret B E dJ10_buildFromSorted_26 (⟨m1, _, rfl, rfl, he_20⟩)
theorem ct_bfs_2 (g : Gv) (J : Jd g) {b : Nat} {bvs : Option Nat} {brt : Option Nat} {bn : Nat} {bmd : Nat} {bes : Option Nat} {bnk : Option Nat} {t : Nat} {vs : Option Nat} {n : Nat} {md : Nat} {es : Option Nat} {nk : Option Nat} {ns : List Nat} {key : Nat → Nat} {val : Nat → Nat} {l : Nat → Option Nat} {r : Nat → Option Nat} {p : Nat → Option Nat} {col : Nat → Bool} {lo : Nat → Nat} {hi : Nat → Nat} {root : Option Nat} {i : Nat} {la : Option Nat} {a1 : Nat} {a2 : Nat} {w2 : va_W} (hw2 : EntG g ns key val l r p col w2) (hT : Tr ns key l r p lo hi root 128) (ha1 : a1 ∈ ns) (hc1 : Lf ns key (key a1 + 1) (some a2)) : Ct g yJ10_buildFromSorted (ws_ yJ10_buildFromSorted cJ10_buildFromSorted 5 none) 9 2 12 [.ref b, .int (nI 2), .ref i, .null, .null] [[(b, .inr (27, [.null, va_rf bvs, .null, va_rf brt, .int (nI bn), .int (nI bmd), va_rf bes, va_rf bnk, .null]))], [(t, .inr (27, [.null, va_rf vs, .null, va_rf root, .int (nI n), .int (nI md), va_rf es, va_rf nk, .null]))], w2, [(i, .inr (34, [.ref a1, va_rf la, .int (nI md), .ref t]))]] (fun (rv_ : Option Value) (rL_ : List va_W) => ∃ (m1 : Nat) (m2 : Nat) (e : Option Nat), rv_ = none ∧ rL_ = [[(b, .inr (27, [.null, va_rf bvs, .null, .ref m1, .int (nI 2), .int (nI bmd), va_rf bes, va_rf bnk, .null]))], [(t, .inr (27, [.null, va_rf vs, .null, va_rf root, .int (nI n), .int (nI md), va_rf es, va_rf nk, .null]))], w2, [(i, .inr (34, [va_rf e, .ref a2, .int (nI md), .ref t]))], [(m1, .inr (28, [.ref (kI g (key a1)), .ref (val a1), .null, .ref m2, .null, .int (nI 1)]))], [(m2, .inr (28, [.ref (kI g (key a2)), .ref (val a2), .null, .null, .ref m1, .int (nI 0)]))]] ∧ (Lf ns key (key a2 + 1) e)) noX := by
  refine Ct.of "java/util/TreeMap" [some (.ref b), some (.int (nI 2)), some (.ref i), some (.null), some (.null)] rfl (by decide) rfl (Nat.le_of_ble_eq_true rfl) rfl ?_
  intro κ B E tb
  refine g_aload_n (q := 1) B dJ10_buildFromSorted_0 rfl rfl (rv_r _) ?_
  refine g_iload_n (q := 2) B dJ10_buildFromSorted_1 rfl rfl ?_
  refine g_put (q := 5) (L2 := [[(b, .inr (27, [.null, va_rf bvs, .null, va_rf brt, .int (nI 2), .int (nI bmd), va_rf bes, va_rf bnk, .null]))], [(t, .inr (27, [.null, va_rf vs, .null, va_rf root, .int (nI n), .int (nI md), va_rf es, va_rf nk, .null]))], w2, [(i, .inr (34, [.ref a1, va_rf la, .int (nI md), .ref t]))]]) B (ci := 27) (k := 0) (j := 4) in_J10 tyJ10 tyJ10_ok nmJ10 rfl dJ10_buildFromSorted_2 rfl rfl (Nat.le_of_ble_eq_true rfl) q1872 rfl rfl rfl rfl (Nat.le_of_ble_eq_true rfl) rfl ?_
  refine g_aload_n (q := 6) B dJ10_buildFromSorted_5 rfl rfl (rv_r _) ?_
  refine g_aload_n (q := 7) B dJ10_buildFromSorted_6 rfl rfl (rv_r _) ?_
  refine g_iconst (v := nI 0) (q := 8) B dJ10_buildFromSorted_7 rfl (by decide) ?_
  refine g_iconst (v := nI 0) (q := 9) B dJ10_buildFromSorted_8 rfl (by decide) ?_
  refine g_iload_n (q := 10) B dJ10_buildFromSorted_9 rfl rfl ?_
  refine g_iconst (v := nI 1) (q := 11) B dJ10_buildFromSorted_10 rfl (by decide) ?_
  refine g_isub (v := nI 1) (q := 12) B dJ10_buildFromSorted_11 rfl (by decide) ?_
  refine g_iload_n (q := 13) B dJ10_buildFromSorted_12 rfl rfl ?_
  refine g_callS (q := 16) (is := []) (kc2 := 2) (ks2 := 12) B [.int (nI 2)] (ct_J10_red_2 g J   ) dJ10_buildFromSorted_13 rfl q2666 q2667 q91 q2668 rfl rfl moJ10_computeRedLevel rfl rfl (by decide) (by decide) (Nat.le_of_ble_eq_true rfl) (Nat.le_of_ble_eq_true rfl) (Nat.le_of_ble_eq_true rfl) (fun _ _ hx => noX_x hx) (fun v13 L1 hp13 => ?_)
  obtain ⟨rfl, rfl⟩ := hp13
  refine (show Go g κ 16 [some (.ref b), some (.int (nI 2)), some (.ref i), some (.null), some (.null)] [.int (nI 1), .int (nI 1), .int (nI 0), .int (nI 0), .ref b, .ref b] [[(b, .inr (27, [.null, va_rf bvs, .null, va_rf brt, .int (nI 2), .int (nI bmd), va_rf bes, va_rf bnk, .null]))], [(t, .inr (27, [.null, va_rf vs, .null, va_rf root, .int (nI n), .int (nI md), va_rf es, va_rf nk, .null]))], w2, [(i, .inr (34, [.ref a1, va_rf la, .int (nI md), .ref t]))]] 2 12 from ?_)
  refine g_aload_n (q := 17) B dJ10_buildFromSorted_16 rfl rfl (rv_r _) ?_
  refine g_aload_n (q := 18) B dJ10_buildFromSorted_17 rfl rfl rv_n ?_
  refine g_aload (q := 20) B dJ10_buildFromSorted_18 rfl rfl rv_n ?_
  refine g_callV (q := 23) (is := [0, 0, 0, 0]) (kc2 := 0) (ks2 := 0) B [.int (nI 0), .int (nI 0), .int (nI 1), .int (nI 1), .ref i, .null, .null] (ct_bf0011 g J (b := b) (bvs := bvs) (brt := brt) (bn := 2) (bmd := bmd) (bes := bes) (bnk := bnk) (t := t) (vs := vs) (n := n) (md := md) (es := es) (nk := nk) (ns := ns) (key := key) (val := val) (l := l) (r := r) (p := p) (col := col) (lo := lo) (hi := hi) (root := root) (i := i) (la := la) (a1 := a1) (a2 := a2) hw2 (by first | assumption | omega | rfl) (by first | assumption | omega | rfl) (by first | assumption | omega | rfl)) dJ10_buildFromSorted_20 rfl (rc_at B (ci := 27) rfl (k := 0) rfl) rfl q2670 q2672 qs41 q91 q2673 rfl rfl moJ10_buildFromSorted_2 rfl rfl (by decide) (by decide) (Nat.le_of_ble_eq_true rfl) (Nat.le_of_ble_eq_true rfl) (Nat.le_of_ble_eq_true rfl) (fun _ _ hx => noX_x hx) (fun v20 L1 hp20 => ?_)
  obtain ⟨m1, m2, e20, rfl, rfl, he_20⟩ := hp20
  refine (show Go g κ 23 [some (.ref b), some (.int (nI 2)), some (.ref i), some (.null), some (.null)] [.ref m1, .ref b] [[(b, .inr (27, [.null, va_rf bvs, .null, va_rf brt, .int (nI 2), .int (nI bmd), va_rf bes, va_rf bnk, .null]))], [(t, .inr (27, [.null, va_rf vs, .null, va_rf root, .int (nI n), .int (nI md), va_rf es, va_rf nk, .null]))], w2, [(i, .inr (34, [va_rf e20, .ref a2, .int (nI md), .ref t]))], [(m1, .inr (28, [.ref (kI g (key a1)), .ref (val a1), .null, .ref m2, .null, .int (nI 1)]))], [(m2, .inr (28, [.ref (kI g (key a2)), .ref (val a2), .null, .null, .ref m1, .int (nI 0)]))]] 0 0 from ?_)
  refine g_put (q := 26) (L2 := [[(b, .inr (27, [.null, va_rf bvs, .null, .ref m1, .int (nI 2), .int (nI bmd), va_rf bes, va_rf bnk, .null]))], [(t, .inr (27, [.null, va_rf vs, .null, va_rf root, .int (nI n), .int (nI md), va_rf es, va_rf nk, .null]))], w2, [(i, .inr (34, [va_rf e20, .ref a2, .int (nI md), .ref t]))], [(m1, .inr (28, [.ref (kI g (key a1)), .ref (val a1), .null, .ref m2, .null, .int (nI 1)]))], [(m2, .inr (28, [.ref (kI g (key a2)), .ref (val a2), .null, .null, .ref m1, .int (nI 0)]))]]) B (ci := 27) (k := 0) (j := 3) in_J10 tyJ10 tyJ10_ok nmJ10 rfl dJ10_buildFromSorted_23 rfl rfl (Nat.le_of_ble_eq_true rfl) q1871 rfl rfl rfl rfl (Nat.le_of_ble_eq_true rfl) rfl ?_
  exact g_vret B E dJ10_buildFromSorted_26 (⟨m1, m2, _, rfl, rfl, he_20⟩)
theorem ct_bfs_3 (g : Gv) (J : Jd g) {b : Nat} {bvs : Option Nat} {brt : Option Nat} {bn : Nat} {bmd : Nat} {bes : Option Nat} {bnk : Option Nat} {t : Nat} {vs : Option Nat} {n : Nat} {md : Nat} {es : Option Nat} {nk : Option Nat} {ns : List Nat} {key : Nat → Nat} {val : Nat → Nat} {l : Nat → Option Nat} {r : Nat → Option Nat} {p : Nat → Option Nat} {col : Nat → Bool} {lo : Nat → Nat} {hi : Nat → Nat} {root : Option Nat} {i : Nat} {la : Option Nat} {a1 : Nat} {a2 : Nat} {a3 : Nat} {w2 : va_W} (hw2 : EntG g ns key val l r p col w2) (hT : Tr ns key l r p lo hi root 128) (ha1 : a1 ∈ ns) (hc1 : Lf ns key (key a1 + 1) (some a2)) (hc2 : Lf ns key (key a2 + 1) (some a3)) : Ct g yJ10_buildFromSorted (ws_ yJ10_buildFromSorted cJ10_buildFromSorted 5 none) 9 3 18 [.ref b, .int (nI 3), .ref i, .null, .null] [[(b, .inr (27, [.null, va_rf bvs, .null, va_rf brt, .int (nI bn), .int (nI bmd), va_rf bes, va_rf bnk, .null]))], [(t, .inr (27, [.null, va_rf vs, .null, va_rf root, .int (nI n), .int (nI md), va_rf es, va_rf nk, .null]))], w2, [(i, .inr (34, [.ref a1, va_rf la, .int (nI md), .ref t]))]] (fun (rv_ : Option Value) (rL_ : List va_W) => ∃ (m1 : Nat) (m2 : Nat) (m3 : Nat) (e : Option Nat), rv_ = none ∧ rL_ = [[(b, .inr (27, [.null, va_rf bvs, .null, .ref m2, .int (nI 3), .int (nI bmd), va_rf bes, va_rf bnk, .null]))], [(t, .inr (27, [.null, va_rf vs, .null, va_rf root, .int (nI n), .int (nI md), va_rf es, va_rf nk, .null]))], w2, [(i, .inr (34, [va_rf e, .ref a3, .int (nI md), .ref t]))], [(m1, .inr (28, [.ref (kI g (key a1)), .ref (val a1), .null, .null, .ref m2, .int (nI 1)]))], [(m2, .inr (28, [.ref (kI g (key a2)), .ref (val a2), .ref m1, .ref m3, .null, .int (nI 1)]))], [(m3, .inr (28, [.ref (kI g (key a3)), .ref (val a3), .null, .null, .ref m2, .int (nI 1)]))]] ∧ (Lf ns key (key a3 + 1) e)) noX := by
  refine Ct.of "java/util/TreeMap" [some (.ref b), some (.int (nI 3)), some (.ref i), some (.null), some (.null)] rfl (by decide) rfl (Nat.le_of_ble_eq_true rfl) rfl ?_
  intro κ B E tb
  refine g_aload_n (q := 1) B dJ10_buildFromSorted_0 rfl rfl (rv_r _) ?_
  refine g_iload_n (q := 2) B dJ10_buildFromSorted_1 rfl rfl ?_
  refine g_put (q := 5) (L2 := [[(b, .inr (27, [.null, va_rf bvs, .null, va_rf brt, .int (nI 3), .int (nI bmd), va_rf bes, va_rf bnk, .null]))], [(t, .inr (27, [.null, va_rf vs, .null, va_rf root, .int (nI n), .int (nI md), va_rf es, va_rf nk, .null]))], w2, [(i, .inr (34, [.ref a1, va_rf la, .int (nI md), .ref t]))]]) B (ci := 27) (k := 0) (j := 4) in_J10 tyJ10 tyJ10_ok nmJ10 rfl dJ10_buildFromSorted_2 rfl rfl (Nat.le_of_ble_eq_true rfl) q1872 rfl rfl rfl rfl (Nat.le_of_ble_eq_true rfl) rfl ?_
  refine g_aload_n (q := 6) B dJ10_buildFromSorted_5 rfl rfl (rv_r _) ?_
  refine g_aload_n (q := 7) B dJ10_buildFromSorted_6 rfl rfl (rv_r _) ?_
  refine g_iconst (v := nI 0) (q := 8) B dJ10_buildFromSorted_7 rfl (by decide) ?_
  refine g_iconst (v := nI 0) (q := 9) B dJ10_buildFromSorted_8 rfl (by decide) ?_
  refine g_iload_n (q := 10) B dJ10_buildFromSorted_9 rfl rfl ?_
  refine g_iconst (v := nI 1) (q := 11) B dJ10_buildFromSorted_10 rfl (by decide) ?_
  refine g_isub (v := nI 2) (q := 12) B dJ10_buildFromSorted_11 rfl (by decide) ?_
  refine g_iload_n (q := 13) B dJ10_buildFromSorted_12 rfl rfl ?_
  refine g_callS (q := 16) (is := []) (kc2 := 3) (ks2 := 18) B [.int (nI 3)] (ct_J10_red_3 g J   ) dJ10_buildFromSorted_13 rfl q2666 q2667 q91 q2668 rfl rfl moJ10_computeRedLevel rfl rfl (by decide) (by decide) (Nat.le_of_ble_eq_true rfl) (Nat.le_of_ble_eq_true rfl) (Nat.le_of_ble_eq_true rfl) (fun _ _ hx => noX_x hx) (fun v13 L1 hp13 => ?_)
  obtain ⟨rfl, rfl⟩ := hp13
  refine (show Go g κ 16 [some (.ref b), some (.int (nI 3)), some (.ref i), some (.null), some (.null)] [.int (nI 2), .int (nI 2), .int (nI 0), .int (nI 0), .ref b, .ref b] [[(b, .inr (27, [.null, va_rf bvs, .null, va_rf brt, .int (nI 3), .int (nI bmd), va_rf bes, va_rf bnk, .null]))], [(t, .inr (27, [.null, va_rf vs, .null, va_rf root, .int (nI n), .int (nI md), va_rf es, va_rf nk, .null]))], w2, [(i, .inr (34, [.ref a1, va_rf la, .int (nI md), .ref t]))]] 3 18 from ?_)
  refine g_aload_n (q := 17) B dJ10_buildFromSorted_16 rfl rfl (rv_r _) ?_
  refine g_aload_n (q := 18) B dJ10_buildFromSorted_17 rfl rfl rv_n ?_
  refine g_aload (q := 20) B dJ10_buildFromSorted_18 rfl rfl rv_n ?_
  refine g_callV (q := 23) (is := [0, 0, 0, 0]) (kc2 := 0) (ks2 := 0) B [.int (nI 0), .int (nI 0), .int (nI 2), .int (nI 2), .ref i, .null, .null] (ct_bf0022 g J (b := b) (bvs := bvs) (brt := brt) (bn := 3) (bmd := bmd) (bes := bes) (bnk := bnk) (t := t) (vs := vs) (n := n) (md := md) (es := es) (nk := nk) (ns := ns) (key := key) (val := val) (l := l) (r := r) (p := p) (col := col) (lo := lo) (hi := hi) (root := root) (i := i) (la := la) (a1 := a1) (a2 := a2) (a3 := a3) hw2 (by first | assumption | omega | rfl) (by first | assumption | omega | rfl) (by first | assumption | omega | rfl) (by first | assumption | omega | rfl)) dJ10_buildFromSorted_20 rfl (rc_at B (ci := 27) rfl (k := 0) rfl) rfl q2670 q2672 qs41 q91 q2673 rfl rfl moJ10_buildFromSorted_2 rfl rfl (by decide) (by decide) (Nat.le_of_ble_eq_true rfl) (Nat.le_of_ble_eq_true rfl) (Nat.le_of_ble_eq_true rfl) (fun _ _ hx => noX_x hx) (fun v20 L1 hp20 => ?_)
  obtain ⟨m1, m2, m3, e20, rfl, rfl, he_20⟩ := hp20
  refine (show Go g κ 23 [some (.ref b), some (.int (nI 3)), some (.ref i), some (.null), some (.null)] [.ref m2, .ref b] [[(b, .inr (27, [.null, va_rf bvs, .null, va_rf brt, .int (nI 3), .int (nI bmd), va_rf bes, va_rf bnk, .null]))], [(t, .inr (27, [.null, va_rf vs, .null, va_rf root, .int (nI n), .int (nI md), va_rf es, va_rf nk, .null]))], w2, [(i, .inr (34, [va_rf e20, .ref a3, .int (nI md), .ref t]))], [(m1, .inr (28, [.ref (kI g (key a1)), .ref (val a1), .null, .null, .ref m2, .int (nI 1)]))], [(m2, .inr (28, [.ref (kI g (key a2)), .ref (val a2), .ref m1, .ref m3, .null, .int (nI 1)]))], [(m3, .inr (28, [.ref (kI g (key a3)), .ref (val a3), .null, .null, .ref m2, .int (nI 1)]))]] 0 0 from ?_)
  refine g_put (q := 26) (L2 := [[(b, .inr (27, [.null, va_rf bvs, .null, .ref m2, .int (nI 3), .int (nI bmd), va_rf bes, va_rf bnk, .null]))], [(t, .inr (27, [.null, va_rf vs, .null, va_rf root, .int (nI n), .int (nI md), va_rf es, va_rf nk, .null]))], w2, [(i, .inr (34, [va_rf e20, .ref a3, .int (nI md), .ref t]))], [(m1, .inr (28, [.ref (kI g (key a1)), .ref (val a1), .null, .null, .ref m2, .int (nI 1)]))], [(m2, .inr (28, [.ref (kI g (key a2)), .ref (val a2), .ref m1, .ref m3, .null, .int (nI 1)]))], [(m3, .inr (28, [.ref (kI g (key a3)), .ref (val a3), .null, .null, .ref m2, .int (nI 1)]))]]) B (ci := 27) (k := 0) (j := 3) in_J10 tyJ10 tyJ10_ok nmJ10 rfl dJ10_buildFromSorted_23 rfl rfl (Nat.le_of_ble_eq_true rfl) q1871 rfl rfl rfl rfl (Nat.le_of_ble_eq_true rfl) rfl ?_
  exact g_vret B E dJ10_buildFromSorted_26 (⟨m1, m2, m3, _, rfl, rfl, he_20⟩)
theorem ct_bfs_4 (g : Gv) (J : Jd g) {b : Nat} {bvs : Option Nat} {brt : Option Nat} {bn : Nat} {bmd : Nat} {bes : Option Nat} {bnk : Option Nat} {t : Nat} {vs : Option Nat} {n : Nat} {md : Nat} {es : Option Nat} {nk : Option Nat} {ns : List Nat} {key : Nat → Nat} {val : Nat → Nat} {l : Nat → Option Nat} {r : Nat → Option Nat} {p : Nat → Option Nat} {col : Nat → Bool} {lo : Nat → Nat} {hi : Nat → Nat} {root : Option Nat} {i : Nat} {la : Option Nat} {a1 : Nat} {a2 : Nat} {a3 : Nat} {a4 : Nat} {w2 : va_W} (hw2 : EntG g ns key val l r p col w2) (hT : Tr ns key l r p lo hi root 128) (ha1 : a1 ∈ ns) (hc1 : Lf ns key (key a1 + 1) (some a2)) (hc2 : Lf ns key (key a2 + 1) (some a3)) (hc3 : Lf ns key (key a3 + 1) (some a4)) : Ct g yJ10_buildFromSorted (ws_ yJ10_buildFromSorted cJ10_buildFromSorted 5 none) 9 4 24 [.ref b, .int (nI 4), .ref i, .null, .null] [[(b, .inr (27, [.null, va_rf bvs, .null, va_rf brt, .int (nI bn), .int (nI bmd), va_rf bes, va_rf bnk, .null]))], [(t, .inr (27, [.null, va_rf vs, .null, va_rf root, .int (nI n), .int (nI md), va_rf es, va_rf nk, .null]))], w2, [(i, .inr (34, [.ref a1, va_rf la, .int (nI md), .ref t]))]] (fun (rv_ : Option Value) (rL_ : List va_W) => ∃ (m1 : Nat) (m2 : Nat) (m3 : Nat) (m4 : Nat) (e : Option Nat), rv_ = none ∧ rL_ = [[(b, .inr (27, [.null, va_rf bvs, .null, .ref m2, .int (nI 4), .int (nI bmd), va_rf bes, va_rf bnk, .null]))], [(t, .inr (27, [.null, va_rf vs, .null, va_rf root, .int (nI n), .int (nI md), va_rf es, va_rf nk, .null]))], w2, [(i, .inr (34, [va_rf e, .ref a4, .int (nI md), .ref t]))], [(m1, .inr (28, [.ref (kI g (key a1)), .ref (val a1), .null, .null, .ref m2, .int (nI 1)]))], [(m2, .inr (28, [.ref (kI g (key a2)), .ref (val a2), .ref m1, .ref m3, .null, .int (nI 1)]))], [(m3, .inr (28, [.ref (kI g (key a3)), .ref (val a3), .null, .ref m4, .ref m2, .int (nI 1)]))], [(m4, .inr (28, [.ref (kI g (key a4)), .ref (val a4), .null, .null, .ref m3, .int (nI 0)]))]] ∧ (Lf ns key (key a4 + 1) e)) noX := by
  refine Ct.of "java/util/TreeMap" [some (.ref b), some (.int (nI 4)), some (.ref i), some (.null), some (.null)] rfl (by decide) rfl (Nat.le_of_ble_eq_true rfl) rfl ?_
  intro κ B E tb
  refine g_aload_n (q := 1) B dJ10_buildFromSorted_0 rfl rfl (rv_r _) ?_
  refine g_iload_n (q := 2) B dJ10_buildFromSorted_1 rfl rfl ?_
  refine g_put (q := 5) (L2 := [[(b, .inr (27, [.null, va_rf bvs, .null, va_rf brt, .int (nI 4), .int (nI bmd), va_rf bes, va_rf bnk, .null]))], [(t, .inr (27, [.null, va_rf vs, .null, va_rf root, .int (nI n), .int (nI md), va_rf es, va_rf nk, .null]))], w2, [(i, .inr (34, [.ref a1, va_rf la, .int (nI md), .ref t]))]]) B (ci := 27) (k := 0) (j := 4) in_J10 tyJ10 tyJ10_ok nmJ10 rfl dJ10_buildFromSorted_2 rfl rfl (Nat.le_of_ble_eq_true rfl) q1872 rfl rfl rfl rfl (Nat.le_of_ble_eq_true rfl) rfl ?_
  refine g_aload_n (q := 6) B dJ10_buildFromSorted_5 rfl rfl (rv_r _) ?_
  refine g_aload_n (q := 7) B dJ10_buildFromSorted_6 rfl rfl (rv_r _) ?_
  refine g_iconst (v := nI 0) (q := 8) B dJ10_buildFromSorted_7 rfl (by decide) ?_
  refine g_iconst (v := nI 0) (q := 9) B dJ10_buildFromSorted_8 rfl (by decide) ?_
  refine g_iload_n (q := 10) B dJ10_buildFromSorted_9 rfl rfl ?_
  refine g_iconst (v := nI 1) (q := 11) B dJ10_buildFromSorted_10 rfl (by decide) ?_
  refine g_isub (v := nI 3) (q := 12) B dJ10_buildFromSorted_11 rfl (by decide) ?_
  refine g_iload_n (q := 13) B dJ10_buildFromSorted_12 rfl rfl ?_
  refine g_callS (q := 16) (is := []) (kc2 := 4) (ks2 := 24) B [.int (nI 4)] (ct_J10_red_4 g J   ) dJ10_buildFromSorted_13 rfl q2666 q2667 q91 q2668 rfl rfl moJ10_computeRedLevel rfl rfl (by decide) (by decide) (Nat.le_of_ble_eq_true rfl) (Nat.le_of_ble_eq_true rfl) (Nat.le_of_ble_eq_true rfl) (fun _ _ hx => noX_x hx) (fun v13 L1 hp13 => ?_)
  obtain ⟨rfl, rfl⟩ := hp13
  refine (show Go g κ 16 [some (.ref b), some (.int (nI 4)), some (.ref i), some (.null), some (.null)] [.int (nI 2), .int (nI 3), .int (nI 0), .int (nI 0), .ref b, .ref b] [[(b, .inr (27, [.null, va_rf bvs, .null, va_rf brt, .int (nI 4), .int (nI bmd), va_rf bes, va_rf bnk, .null]))], [(t, .inr (27, [.null, va_rf vs, .null, va_rf root, .int (nI n), .int (nI md), va_rf es, va_rf nk, .null]))], w2, [(i, .inr (34, [.ref a1, va_rf la, .int (nI md), .ref t]))]] 4 24 from ?_)
  refine g_aload_n (q := 17) B dJ10_buildFromSorted_16 rfl rfl (rv_r _) ?_
  refine g_aload_n (q := 18) B dJ10_buildFromSorted_17 rfl rfl rv_n ?_
  refine g_aload (q := 20) B dJ10_buildFromSorted_18 rfl rfl rv_n ?_
  refine g_callV (q := 23) (is := [0, 0, 0, 0]) (kc2 := 0) (ks2 := 0) B [.int (nI 0), .int (nI 0), .int (nI 3), .int (nI 2), .ref i, .null, .null] (ct_bf0032 g J (b := b) (bvs := bvs) (brt := brt) (bn := 4) (bmd := bmd) (bes := bes) (bnk := bnk) (t := t) (vs := vs) (n := n) (md := md) (es := es) (nk := nk) (ns := ns) (key := key) (val := val) (l := l) (r := r) (p := p) (col := col) (lo := lo) (hi := hi) (root := root) (i := i) (la := la) (a1 := a1) (a2 := a2) (a3 := a3) (a4 := a4) hw2 (by first | assumption | omega | rfl) (by first | assumption | omega | rfl) (by first | assumption | omega | rfl) (by first | assumption | omega | rfl) (by first | assumption | omega | rfl)) dJ10_buildFromSorted_20 rfl (rc_at B (ci := 27) rfl (k := 0) rfl) rfl q2670 q2672 qs41 q91 q2673 rfl rfl moJ10_buildFromSorted_2 rfl rfl (by decide) (by decide) (Nat.le_of_ble_eq_true rfl) (Nat.le_of_ble_eq_true rfl) (Nat.le_of_ble_eq_true rfl) (fun _ _ hx => noX_x hx) (fun v20 L1 hp20 => ?_)
  obtain ⟨m1, m2, m3, m4, e20, rfl, rfl, he_20⟩ := hp20
  refine (show Go g κ 23 [some (.ref b), some (.int (nI 4)), some (.ref i), some (.null), some (.null)] [.ref m2, .ref b] [[(b, .inr (27, [.null, va_rf bvs, .null, va_rf brt, .int (nI 4), .int (nI bmd), va_rf bes, va_rf bnk, .null]))], [(t, .inr (27, [.null, va_rf vs, .null, va_rf root, .int (nI n), .int (nI md), va_rf es, va_rf nk, .null]))], w2, [(i, .inr (34, [va_rf e20, .ref a4, .int (nI md), .ref t]))], [(m1, .inr (28, [.ref (kI g (key a1)), .ref (val a1), .null, .null, .ref m2, .int (nI 1)]))], [(m2, .inr (28, [.ref (kI g (key a2)), .ref (val a2), .ref m1, .ref m3, .null, .int (nI 1)]))], [(m3, .inr (28, [.ref (kI g (key a3)), .ref (val a3), .null, .ref m4, .ref m2, .int (nI 1)]))], [(m4, .inr (28, [.ref (kI g (key a4)), .ref (val a4), .null, .null, .ref m3, .int (nI 0)]))]] 0 0 from ?_)
  refine g_put (q := 26) (L2 := [[(b, .inr (27, [.null, va_rf bvs, .null, .ref m2, .int (nI 4), .int (nI bmd), va_rf bes, va_rf bnk, .null]))], [(t, .inr (27, [.null, va_rf vs, .null, va_rf root, .int (nI n), .int (nI md), va_rf es, va_rf nk, .null]))], w2, [(i, .inr (34, [va_rf e20, .ref a4, .int (nI md), .ref t]))], [(m1, .inr (28, [.ref (kI g (key a1)), .ref (val a1), .null, .null, .ref m2, .int (nI 1)]))], [(m2, .inr (28, [.ref (kI g (key a2)), .ref (val a2), .ref m1, .ref m3, .null, .int (nI 1)]))], [(m3, .inr (28, [.ref (kI g (key a3)), .ref (val a3), .null, .ref m4, .ref m2, .int (nI 1)]))], [(m4, .inr (28, [.ref (kI g (key a4)), .ref (val a4), .null, .null, .ref m3, .int (nI 0)]))]]) B (ci := 27) (k := 0) (j := 3) in_J10 tyJ10 tyJ10_ok nmJ10 rfl dJ10_buildFromSorted_23 rfl rfl (Nat.le_of_ble_eq_true rfl) q1871 rfl rfl rfl rfl (Nat.le_of_ble_eq_true rfl) rfl ?_
  exact g_vret B E dJ10_buildFromSorted_26 (⟨m1, m2, m3, m4, _, rfl, rfl, he_20⟩)
