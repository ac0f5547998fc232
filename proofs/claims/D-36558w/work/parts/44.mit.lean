set_option maxRecDepth 100000
theorem VwP.mv {t y : Nat} {es nk : Option Nat} {w : va_W} (h : VwP t (some y) es nk w) : (y, .inr (29, [.ref t])) ∈ w := by
  unfold VwP at h
  rw [h]; exact List.mem_cons_self
theorem VwP.mk {t y : Nat} {vs es : Option Nat} {w : va_W} (h : VwP t vs es (some y) w) : (y, .inr (30, [.ref t])) ∈ w := by
  unfold VwP at h
  rw [h]; simp
/-- a TreeMap with its view of values at y -/
def MvP (g : Gv) (y t : Nat) (f : Nat → Option Nat) (n md : Nat) (w : va_W) : Prop := ∃ (vs es nk : Option Nat) (ns : List Nat) (key val : Nat → Nat) (l r p : Nat → Option Nat) (col : Nat → Bool) (lo hi : Nat → Nat) (root : Option Nat) (we wv : va_W), Tr ns key l r p lo hi root 128 ∧ n = ns.length ∧ MF ns key val f ∧ EntG g ns key val l r p col we ∧ VwP t vs es nk wv ∧ vs = some y ∧ w = ([[(t, .inr (27, [.null, va_rf vs, .null, va_rf root, .int (nI n), .int (nI md), va_rf es, va_rf nk, .null]))], we, wv] : List va_W).flatten
/-- a TreeMap with its view of keys at y -/
def MkP (g : Gv) (y t : Nat) (f : Nat → Option Nat) (n md : Nat) (w : va_W) : Prop := ∃ (vs es nk : Option Nat) (ns : List Nat) (key val : Nat → Nat) (l r p : Nat → Option Nat) (col : Nat → Bool) (lo hi : Nat → Nat) (root : Option Nat) (we wv : va_W), Tr ns key l r p lo hi root 128 ∧ n = ns.length ∧ MF ns key val f ∧ EntG g ns key val l r p col we ∧ VwP t vs es nk wv ∧ nk = some y ∧ w = ([[(t, .inr (27, [.null, va_rf vs, .null, va_rf root, .int (nI n), .int (nI md), va_rf es, va_rf nk, .null]))], we, wv] : List va_W).flatten
def LaP (ns : List Nat) (key : Nat → Nat) (j : Nat) (la lp : Option Nat) : Prop := ∀ k, la = some k → ∃ a, lp = some a ∧ a ∈ ns ∧ key a = k ∧ j = k + 1
/-- a TreeMap under an iterator at i (of class ci): next is the least key from j on, la the key that came last -/
def MItP (g : Gv) (ci i t : Nat) (f : Nat → Option Nat) (n md j : Nat) (la : Option Nat) (w : va_W) : Prop := ∃ (vs es nk : Option Nat) (ns : List Nat) (key val : Nat → Nat) (l r p : Nat → Option Nat) (col : Nat → Bool) (lo hi : Nat → Nat) (root : Option Nat) (we wv : va_W) (e lp : Option Nat), Tr ns key l r p lo hi root 128 ∧ n = ns.length ∧ MF ns key val f ∧ EntG g ns key val l r p col we ∧ VwP t vs es nk wv ∧ Lf ns key j e ∧ LaP ns key j la lp ∧ w = ([[(t, .inr (27, [.null, va_rf vs, .null, va_rf root, .int (nI n), .int (nI md), va_rf es, va_rf nk, .null]))], we, wv, [(i, .inr (ci, [va_rf e, va_rf lp, .int (nI md), .ref t]))]] : List va_W).flatten
theorem MvP.hm {g : Gv} {y t : Nat} {f : Nat → Option Nat} {n md : Nat} {w : va_W} (h : MvP g y t f n md w) : ∃ fs, (y, .inr (29, fs)) ∈ w := by
  obtain ⟨vs, es, nk, ns, key, val, l, r, p, col, lo, hi, root, we, wv, -, -, -, -, hv, rfl, rfl⟩ := h
  exact ⟨_, List.mem_flatten.mpr ⟨wv, by simp, hv.mv⟩⟩
theorem MkP.hm {g : Gv} {y t : Nat} {f : Nat → Option Nat} {n md : Nat} {w : va_W} (h : MkP g y t f n md w) : ∃ fs, (y, .inr (30, fs)) ∈ w := by
  obtain ⟨vs, es, nk, ns, key, val, l, r, p, col, lo, hi, root, we, wv, -, -, -, -, hv, rfl, rfl⟩ := h
  exact ⟨_, List.mem_flatten.mpr ⟨wv, by simp, hv.mk⟩⟩
theorem MItP.hm {g : Gv} {ci i t : Nat} {f : Nat → Option Nat} {n md j : Nat} {la : Option Nat} {w : va_W} (h : MItP g ci i t f n md j la w) : ∃ fs, (i, .inr (ci, fs)) ∈ w := by
  obtain ⟨vs, es, nk, ns, key, val, l, r, p, col, lo, hi, root, we, wv, e, lp, -, -, -, -, -, -, -, rfl⟩ := h
  exact ⟨_, List.mem_flatten.mpr ⟨_, List.mem_cons_of_mem _ (List.mem_cons_of_mem _ (List.mem_cons_of_mem _ List.mem_cons_self)), List.mem_cons_self⟩⟩
theorem MItP.hmt {g : Gv} {ci i t : Nat} {f : Nat → Option Nat} {n md j : Nat} {la : Option Nat} {w : va_W} (h : MItP g ci i t f n md j la w) : ∃ fs, (t, .inr (27, fs)) ∈ w := by
  obtain ⟨vs, es, nk, ns, key, val, l, r, p, col, lo, hi, root, we, wv, e, lp, -, -, -, -, -, -, -, rfl⟩ := h
  exact ⟨_, List.mem_cons_self⟩
/-- the iterator is forgotten -/
theorem MItP.map {g : Gv} {ci i t : Nat} {f : Nat → Option Nat} {n md j : Nat} {la : Option Nat} {w : va_W} (h : MItP g ci i t f n md j la w) : ∃ w2 R, w.Perm (w2 ++ R) ∧ MapP g t f n md w2 := by
  obtain ⟨vs, es, nk, ns, key, val, l, r, p, col, lo, hi, root, we, wv, e, lp, h1, h2, h3, h4, h5, -, -, rfl⟩ := h
  refine ⟨([[(t, .inr (27, [.null, va_rf vs, .null, va_rf root, .int (nI n), .int (nI md), va_rf es, va_rf nk, .null]))], we, wv] : List va_W).flatten, [(i, .inr (ci, [va_rf e, va_rf lp, .int (nI md), .ref t]))], ?_, vs, es, nk, ns, key, val, l, r, p, col, lo, hi, root, we, wv, h1, h2, h3, h4, h5, rfl⟩
  refine List.Perm.of_eq ?_
  simp [List.append_assoc]
section
variable {ns : List Nat} {key val : Nat → Nat} {l r p : Nat → Option Nat} {lo hi : Nat → Nat} {root : Option Nat} {f : Nat → Option Nat} {j : Nat}
theorem lf_no (hF : MF ns key val f) (h : Lf ns key j none) : ¬ ∃ k, j ≤ k ∧ f k ≠ none := by
  rintro ⟨k, h1, h2⟩
  cases e : f k with
  | none => exact h2 e
  | some v =>
    obtain ⟨a, ha, rfl⟩ := hF.2 k v e
    have := h.2 rfl a ha
    omega
theorem lf_yes (hF : MF ns key val f) {a : Nat} (h : Lf ns key j (some a)) : ∃ k, j ≤ k ∧ f k ≠ none := by
  have z := h.1 a rfl
  exact ⟨key a, z.2.1, by rw [hF.1 a z.1]; simp⟩
theorem lf_btw (hF : MF ns key val f) {a : Nat} (h : Lf ns key j (some a)) : ∀ k, j ≤ k → k < key a → f k = none := by
  intro k h1 h2
  have z := h.1 a rfl
  cases e : f k with
  | none => rfl
  | some v =>
    obtain ⟨b, hb, rfl⟩ := hF.2 k v e
    have := z.2.2 b hb h1
    omega
end
theorem mf_same {f : Nat → Option Nat} {k : Nat} (h : f k = none) : fup f k none = f := by
  funext q
  unfold fup
  split
  · rename_i e; rw [e, h]
  · rfl
theorem ct_J10_values_m (g : Gv) (J : Jd g) {t : Nat} {f : Nat → Option Nat} {n : Nat} {md : Nat} {w0 : va_W} (hw0 : MapP g t f n md w0) : Ct g yJ10_values (ws_ yJ10_values cJ10_values 2 (some (.object "java/util/Collection"))) 3 1 1 [.ref t] [w0] (fun (rv_ : Option Value) (rL_ : List va_W) => ∃ (y : Nat) (u0 : va_W), rv_ = some (.ref y) ∧ rL_ = [u0] ∧ MvP g y t f n md u0) noX := by
  refine Ct.of "java/util/TreeMap" [some (.ref t), none] rfl (by decide) rfl (Nat.le_of_ble_eq_true rfl) rfl ?_
  intro κ B E tb
  obtain ⟨vs, es, nk, ns, key, val, l, r, p, col, lo, hi, root, we, wv, hT, hn, hF, hwe, hwv, rfl⟩ := hw0
  refine g_open 0 rfl rfl rfl ?_
  refine (show Go g κ 0 [some (.ref t), none] [] [[(t, .inr (27, [.null, va_rf vs, .null, va_rf root, .int (nI n), .int (nI md), va_rf es, va_rf nk, .null]))], we, wv] 1 1 from ?_)
  refine g_aload_n (q := 1) B dJ10_values_0 rfl rfl (rv_r _) ?_
  refine g_getS (q := 4) B (ci := 27) (k := 0) (j := 1) in_J10 rfl dJ10_values_1 rfl rfl (Nat.le_of_ble_eq_true rfl) q213 q214 rfl ?_
  refine g_astore_n (q := 5) (lv2 := [some (.ref t), some (va_rf vs)]) B dJ10_values_4 rfl (Nat.le_of_ble_eq_true rfl) (rv_o _) rfl ?_
  refine g_aload_n (q := 6) B dJ10_values_5 rfl rfl (rv_o _) ?_
  refine g_ifnonnull_o (tgt := 23) (q := 9) B dJ10_values_6 rfl (by decide) (fun vs_a6 c6 => ?_) (fun c6 => ?_)
  · skip
    subst c6
    refine g_aload_n (q := 24) B dJ10_values_23 rfl rfl (rv_r _) ?_
    obtain ⟨wc_1, ewc_1⟩ : ∃ w : va_W, w = ([[(t, .inr (27, [.null, .ref vs_a6, .null, va_rf root, .int (nI n), .int (nI md), va_rf es, va_rf nk, .null]))], we, wv] : List va_W).flatten := ⟨_, rfl⟩
    have hwc_1 : MvP g vs_a6 t f n md wc_1 := by
      rw [ewc_1]
      exact ⟨_, es, nk, ns, key, val, l, r, p, col, lo, hi, root, _, _, hT, hn, hF, hwe, hwv, rfl, rfl⟩
    refine g_close (w := wc_1) [0, 0, 0] rfl ewc_1 rfl ?_
    refine (show Go g κ 24 [some (.ref t), some (.ref vs_a6)] [.ref vs_a6] [wc_1] 1 1 from ?_)
    exact g_aret B E dJ10_values_24 (by first | exact Or.inl ⟨_, rfl⟩ | exact Or.inr ⟨_, rfl⟩) (rv_r _) (⟨vs_a6, _, rfl, rfl, hwc_1⟩)
  · skip
    subst c6
    refine g_new (q := 12) (kc2 := 0) (ks2 := 0) (fs := [.null]) B (ci := 29) in_J28 tyJ28_ok rfl dJ10_values_9 rfl q1180 q1181 q113 (nwJ28) (Nat.le_of_ble_eq_true rfl) (Nat.le_of_ble_eq_true rfl) (fun n9 => ?_)
    refine (show Go g κ 12 [some (.ref t), some (.null)] [.ref n9] [[(t, .inr (27, [.null, .null, .null, va_rf root, .int (nI n), .int (nI md), va_rf es, va_rf nk, .null]))], we, wv, [(n9, .inr (29, [.null]))]] 0 0 from ?_)
    refine g_dup (q := 13) B dJ10_values_12 rfl rfl ?_
    refine g_aload_n (q := 14) B dJ10_values_13 rfl rfl (rv_r _) ?_
    refine g_callI (q := 17) (is := [3]) (kc2 := 0) (ks2 := 0) B [.ref t] (ct_J28_init g J (e := n9) (t := t)  ) dJ10_values_14 rfl rfl q1182 q1183 q113 q1184 rfl rfl moJ28_init rfl rfl (by decide) (by decide) (Nat.le_of_ble_eq_true rfl) (Nat.le_of_ble_eq_true rfl) (Nat.le_of_ble_eq_true rfl) (fun _ _ hx => noX_x hx) (fun v14 L1 hp14 => ?_)
    obtain ⟨rfl, rfl⟩ := hp14
    refine (show Go g κ 17 [some (.ref t), some (.null)] [.ref n9] [[(t, .inr (27, [.null, .null, .null, va_rf root, .int (nI n), .int (nI md), va_rf es, va_rf nk, .null]))], we, wv, [(n9, .inr (29, [.ref t]))]] 0 0 from ?_)
    refine g_astore_n (q := 18) (lv2 := [some (.ref t), some (.ref n9)]) B dJ10_values_17 rfl (Nat.le_of_ble_eq_true rfl) (rv_r _) rfl ?_
    refine g_aload_n (q := 19) B dJ10_values_18 rfl rfl (rv_r _) ?_
    refine g_aload_n (q := 20) B dJ10_values_19 rfl rfl (rv_r _) ?_
    refine g_putS (q := 23) (L2 := [[(t, .inr (27, [.null, .ref n9, .null, va_rf root, .int (nI n), .int (nI md), va_rf es, va_rf nk, .null]))], we, wv, [(n9, .inr (29, [.ref t]))]]) B (ci := 27) (k := 0) (j := 1) in_J10 tyJ10 tyJ10_ok nmJ10 rfl dJ10_values_20 rfl rfl (Nat.le_of_ble_eq_true rfl) q213 q214 rfl rfl rfl (Nat.le_of_ble_eq_true rfl) rfl ?_
    obtain ⟨wc_2, ewc_2⟩ : ∃ w : va_W, w = ([[(n9, .inr (29, [.ref t]))], wv] : List va_W).flatten := ⟨_, rfl⟩
    have hwc_2 : VwP t (some n9) es nk wc_2 := by
      rw [ewc_2]
      exact VwP.newv hwv n9
    refine g_close (w := wc_2) [3, 2] rfl ewc_2 rfl ?_
    refine (show Go g κ 23 [some (.ref t), some (.ref n9)] [] [[(t, .inr (27, [.null, .ref n9, .null, va_rf root, .int (nI n), .int (nI md), va_rf es, va_rf nk, .null]))], we, wc_2] 0 0 from ?_)
    refine g_aload_n (q := 24) B dJ10_values_23 rfl rfl (rv_r _) ?_
    obtain ⟨wc_3, ewc_3⟩ : ∃ w : va_W, w = ([[(t, .inr (27, [.null, .ref n9, .null, va_rf root, .int (nI n), .int (nI md), va_rf es, va_rf nk, .null]))], we, wc_2] : List va_W).flatten := ⟨_, rfl⟩
    have hwc_3 : MvP g n9 t f n md wc_3 := by
      rw [ewc_3]
      exact ⟨_, es, nk, ns, key, val, l, r, p, col, lo, hi, root, _, _, hT, hn, hF, hwe, hwc_2, rfl, rfl⟩
    refine g_close (w := wc_3) [0, 0, 0] rfl ewc_3 rfl ?_
    refine (show Go g κ 24 [some (.ref t), some (.ref n9)] [.ref n9] [wc_3] 0 0 from ?_)
    exact g_aret B E dJ10_values_24 (by first | exact Or.inl ⟨_, rfl⟩ | exact Or.inr ⟨_, rfl⟩) (rv_r _) (⟨n9, _, rfl, rfl, hwc_3⟩)
theorem ct_J10_navigableKeySet_m (g : Gv) (J : Jd g) {t : Nat} {f : Nat → Option Nat} {n : Nat} {md : Nat} {w0 : va_W} (hw0 : MapP g t f n md w0) : Ct g yJ10_navigableKeySet (ws_ yJ10_navigableKeySet cJ10_navigableKeySet 2 (some (.object "java/util/NavigableSet"))) 4 1 1 [.ref t] [w0] (fun (rv_ : Option Value) (rL_ : List va_W) => ∃ (y : Nat) (u0 : va_W), rv_ = some (.ref y) ∧ rL_ = [u0] ∧ MkP g y t f n md u0) noX := by
  refine Ct.of "java/util/TreeMap" [some (.ref t), none] rfl (by decide) rfl (Nat.le_of_ble_eq_true rfl) rfl ?_
  intro κ B E tb
  obtain ⟨vs, es, nk, ns, key, val, l, r, p, col, lo, hi, root, we, wv, hT, hn, hF, hwe, hwv, rfl⟩ := hw0
  refine g_open 0 rfl rfl rfl ?_
  refine (show Go g κ 0 [some (.ref t), none] [] [[(t, .inr (27, [.null, va_rf vs, .null, va_rf root, .int (nI n), .int (nI md), va_rf es, va_rf nk, .null]))], we, wv] 1 1 from ?_)
  refine g_aload_n (q := 1) B dJ10_navigableKeySet_0 rfl rfl (rv_r _) ?_
  refine g_get (q := 4) B (ci := 27) (k := 0) (j := 7) in_J10 rfl dJ10_navigableKeySet_1 rfl rfl (Nat.le_of_ble_eq_true rfl) q1876 rfl rfl ?_
  refine g_astore_n (q := 5) (lv2 := [some (.ref t), some (va_rf nk)]) B dJ10_navigableKeySet_4 rfl (Nat.le_of_ble_eq_true rfl) (rv_o _) rfl ?_
  refine g_aload_n (q := 6) B dJ10_navigableKeySet_5 rfl rfl (rv_o _) ?_
  refine g_ifnull_o (tgt := 13) (q := 9) B dJ10_navigableKeySet_6 rfl (by decide) (fun c6 => ?_) (fun nk_a6 c6 => ?_)
  · skip
    subst c6
    refine g_aload_n (q := 14) B dJ10_navigableKeySet_13 rfl rfl (rv_r _) ?_
    refine g_new (q := 17) (kc2 := 0) (ks2 := 0) (fs := [.null]) B (ci := 30) in_J42 tyJ42_ok rfl dJ10_navigableKeySet_14 rfl q2216 q2217 q134 (nwJ42) (Nat.le_of_ble_eq_true rfl) (Nat.le_of_ble_eq_true rfl) (fun n14 => ?_)
    refine (show Go g κ 17 [some (.ref t), some (.null)] [.ref n14, .ref t] [[(t, .inr (27, [.null, va_rf vs, .null, va_rf root, .int (nI n), .int (nI md), va_rf es, .null, .null]))], we, wv, [(n14, .inr (30, [.null]))]] 0 0 from ?_)
    refine g_dup (q := 18) B dJ10_navigableKeySet_17 rfl rfl ?_
    refine g_aload_n (q := 19) B dJ10_navigableKeySet_18 rfl rfl (rv_r _) ?_
    refine g_callI (q := 22) (is := [3]) (kc2 := 0) (ks2 := 0) B [.ref t] (ct_J42_init g J (e := n14) (t := t)  ) dJ10_navigableKeySet_19 rfl rfl q2218 q2219 q134 q2220 rfl rfl moJ42_init rfl rfl (by decide) (by decide) (Nat.le_of_ble_eq_true rfl) (Nat.le_of_ble_eq_true rfl) (Nat.le_of_ble_eq_true rfl) (fun _ _ hx => noX_x hx) (fun v19 L1 hp19 => ?_)
    obtain ⟨rfl, rfl⟩ := hp19
    refine (show Go g κ 22 [some (.ref t), some (.null)] [.ref n14, .ref t] [[(t, .inr (27, [.null, va_rf vs, .null, va_rf root, .int (nI n), .int (nI md), va_rf es, .null, .null]))], we, wv, [(n14, .inr (30, [.ref t]))]] 0 0 from ?_)
    refine g_dup_x1 (q := 23) B dJ10_navigableKeySet_22 rfl rfl rfl ?_
    refine g_put (q := 26) (L2 := [[(t, .inr (27, [.null, va_rf vs, .null, va_rf root, .int (nI n), .int (nI md), va_rf es, .ref n14, .null]))], we, wv, [(n14, .inr (30, [.ref t]))]]) B (ci := 27) (k := 0) (j := 7) in_J10 tyJ10 tyJ10_ok nmJ10 rfl dJ10_navigableKeySet_23 rfl rfl (Nat.le_of_ble_eq_true rfl) q1876 rfl rfl rfl rfl (Nat.le_of_ble_eq_true rfl) rfl ?_
    obtain ⟨wc_1, ewc_1⟩ : ∃ w : va_W, w = ([wv, [(n14, .inr (30, [.ref t]))]] : List va_W).flatten := ⟨_, rfl⟩
    have hwc_1 : VwP t vs es (some n14) wc_1 := by
      rw [ewc_1]
      exact VwP.newk hwv n14
    refine g_close (w := wc_1) [2, 2] rfl ewc_1 rfl ?_
    refine (show Go g κ 26 [some (.ref t), some (.null)] [.ref n14] [[(t, .inr (27, [.null, va_rf vs, .null, va_rf root, .int (nI n), .int (nI md), va_rf es, .ref n14, .null]))], we, wc_1] 0 0 from ?_)
    obtain ⟨wc_2, ewc_2⟩ : ∃ w : va_W, w = ([[(t, .inr (27, [.null, va_rf vs, .null, va_rf root, .int (nI n), .int (nI md), va_rf es, .ref n14, .null]))], we, wc_1] : List va_W).flatten := ⟨_, rfl⟩
    have hwc_2 : MkP g n14 t f n md wc_2 := by
      rw [ewc_2]
      exact ⟨vs, es, _, ns, key, val, l, r, p, col, lo, hi, root, _, _, hT, hn, hF, hwe, hwc_1, rfl, rfl⟩
    refine g_close (w := wc_2) [0, 0, 0] rfl ewc_2 rfl ?_
    refine (show Go g κ 26 [some (.ref t), some (.null)] [.ref n14] [wc_2] 0 0 from ?_)
    exact g_aret B E dJ10_navigableKeySet_26 (by first | exact Or.inl ⟨_, rfl⟩ | exact Or.inr ⟨_, rfl⟩) (rv_r _) (⟨n14, _, rfl, rfl, hwc_2⟩)
  · skip
    subst c6
    refine g_aload_n (q := 10) B dJ10_navigableKeySet_9 rfl rfl (rv_r _) ?_
    refine g_goto (tgt := 26) B dJ10_navigableKeySet_10 (by decide) ?_
    obtain ⟨wc_3, ewc_3⟩ : ∃ w : va_W, w = ([[(t, .inr (27, [.null, va_rf vs, .null, va_rf root, .int (nI n), .int (nI md), va_rf es, .ref nk_a6, .null]))], we, wv] : List va_W).flatten := ⟨_, rfl⟩
    have hwc_3 : MkP g nk_a6 t f n md wc_3 := by
      rw [ewc_3]
      exact ⟨vs, es, _, ns, key, val, l, r, p, col, lo, hi, root, _, _, hT, hn, hF, hwe, hwv, rfl, rfl⟩
    refine g_close (w := wc_3) [0, 0, 0] rfl ewc_3 rfl ?_
    refine (show Go g κ 26 [some (.ref t), some (.ref nk_a6)] [.ref nk_a6] [wc_3] 1 1 from ?_)
    exact g_aret B E dJ10_navigableKeySet_26 (by first | exact Or.inl ⟨_, rfl⟩ | exact Or.inr ⟨_, rfl⟩) (rv_r _) (⟨nk_a6, _, rfl, rfl, hwc_3⟩)
theorem ct_J10_keySet_m (g : Gv) (J : Jd g) {t : Nat} {f : Nat → Option Nat} {n : Nat} {md : Nat} {w0 : va_W} (hw0 : MapP g t f n md w0) : Ct g yJ10_keySet (ws_ yJ10_keySet cJ10_keySet 1 (some (.object "java/util/Set"))) 5 1 1 [.ref t] [w0] (fun (rv_ : Option Value) (rL_ : List va_W) => ∃ (y : Nat) (u0 : va_W), rv_ = some (.ref y) ∧ rL_ = [u0] ∧ MkP g y t f n md u0) noX := by
  refine Ct.of "java/util/TreeMap" [some (.ref t)] rfl (by decide) rfl (Nat.le_of_ble_eq_true rfl) rfl ?_
  intro κ B E tb
  refine g_aload_n (q := 1) B dJ10_keySet_0 rfl rfl (rv_r _) ?_
  refine g_callV (q := 4) (is := [0]) (kc2 := 0) (ks2 := 0) B [] (ct_J10_navigableKeySet_m g J (t := t) (f := f) (n := n) (md := md) hw0 ) dJ10_keySet_1 rfl (rc_in B (ci := 27) rfl (k := 0) rfl (MapP.hm hw0)) rfl q2212 q2213 q2214 q91 q2215 rfl rfl moJ10_navigableKeySet rfl rfl (by decide) (by decide) (Nat.le_of_ble_eq_true rfl) (Nat.le_of_ble_eq_true rfl) (Nat.le_of_ble_eq_true rfl) (fun _ _ hx => noX_x hx) (fun v1 L1 hp1 => ?_)
  obtain ⟨y1, u0_1, rfl, rfl, hu0_1⟩ := hp1
  refine (show Go g κ 4 [some (.ref t)] [.ref y1] [u0_1] 0 0 from ?_)
  exact g_aret B E dJ10_keySet_4 (by first | exact Or.inl ⟨_, rfl⟩ | exact Or.inr ⟨_, rfl⟩) (rv_r _) (⟨y1, u0_1, rfl, rfl, hu0_1⟩)
theorem ct_J28_iterator_m (g : Gv) (J : Jd g) {y : Nat} {t : Nat} {f : Nat → Option Nat} {n : Nat} {md : Nat} {w0 : va_W} (hw0 : MvP g y t f n md w0) : Ct g yJ28_iterator (ws_ yJ28_iterator cJ28_iterator 1 (some (.object "java/util/Iterator"))) 3 1 4 [.ref y] [w0] (fun (rv_ : Option Value) (rL_ : List va_W) => ∃ (i : Nat) (u0 : va_W), rv_ = some (.ref i) ∧ rL_ = [u0] ∧ MItP g 33 i t f n md 0 none u0) noX := by
  refine Ct.of "java/util/TreeMap$Values" [some (.ref y)] rfl (by decide) rfl (Nat.le_of_ble_eq_true rfl) rfl ?_
  intro κ B E tb
  obtain ⟨vs, es, nk, ns, key, val, l, r, p, col, lo, hi, root, we, wv, hT, hn, hF, hwe, hwv, hvs, rfl⟩ := hw0
  refine g_open 0 rfl rfl rfl ?_
  refine (show Go g κ 0 [some (.ref y)] [] [[(t, .inr (27, [.null, va_rf vs, .null, va_rf root, .int (nI n), .int (nI md), va_rf es, va_rf nk, .null]))], we, wv] 1 4 from ?_)
  subst hvs
  refine (show Go g κ 0 [some (.ref y)] [] [[(t, .inr (27, [.null, .ref y, .null, va_rf root, .int (nI n), .int (nI md), va_rf es, va_rf nk, .null]))], we, wv] 1 4 from ?_)
  refine g_new (q := 3) (kc2 := 0) (ks2 := 0) (fs := [.null, .null, .int (nI 0), .null]) B (ci := 33) in_J34 tyJ34_ok rfl dJ28_iterator_0 rfl q923 q924 q119 (nwJ34) (Nat.le_of_ble_eq_true rfl) (Nat.le_of_ble_eq_true rfl) (fun n0 => ?_)
  refine (show Go g κ 3 [some (.ref y)] [.ref n0] [[(t, .inr (27, [.null, .ref y, .null, va_rf root, .int (nI n), .int (nI md), va_rf es, va_rf nk, .null]))], we, wv, [(n0, .inr (33, [.null, .null, .int (nI 0), .null]))]] 0 0 from ?_)
  refine g_dup (q := 4) B dJ28_iterator_3 rfl rfl ?_
  refine g_aload_n (q := 5) B dJ28_iterator_4 rfl rfl (rv_r _) ?_
  refine g_getM (q := 8) B (ci := 29) (k := 2) (j := 0) in_J28 rfl dJ28_iterator_5 rfl rfl (VwP.mv hwv) (Nat.le_of_ble_eq_true rfl) q1186 rfl rfl ?_
  refine g_aload_n (q := 9) B dJ28_iterator_8 rfl rfl (rv_r _) ?_
  refine g_getM (q := 12) B (ci := 29) (k := 2) (j := 0) in_J28 rfl dJ28_iterator_9 rfl rfl (VwP.mv hwv) (Nat.le_of_ble_eq_true rfl) q1186 rfl rfl ?_
  refine g_callV (q := 15) (is := [0, 0]) (kc2 := 0) (ks2 := 0) B [] (ct_J10_getFirstEntry g J (t := t) (vs := some y) (n := n) (md := md) (es := es) (nk := nk) (ns := ns) (key := key) (val := val) (l := l) (r := r) (p := p) (col := col) (lo := lo) (hi := hi) (root := root) hwe (by first | assumption | omega | rfl)) dJ28_iterator_12 rfl (rc_at B (ci := 27) rfl (k := 0) rfl) rfl q925 q867 q868 q91 q869 rfl rfl moJ10_getFirstEntry rfl rfl (by decide) (by decide) (Nat.le_of_ble_eq_true rfl) (Nat.le_of_ble_eq_true rfl) (Nat.le_of_ble_eq_true rfl) (fun _ _ hx => noX_x hx) (fun v12 L1 hp12 => ?_)
  obtain ⟨e12, rfl, rfl, he_12⟩ := hp12
  refine (show Go g κ 15 [some (.ref y)] [va_rf e12, .ref t, .ref n0, .ref n0] [wv, [(n0, .inr (33, [.null, .null, .int (nI 0), .null]))], [(t, .inr (27, [.null, .ref y, .null, va_rf root, .int (nI n), .int (nI md), va_rf es, va_rf nk, .null]))], we] 0 0 from ?_)
  refine g_callI (q := 18) (is := [2, 1]) (kc2 := 0) (ks2 := 0) B [.ref t, va_rf e12] (ct_J34_init g J (t := t) (vs := some y) (n := n) (md := md) (es := es) (nk := nk) (root := root) (i := n0) (nx := e12)  ) dJ28_iterator_15 rfl rfl q926 q927 q119 q928 rfl rfl moJ34_init rfl rfl (by decide) (by decide) (Nat.le_of_ble_eq_true rfl) (Nat.le_of_ble_eq_true rfl) (Nat.le_of_ble_eq_true rfl) (fun _ _ hx => noX_x hx) (fun v15 L1 hp15 => ?_)
  obtain ⟨rfl, rfl⟩ := hp15
  refine (show Go g κ 18 [some (.ref y)] [.ref n0] [wv, we, [(t, .inr (27, [.null, .ref y, .null, va_rf root, .int (nI n), .int (nI md), va_rf es, va_rf nk, .null]))], [(n0, .inr (33, [va_rf e12, .null, .int (nI md), .ref t]))]] 0 0 from ?_)
  obtain ⟨wc_1, ewc_1⟩ : ∃ w : va_W, w = ([[(t, .inr (27, [.null, .ref y, .null, va_rf root, .int (nI n), .int (nI md), va_rf es, va_rf nk, .null]))], we, wv, [(n0, .inr (33, [va_rf e12, .null, .int (nI md), .ref t]))]] : List va_W).flatten := ⟨_, rfl⟩
  have hwc_1 : MItP g 33 n0 t f n md 0 none wc_1 := by
    rw [ewc_1]
    exact ⟨(some y), es, nk, ns, key, val, l, r, p, col, lo, hi, root, _, _, _, none, hT, hn, hF, hwe, hwv, he_12, (fun k h => by cases h), rfl⟩
  refine g_close (w := wc_1) [2, 1, 0, 0] rfl ewc_1 rfl ?_
  refine (show Go g κ 18 [some (.ref y)] [.ref n0] [wc_1] 0 0 from ?_)
  exact g_aret B E dJ28_iterator_18 (by first | exact Or.inl ⟨_, rfl⟩ | exact Or.inr ⟨_, rfl⟩) (rv_r _) (⟨n0, wc_1, rfl, rfl, hwc_1⟩)
theorem ct_J42_iterator_m (g : Gv) (J : Jd g) {y : Nat} {t : Nat} {f : Nat → Option Nat} {n : Nat} {md : Nat} {w0 : va_W} (hw0 : MkP g y t f n md w0) : Ct g yJ42_iterator (ws_ yJ42_iterator cJ42_iterator 1 (some (.object "java/util/Iterator"))) 4 1 4 [.ref y] [w0] (fun (rv_ : Option Value) (rL_ : List va_W) => ∃ (i : Nat) (u0 : va_W), rv_ = some (.ref i) ∧ rL_ = [u0] ∧ MItP g 32 i t f n md 0 none u0) noX := by
  refine Ct.of "java/util/TreeMap$KeySet" [some (.ref y)] rfl (by decide) rfl (Nat.le_of_ble_eq_true rfl) rfl ?_
  intro κ B E tb
  obtain ⟨vs, es, nk, ns, key, val, l, r, p, col, lo, hi, root, we, wv, hT, hn, hF, hwe, hwv, hnk, rfl⟩ := hw0
  refine g_open 0 rfl rfl rfl ?_
  refine (show Go g κ 0 [some (.ref y)] [] [[(t, .inr (27, [.null, va_rf vs, .null, va_rf root, .int (nI n), .int (nI md), va_rf es, va_rf nk, .null]))], we, wv] 1 4 from ?_)
  subst hnk
  refine (show Go g κ 0 [some (.ref y)] [] [[(t, .inr (27, [.null, va_rf vs, .null, va_rf root, .int (nI n), .int (nI md), va_rf es, .ref y, .null]))], we, wv] 1 4 from ?_)
  refine g_aload_n (q := 1) B dJ42_iterator_0 rfl rfl (rv_r _) ?_
  refine g_getM (q := 4) B (ci := 30) (k := 2) (j := 0) in_J42 rfl dJ42_iterator_1 rfl rfl (VwP.mk hwv) (Nat.le_of_ble_eq_true rfl) q2225 rfl rfl ?_
  refine g_instRS (ci := 27) (q := 7) B rfl (rc_at B (ci := 27) rfl (k := 0) rfl) dJ42_iterator_4 rfl q896 ?_
  refine g_if_eq (tgt := 21) (q := 10) B dJ42_iterator_7 rfl (by decide) (iff_false_intro (by decide)) (fun z => z.elim) (fun _ => ?_)
  refine g_aload_n (q := 11) B dJ42_iterator_10 rfl rfl (rv_r _) ?_
  refine g_getM (q := 14) B (ci := 30) (k := 2) (j := 0) in_J42 rfl dJ42_iterator_11 rfl rfl (VwP.mk hwv) (Nat.le_of_ble_eq_true rfl) q2225 rfl rfl ?_
  refine g_castRS (ci := 27) (q := 17) B rfl (rc_at B (ci := 27) rfl (k := 0) rfl) dJ42_iterator_14 rfl q896 ?_
  refine g_callV (q := 20) (is := [0, 0]) (kc2 := 0) (ks2 := 0) B [] (ct_J10_keyIterator g J (t := t) (vs := vs) (n := n) (md := md) (es := es) (nk := some y) (ns := ns) (key := key) (val := val) (l := l) (r := r) (p := p) (col := col) (lo := lo) (hi := hi) (root := root) hwe (by first | assumption | omega | rfl)) dJ42_iterator_17 rfl (rc_at B (ci := 27) rfl (k := 0) rfl) rfl q897 q898 q899 q91 q900 rfl rfl moJ10_keyIterator rfl rfl (by decide) (by decide) (Nat.le_of_ble_eq_true rfl) (Nat.le_of_ble_eq_true rfl) (Nat.le_of_ble_eq_true rfl) (fun _ _ hx => noX_x hx) (fun v17 L1 hp17 => ?_)
  obtain ⟨i17, e17, rfl, rfl, he_17⟩ := hp17
  refine (show Go g κ 20 [some (.ref y)] [.ref i17] [wv, [(t, .inr (27, [.null, va_rf vs, .null, va_rf root, .int (nI n), .int (nI md), va_rf es, .ref y, .null]))], we, [(i17, .inr (32, [va_rf e17, .null, .int (nI md), .ref t]))]] 0 0 from ?_)
  obtain ⟨wc_1, ewc_1⟩ : ∃ w : va_W, w = ([[(t, .inr (27, [.null, va_rf vs, .null, va_rf root, .int (nI n), .int (nI md), va_rf es, .ref y, .null]))], we, wv, [(i17, .inr (32, [va_rf e17, .null, .int (nI md), .ref t]))]] : List va_W).flatten := ⟨_, rfl⟩
  have hwc_1 : MItP g 32 i17 t f n md 0 none wc_1 := by
    rw [ewc_1]
    exact ⟨vs, es, (some y), ns, key, val, l, r, p, col, lo, hi, root, _, _, _, none, hT, hn, hF, hwe, hwv, he_17, (fun k h => by cases h), rfl⟩
  refine g_close (w := wc_1) [1, 1, 0, 0] rfl ewc_1 rfl ?_
  refine (show Go g κ 20 [some (.ref y)] [.ref i17] [wc_1] 0 0 from ?_)
  exact g_aret B E dJ42_iterator_20 (by first | exact Or.inl ⟨_, rfl⟩ | exact Or.inr ⟨_, rfl⟩) (rv_r _) (⟨i17, wc_1, rfl, rfl, hwc_1⟩)
theorem ct_J31_hasNext_mv (g : Gv) (J : Jd g) {i : Nat} {t : Nat} {f : Nat → Option Nat} {n : Nat} {md : Nat} {j : Nat} {la : Option Nat} {w0 : va_W} (hw0 : MItP g 33 i t f n md j la w0) : Ct g yJ31_hasNext (ws_ yJ31_hasNext cJ31_hasNext 1 (some .boolean)) 0 0 0 [.ref i] [w0] (fun (rv_ : Option Value) (rL_ : List va_W) => ∃ (hb : Bool) (u0 : va_W), rv_ = some (.int (nI (if hb = true then 1 else 0))) ∧ rL_ = [u0] ∧ MItP g 33 i t f n md j la u0 ∧ (hb = true ↔ ∃ k, j ≤ k ∧ f k ≠ none)) noX := by
  refine Ct.of "java/util/TreeMap$PrivateEntryIterator" [some (.ref i)] rfl (by decide) rfl (Nat.le_of_ble_eq_true rfl) rfl ?_
  intro κ B E tb
  obtain ⟨vs, es, nk, ns, key, val, l, r, p, col, lo, hi, root, we, wv, e, lp, hT, hn, hF, hwe, hwv, hLf, hLa, rfl⟩ := hw0
  refine g_open 0 rfl rfl rfl ?_
  refine (show Go g κ 0 [some (.ref i)] [] [[(t, .inr (27, [.null, va_rf vs, .null, va_rf root, .int (nI n), .int (nI md), va_rf es, va_rf nk, .null]))], we, wv, [(i, .inr (33, [va_rf e, va_rf lp, .int (nI md), .ref t]))]] 0 0 from ?_)
  refine g_aload_n (q := 1) B dJ31_hasNext_0 rfl rfl (rv_r _) ?_
  refine g_get (q := 4) B (ci := 33) (k := 3) (j := 0) in_J34 rfl dJ31_hasNext_1 rfl rfl (Nat.le_of_ble_eq_true rfl) q877 rfl rfl ?_
  refine g_ifnull_o (tgt := 11) (q := 7) B dJ31_hasNext_4 rfl (by decide) (fun c4 => ?_) (fun e_a4 c4 => ?_)
  · skip
    subst c4
    refine g_iconst (v := nI 0) (q := 12) B dJ31_hasNext_11 rfl (by decide) ?_
    obtain ⟨wc_1, ewc_1⟩ : ∃ w : va_W, w = ([[(t, .inr (27, [.null, va_rf vs, .null, va_rf root, .int (nI n), .int (nI md), va_rf es, va_rf nk, .null]))], we, wv, [(i, .inr (33, [.null, va_rf lp, .int (nI md), .ref t]))]] : List va_W).flatten := ⟨_, rfl⟩
    have hwc_1 : MItP g 33 i t f n md j la wc_1 := by
      rw [ewc_1]
      exact ⟨vs, es, nk, ns, key, val, l, r, p, col, lo, hi, root, _, _, _, _, hT, hn, hF, hwe, hwv, hLf, hLa, rfl⟩
    refine g_close (w := wc_1) [0, 0, 0, 0] rfl ewc_1 rfl ?_
    refine (show Go g κ 12 [some (.ref i)] [.int (nI 0)] [wc_1] 0 0 from ?_)
    exact g_zret B E dJ31_hasNext_12 (by decide) (⟨false, _, rfl, rfl, hwc_1, ⟨(fun z => by cases z), fun z => absurd z (lf_no hF hLf)⟩⟩)
  · skip
    subst c4
    refine g_iconst (v := nI 1) (q := 8) B dJ31_hasNext_7 rfl (by decide) ?_
    refine g_goto (tgt := 12) B dJ31_hasNext_8 (by decide) ?_
    obtain ⟨wc_2, ewc_2⟩ : ∃ w : va_W, w = ([[(t, .inr (27, [.null, va_rf vs, .null, va_rf root, .int (nI n), .int (nI md), va_rf es, va_rf nk, .null]))], we, wv, [(i, .inr (33, [.ref e_a4, va_rf lp, .int (nI md), .ref t]))]] : List va_W).flatten := ⟨_, rfl⟩
    have hwc_2 : MItP g 33 i t f n md j la wc_2 := by
      rw [ewc_2]
      exact ⟨vs, es, nk, ns, key, val, l, r, p, col, lo, hi, root, _, _, _, _, hT, hn, hF, hwe, hwv, hLf, hLa, rfl⟩
    refine g_close (w := wc_2) [0, 0, 0, 0] rfl ewc_2 rfl ?_
    refine (show Go g κ 12 [some (.ref i)] [.int (nI 1)] [wc_2] 0 0 from ?_)
    exact g_zret B E dJ31_hasNext_12 (by decide) (⟨true, _, rfl, rfl, hwc_2, ⟨fun _ => lf_yes hF hLf, fun _ => rfl⟩⟩)
theorem ct_J31_hasNext_mk (g : Gv) (J : Jd g) {i : Nat} {t : Nat} {f : Nat → Option Nat} {n : Nat} {md : Nat} {j : Nat} {la : Option Nat} {w0 : va_W} (hw0 : MItP g 32 i t f n md j la w0) : Ct g yJ31_hasNext (ws_ yJ31_hasNext cJ31_hasNext 1 (some .boolean)) 0 0 0 [.ref i] [w0] (fun (rv_ : Option Value) (rL_ : List va_W) => ∃ (hb : Bool) (u0 : va_W), rv_ = some (.int (nI (if hb = true then 1 else 0))) ∧ rL_ = [u0] ∧ MItP g 32 i t f n md j la u0 ∧ (hb = true ↔ ∃ k, j ≤ k ∧ f k ≠ none)) noX := by
  refine Ct.of "java/util/TreeMap$PrivateEntryIterator" [some (.ref i)] rfl (by decide) rfl (Nat.le_of_ble_eq_true rfl) rfl ?_
  intro κ B E tb
  obtain ⟨vs, es, nk, ns, key, val, l, r, p, col, lo, hi, root, we, wv, e, lp, hT, hn, hF, hwe, hwv, hLf, hLa, rfl⟩ := hw0
  refine g_open 0 rfl rfl rfl ?_
  refine (show Go g κ 0 [some (.ref i)] [] [[(t, .inr (27, [.null, va_rf vs, .null, va_rf root, .int (nI n), .int (nI md), va_rf es, va_rf nk, .null]))], we, wv, [(i, .inr (32, [va_rf e, va_rf lp, .int (nI md), .ref t]))]] 0 0 from ?_)
  refine g_aload_n (q := 1) B dJ31_hasNext_0 rfl rfl (rv_r _) ?_
  refine g_get (q := 4) B (ci := 32) (k := 3) (j := 0) in_J33 rfl dJ31_hasNext_1 rfl rfl (Nat.le_of_ble_eq_true rfl) q877 rfl rfl ?_
  refine g_ifnull_o (tgt := 11) (q := 7) B dJ31_hasNext_4 rfl (by decide) (fun c4 => ?_) (fun e_a4 c4 => ?_)
  · skip
    subst c4
    refine g_iconst (v := nI 0) (q := 12) B dJ31_hasNext_11 rfl (by decide) ?_
    obtain ⟨wc_1, ewc_1⟩ : ∃ w : va_W, w = ([[(t, .inr (27, [.null, va_rf vs, .null, va_rf root, .int (nI n), .int (nI md), va_rf es, va_rf nk, .null]))], we, wv, [(i, .inr (32, [.null, va_rf lp, .int (nI md), .ref t]))]] : List va_W).flatten := ⟨_, rfl⟩
    have hwc_1 : MItP g 32 i t f n md j la wc_1 := by
      rw [ewc_1]
      exact ⟨vs, es, nk, ns, key, val, l, r, p, col, lo, hi, root, _, _, _, _, hT, hn, hF, hwe, hwv, hLf, hLa, rfl⟩
    refine g_close (w := wc_1) [0, 0, 0, 0] rfl ewc_1 rfl ?_
    refine (show Go g κ 12 [some (.ref i)] [.int (nI 0)] [wc_1] 0 0 from ?_)
    exact g_zret B E dJ31_hasNext_12 (by decide) (⟨false, _, rfl, rfl, hwc_1, ⟨(fun z => by cases z), fun z => absurd z (lf_no hF hLf)⟩⟩)
  · skip
    subst c4
    refine g_iconst (v := nI 1) (q := 8) B dJ31_hasNext_7 rfl (by decide) ?_
    refine g_goto (tgt := 12) B dJ31_hasNext_8 (by decide) ?_
    obtain ⟨wc_2, ewc_2⟩ : ∃ w : va_W, w = ([[(t, .inr (27, [.null, va_rf vs, .null, va_rf root, .int (nI n), .int (nI md), va_rf es, va_rf nk, .null]))], we, wv, [(i, .inr (32, [.ref e_a4, va_rf lp, .int (nI md), .ref t]))]] : List va_W).flatten := ⟨_, rfl⟩
    have hwc_2 : MItP g 32 i t f n md j la wc_2 := by
      rw [ewc_2]
      exact ⟨vs, es, nk, ns, key, val, l, r, p, col, lo, hi, root, _, _, _, _, hT, hn, hF, hwe, hwv, hLf, hLa, rfl⟩
    refine g_close (w := wc_2) [0, 0, 0, 0] rfl ewc_2 rfl ?_
    refine (show Go g κ 12 [some (.ref i)] [.int (nI 1)] [wc_2] 0 0 from ?_)
    exact g_zret B E dJ31_hasNext_12 (by decide) (⟨true, _, rfl, rfl, hwc_2, ⟨fun _ => lf_yes hF hLf, fun _ => rfl⟩⟩)
theorem ct_J34_next_m (g : Gv) (J : Jd g) {i : Nat} {t : Nat} {f : Nat → Option Nat} {n : Nat} {md : Nat} {j : Nat} {la : Option Nat} {w0 : va_W} (hw0 : MItP g 33 i t f n md j la w0) (hne : ∃ k, j ≤ k ∧ f k ≠ none) : Ct g yJ34_next (ws_ yJ34_next cJ34_next 1 (some (.object "java/lang/Object"))) 2 0 0 [.ref i] [w0] (fun (rv_ : Option Value) (rL_ : List va_W) => ∃ (k : Nat) (v : Nat) (u0 : va_W), rv_ = some (.ref v) ∧ rL_ = [u0] ∧ MItP g 33 i t f n md (k + 1) (some k) u0 ∧ (j ≤ k) ∧ (k < 128) ∧ (f k = some v) ∧ (∀ q, j ≤ q → q < k → f q = none)) noX := by
  refine Ct.of "java/util/TreeMap$ValueIterator" [some (.ref i)] rfl (by decide) rfl (Nat.le_of_ble_eq_true rfl) rfl ?_
  intro κ B E tb
  obtain ⟨vs, es, nk, ns, key, val, l, r, p, col, lo, hi, root, we, wv, e, lp, hT, hn, hF, hwe, hwv, hLf, hLa, rfl⟩ := hw0
  refine g_open 0 rfl rfl rfl ?_
  refine (show Go g κ 0 [some (.ref i)] [] [[(t, .inr (27, [.null, va_rf vs, .null, va_rf root, .int (nI n), .int (nI md), va_rf es, va_rf nk, .null]))], we, wv, [(i, .inr (33, [va_rf e, va_rf lp, .int (nI md), .ref t]))]] 0 0 from ?_)
  obtain ⟨a, rfl⟩ : ∃ a, e = some a := by
    cases e with
    | none => exact absurd hne (lf_no hF hLf)
    | some a => exact ⟨a, rfl⟩
  have ha := hLf.1 a rfl
  refine (show Go g κ 0 [some (.ref i)] [] [[(t, .inr (27, [.null, va_rf vs, .null, va_rf root, .int (nI n), .int (nI md), va_rf es, va_rf nk, .null]))], we, wv, [(i, .inr (33, [.ref a, va_rf lp, .int (nI md), .ref t]))]] 0 0 from ?_)
  refine g_aload_n (q := 1) B dJ34_next_0 rfl rfl (rv_r _) ?_
  refine g_callU (q := 4) (is := [0, 0, 1]) (kc2 := 0) (ks2 := 0) B [] (ct_J31_nextEntry_v g J (t := t) (vs := vs) (n := n) (md := md) (es := es) (nk := nk) (ns := ns) (key := key) (val := val) (l := l) (r := r) (p := p) (col := col) (lo := lo) (hi := hi) (root := root) (M := 128) (i := i) (a := a) (la := lp) hwe (by first | assumption | omega | rfl) (ha.1)) dJ34_next_1 rfl (rc_at B (ci := 33) rfl (k := 3) rfl) rfl (by decide) q1047 q1048 q1049 q1027 q116 q1028 rfl rfl mojava_util_TreeMap_ValueIterator_nextEntry___Ljava_util_TreeMap_Entry_ rfl rfl (by decide) (by decide) (Nat.le_of_ble_eq_true rfl) (Nat.le_of_ble_eq_true rfl) (Nat.le_of_ble_eq_true rfl) (fun _ _ hx => noX_x hx) (fun v1 L1 hp1 => ?_)
  obtain ⟨e1, rfl, rfl, he_1⟩ := hp1
  refine (show Go g κ 4 [some (.ref i)] [.ref a] [wv, [(t, .inr (27, [.null, va_rf vs, .null, va_rf root, .int (nI n), .int (nI md), va_rf es, va_rf nk, .null]))], we, [(i, .inr (33, [va_rf e1, .ref a, .int (nI md), .ref t]))]] 0 0 from ?_)
  refine g_getM (v := .ref (val a)) (q := 7) B (ci := 28) (k := 2) (j := 1) in_J37 rfl dJ34_next_4 rfl rfl (EntG.mem hwe ha.1) (Nat.le_of_ble_eq_true rfl) q2110 rfl rfl ?_
  obtain ⟨wc_1, ewc_1⟩ : ∃ w : va_W, w = ([[(t, .inr (27, [.null, va_rf vs, .null, va_rf root, .int (nI n), .int (nI md), va_rf es, va_rf nk, .null]))], we, wv, [(i, .inr (33, [va_rf e1, .ref a, .int (nI md), .ref t]))]] : List va_W).flatten := ⟨_, rfl⟩
  have hwc_1 : MItP g 33 i t f n md (key a + 1) (some (key a)) wc_1 := by
    rw [ewc_1]
    exact ⟨vs, es, nk, ns, key, val, l, r, p, col, lo, hi, root, _, _, _, _, hT, hn, hF, hwe, hwv, he_1, (fun k h => by cases h; exact ⟨a, rfl, ha.1, rfl, rfl⟩), rfl⟩
  refine g_close (w := wc_1) [1, 1, 0, 0] rfl ewc_1 rfl ?_
  refine (show Go g κ 7 [some (.ref i)] [.ref (val a)] [wc_1] 0 0 from ?_)
  exact g_aret B E dJ34_next_7 (by first | exact Or.inl ⟨_, rfl⟩ | exact Or.inr ⟨_, rfl⟩) (rv_r _) (⟨key a, val a, _, rfl, rfl, hwc_1, ha.2.1, tr_k hT ha.1, hF.1 a ha.1, lf_btw hF hLf⟩)
theorem ct_J33_next_m (g : Gv) (J : Jd g) {i : Nat} {t : Nat} {f : Nat → Option Nat} {n : Nat} {md : Nat} {j : Nat} {la : Option Nat} {w0 : va_W} (hw0 : MItP g 32 i t f n md j la w0) (hne : ∃ k, j ≤ k ∧ f k ≠ none) : Ct g yJ33_next (ws_ yJ33_next cJ33_next 1 (some (.object "java/lang/Object"))) 2 0 0 [.ref i] [w0] (fun (rv_ : Option Value) (rL_ : List va_W) => ∃ (k : Nat) (v : Nat) (u0 : va_W), rv_ = some (.ref (kI g k)) ∧ rL_ = [u0] ∧ MItP g 32 i t f n md (k + 1) (some k) u0 ∧ (j ≤ k) ∧ (k < 128) ∧ (f k = some v) ∧ (∀ q, j ≤ q → q < k → f q = none)) noX := by
  refine Ct.of "java/util/TreeMap$KeyIterator" [some (.ref i)] rfl (by decide) rfl (Nat.le_of_ble_eq_true rfl) rfl ?_
  intro κ B E tb
  obtain ⟨vs, es, nk, ns, key, val, l, r, p, col, lo, hi, root, we, wv, e, lp, hT, hn, hF, hwe, hwv, hLf, hLa, rfl⟩ := hw0
  refine g_open 0 rfl rfl rfl ?_
  refine (show Go g κ 0 [some (.ref i)] [] [[(t, .inr (27, [.null, va_rf vs, .null, va_rf root, .int (nI n), .int (nI md), va_rf es, va_rf nk, .null]))], we, wv, [(i, .inr (32, [va_rf e, va_rf lp, .int (nI md), .ref t]))]] 0 0 from ?_)
  obtain ⟨a, rfl⟩ : ∃ a, e = some a := by
    cases e with
    | none => exact absurd hne (lf_no hF hLf)
    | some a => exact ⟨a, rfl⟩
  have ha := hLf.1 a rfl
  refine (show Go g κ 0 [some (.ref i)] [] [[(t, .inr (27, [.null, va_rf vs, .null, va_rf root, .int (nI n), .int (nI md), va_rf es, va_rf nk, .null]))], we, wv, [(i, .inr (32, [.ref a, va_rf lp, .int (nI md), .ref t]))]] 0 0 from ?_)
  refine g_aload_n (q := 1) B dJ33_next_0 rfl rfl (rv_r _) ?_
  refine g_callU (q := 4) (is := [0, 0, 1]) (kc2 := 0) (ks2 := 0) B [] (ct_J31_nextEntry_k g J (t := t) (vs := vs) (n := n) (md := md) (es := es) (nk := nk) (ns := ns) (key := key) (val := val) (l := l) (r := r) (p := p) (col := col) (lo := lo) (hi := hi) (root := root) (M := 128) (i := i) (a := a) (la := lp) hwe (by first | assumption | omega | rfl) (ha.1)) dJ33_next_1 rfl (rc_at B (ci := 32) rfl (k := 3) rfl) rfl (by decide) q1039 q1040 q1041 q1027 q116 q1028 rfl rfl mojava_util_TreeMap_KeyIterator_nextEntry___Ljava_util_TreeMap_Entry_ rfl rfl (by decide) (by decide) (Nat.le_of_ble_eq_true rfl) (Nat.le_of_ble_eq_true rfl) (Nat.le_of_ble_eq_true rfl) (fun _ _ hx => noX_x hx) (fun v1 L1 hp1 => ?_)
  obtain ⟨e1, rfl, rfl, he_1⟩ := hp1
  refine (show Go g κ 4 [some (.ref i)] [.ref a] [wv, [(t, .inr (27, [.null, va_rf vs, .null, va_rf root, .int (nI n), .int (nI md), va_rf es, va_rf nk, .null]))], we, [(i, .inr (32, [va_rf e1, .ref a, .int (nI md), .ref t]))]] 0 0 from ?_)
  refine g_getM (v := .ref (kI g (key a))) (q := 7) B (ci := 28) (k := 2) (j := 0) in_J37 rfl dJ33_next_4 rfl rfl (EntG.mem hwe ha.1) (Nat.le_of_ble_eq_true rfl) q2107 rfl rfl ?_
  obtain ⟨wc_1, ewc_1⟩ : ∃ w : va_W, w = ([[(t, .inr (27, [.null, va_rf vs, .null, va_rf root, .int (nI n), .int (nI md), va_rf es, va_rf nk, .null]))], we, wv, [(i, .inr (32, [va_rf e1, .ref a, .int (nI md), .ref t]))]] : List va_W).flatten := ⟨_, rfl⟩
  have hwc_1 : MItP g 32 i t f n md (key a + 1) (some (key a)) wc_1 := by
    rw [ewc_1]
    exact ⟨vs, es, nk, ns, key, val, l, r, p, col, lo, hi, root, _, _, _, _, hT, hn, hF, hwe, hwv, he_1, (fun k h => by cases h; exact ⟨a, rfl, ha.1, rfl, rfl⟩), rfl⟩
  refine g_close (w := wc_1) [1, 1, 0, 0] rfl ewc_1 rfl ?_
  refine (show Go g κ 7 [some (.ref i)] [.ref (kI g (key a))] [wc_1] 0 0 from ?_)
  exact g_aret B E dJ33_next_7 (by first | exact Or.inl ⟨_, rfl⟩ | exact Or.inr ⟨_, rfl⟩) (rv_r _) (⟨key a, val a, _, rfl, rfl, hwc_1, ha.2.1, tr_k hT ha.1, hF.1 a ha.1, lf_btw hF hLf⟩)
theorem ct_J10_get_i (g : Gv) (J : Jd g) {i : Nat} {t : Nat} {f : Nat → Option Nat} {n : Nat} {md : Nat} {j : Nat} {la : Option Nat} {k : Nat} {w0 : va_W} (hw0 : MItP g 32 i t f n md j la w0) (hk : k < 128) : Ct g yJ10_get (ws_ yJ10_get cJ10_get 3 (some (.object "java/lang/Object"))) 4 0 0 [.ref t, .ref (kI g k)] [w0] (fun (rv_ : Option Value) (rL_ : List va_W) => ∃ (u0 : va_W), rv_ = some (va_rf (f k)) ∧ rL_ = [u0] ∧ MItP g 32 i t f n md j la u0) noX := by
  refine Ct.of "java/util/TreeMap" [some (.ref t), some (.ref (kI g k)), none] rfl (by decide) rfl (Nat.le_of_ble_eq_true rfl) rfl ?_
  intro κ B E tb
  obtain ⟨vs, es, nk, ns, key, val, l, r, p, col, lo, hi, root, we, wv, e, lp, hT, hn, hF, hwe, hwv, hLf, hLa, rfl⟩ := hw0
  refine g_open 0 rfl rfl rfl ?_
  refine (show Go g κ 0 [some (.ref t), some (.ref (kI g k)), none] [] [[(t, .inr (27, [.null, va_rf vs, .null, va_rf root, .int (nI n), .int (nI md), va_rf es, va_rf nk, .null]))], we, wv, [(i, .inr (32, [va_rf e, va_rf lp, .int (nI md), .ref t]))]] 0 0 from ?_)
  refine g_aload_n (q := 1) B dJ10_get_0 rfl rfl (rv_r _) ?_
  refine g_aload_n (q := 2) B dJ10_get_1 rfl rfl (rv_r _) ?_
  refine g_callV (q := 5) (is := [0, 0]) (kc2 := 0) (ks2 := 0) B [.ref (kI g k)] (ct_J10_getEntry g J (t := t) (vs := vs) (n := n) (md := md) (es := es) (nk := nk) (ns := ns) (key := key) (val := val) (l := l) (r := r) (p := p) (col := col) (lo := lo) (hi := hi) (root := root) (k := k) hwe (by first | assumption | omega | rfl) (by first | assumption | omega | rfl)) dJ10_get_2 rfl (rc_at B (ci := 27) rfl (k := 0) rfl) rfl q1807 q1808 q1809 q91 q1810 rfl rfl moJ10_getEntry rfl rfl (by decide) (by decide) (Nat.le_of_ble_eq_true rfl) (Nat.le_of_ble_eq_true rfl) (Nat.le_of_ble_eq_true rfl) (fun _ _ hx => noX_x hx) (fun v2 L1 hp2 => ?_)
  obtain ⟨e2, rfl, rfl, he_2, hn_2⟩ := hp2
  refine (show Go g κ 5 [some (.ref t), some (.ref (kI g k)), none] [va_rf e2] [wv, [(i, .inr (32, [va_rf e, va_rf lp, .int (nI md), .ref t]))], [(t, .inr (27, [.null, va_rf vs, .null, va_rf root, .int (nI n), .int (nI md), va_rf es, va_rf nk, .null]))], we] 0 0 from ?_)
  refine g_astore_n (q := 6) (lv2 := [some (.ref t), some (.ref (kI g k)), some (va_rf e2)]) B dJ10_get_5 rfl (Nat.le_of_ble_eq_true rfl) (rv_o _) rfl ?_
  refine g_aload_n (q := 7) B dJ10_get_6 rfl rfl (rv_o _) ?_
  refine g_ifnonnull_o (tgt := 14) (q := 10) B dJ10_get_7 rfl (by decide) (fun e2_a7 c7 => ?_) (fun c7 => ?_)
  · skip
    subst c7
    have ham := he_2 e2_a7 rfl
    refine g_aload_n (q := 15) B dJ10_get_14 rfl rfl (rv_r _) ?_
    refine g_getM (v := .ref (val e2_a7)) (q := 18) B (ci := 28) (k := 3) (j := 1) in_J37 rfl dJ10_get_15 rfl rfl (EntG.mem hwe ham.1) (Nat.le_of_ble_eq_true rfl) q2111 rfl rfl ?_
    obtain ⟨wc_1, ewc_1⟩ : ∃ w : va_W, w = ([[(t, .inr (27, [.null, va_rf vs, .null, va_rf root, .int (nI n), .int (nI md), va_rf es, va_rf nk, .null]))], we, wv, [(i, .inr (32, [va_rf e, va_rf lp, .int (nI md), .ref t]))]] : List va_W).flatten := ⟨_, rfl⟩
    have hwc_1 : MItP g 32 i t f n md j la wc_1 := by
      rw [ewc_1]
      exact ⟨vs, es, nk, ns, key, val, l, r, p, col, lo, hi, root, _, _, _, _, hT, hn, hF, hwe, hwv, hLf, hLa, rfl⟩
    refine g_close (w := wc_1) [2, 2, 0, 0] rfl ewc_1 rfl ?_
    refine (show Go g κ 18 [some (.ref t), some (.ref (kI g k)), some (.ref e2_a7)] [.ref (val e2_a7)] [wc_1] 0 0 from ?_)
    exact g_aret B E dJ10_get_18 (by first | exact Or.inl ⟨_, rfl⟩ | exact Or.inr ⟨_, rfl⟩) (rv_r _) (⟨wc_1, by rw [hF.some ham]; rfl, rfl, hwc_1⟩)
  · skip
    subst c7
    refine g_aconst_null (q := 11) B dJ10_get_10 rfl ?_
    refine g_goto (tgt := 18) B dJ10_get_11 (by decide) ?_
    obtain ⟨wc_2, ewc_2⟩ : ∃ w : va_W, w = ([[(t, .inr (27, [.null, va_rf vs, .null, va_rf root, .int (nI n), .int (nI md), va_rf es, va_rf nk, .null]))], we, wv, [(i, .inr (32, [va_rf e, va_rf lp, .int (nI md), .ref t]))]] : List va_W).flatten := ⟨_, rfl⟩
    have hwc_2 : MItP g 32 i t f n md j la wc_2 := by
      rw [ewc_2]
      exact ⟨vs, es, nk, ns, key, val, l, r, p, col, lo, hi, root, _, _, _, _, hT, hn, hF, hwe, hwv, hLf, hLa, rfl⟩
    refine g_close (w := wc_2) [2, 2, 0, 0] rfl ewc_2 rfl ?_
    refine (show Go g κ 18 [some (.ref t), some (.ref (kI g k)), some (.null)] [.null] [wc_2] 0 0 from ?_)
    exact g_aret B E dJ10_get_18 (by first | exact Or.inl ⟨_, rfl⟩ | exact Or.inr ⟨_, rfl⟩) rv_n (⟨wc_2, by rw [hF.none (hn_2 rfl)]; rfl, rfl, hwc_2⟩)
theorem moJ10_deleteEntry : Mo yJ10_deleteEntry 1 := by
  refine ⟨by decide, by decide, by decide +kernel⟩
theorem ct_J10_remove (g : Gv) (J : Jd g) {t : Nat} {f : Nat → Option Nat} {n : Nat} {md : Nat} {k : Nat} {w0 : va_W} (hw0 : MapP g t f n md w0) (hk : k < 128) : Ct g yJ10_remove (ws_ yJ10_remove cJ10_remove 4 (some (.object "java/lang/Object"))) 4 0 0 [.ref t, .ref (kI g k)] [w0] (fun (rv_ : Option Value) (rL_ : List va_W) => ∃ (n2 : Nat) (md2 : Nat) (u0 : va_W), rv_ = some (va_rf (f k)) ∧ rL_ = [u0] ∧ MapP g t (fup f k none) n2 md2 u0) noX := by
  refine Ct.of "java/util/TreeMap" [some (.ref t), some (.ref (kI g k)), none, none] rfl (by decide) rfl (Nat.le_of_ble_eq_true rfl) rfl ?_
  intro κ B E tb
  obtain ⟨vs, es, nk, ns, key, val, l, r, p, col, lo, hi, root, we, wv, hT, hn, hF, hwe, hwv, rfl⟩ := hw0
  refine g_open 0 rfl rfl rfl ?_
  refine (show Go g κ 0 [some (.ref t), some (.ref (kI g k)), none, none] [] [[(t, .inr (27, [.null, va_rf vs, .null, va_rf root, .int (nI n), .int (nI md), va_rf es, va_rf nk, .null]))], we, wv] 0 0 from ?_)
  refine g_aload_n (q := 1) B dJ10_remove_0 rfl rfl (rv_r _) ?_
  refine g_aload_n (q := 2) B dJ10_remove_1 rfl rfl (rv_r _) ?_
  refine g_callV (q := 5) (is := [0, 0]) (kc2 := 0) (ks2 := 0) B [.ref (kI g k)] (ct_J10_getEntry g J (t := t) (vs := vs) (n := n) (md := md) (es := es) (nk := nk) (ns := ns) (key := key) (val := val) (l := l) (r := r) (p := p) (col := col) (lo := lo) (hi := hi) (root := root) (k := k) hwe (by first | assumption | omega | rfl) (by first | assumption | omega | rfl)) dJ10_remove_2 rfl (rc_at B (ci := 27) rfl (k := 0) rfl) rfl q1807 q1808 q1809 q91 q1810 rfl rfl moJ10_getEntry rfl rfl (by decide) (by decide) (Nat.le_of_ble_eq_true rfl) (Nat.le_of_ble_eq_true rfl) (Nat.le_of_ble_eq_true rfl) (fun _ _ hx => noX_x hx) (fun v2 L1 hp2 => ?_)
  obtain ⟨e2, rfl, rfl, he_2, hn_2⟩ := hp2
  refine (show Go g κ 5 [some (.ref t), some (.ref (kI g k)), none, none] [va_rf e2] [wv, [(t, .inr (27, [.null, va_rf vs, .null, va_rf root, .int (nI n), .int (nI md), va_rf es, va_rf nk, .null]))], we] 0 0 from ?_)
  refine g_astore_n (q := 6) (lv2 := [some (.ref t), some (.ref (kI g k)), some (va_rf e2), none]) B dJ10_remove_5 rfl (Nat.le_of_ble_eq_true rfl) (rv_o _) rfl ?_
  refine g_aload_n (q := 7) B dJ10_remove_6 rfl rfl (rv_o _) ?_
  refine g_ifnonnull_o (tgt := 12) (q := 10) B dJ10_remove_7 rfl (by decide) (fun e2_a7 c7 => ?_) (fun c7 => ?_)
  · skip
    subst c7
    have ham := he_2 e2_a7 rfl
    refine g_aload_n (q := 13) B dJ10_remove_12 rfl rfl (rv_r _) ?_
    refine g_getM (v := .ref (val e2_a7)) (q := 16) B (ci := 28) (k := 2) (j := 1) in_J37 rfl dJ10_remove_13 rfl rfl (EntG.mem hwe ham.1) (Nat.le_of_ble_eq_true rfl) q2111 rfl rfl ?_
    refine g_astore_n (q := 17) (lv2 := [some (.ref t), some (.ref (kI g k)), some (.ref e2_a7), some (.ref (val e2_a7))]) B dJ10_remove_16 rfl (Nat.le_of_ble_eq_true rfl) (rv_r _) rfl ?_
    refine g_aload_n (q := 18) B dJ10_remove_17 rfl rfl (rv_r _) ?_
    refine g_aload_n (q := 19) B dJ10_remove_18 rfl rfl (rv_r _) ?_
    refine g_callV (q := 22) (is := [1, 1]) (kc2 := 0) (ks2 := 0) B [.ref e2_a7] (ct_J10_deleteEntry g J (t := t) (vs := vs) (n := n) (md := md) (es := es) (nk := nk) (ns := ns) (key := key) (val := val) (l := l) (r := r) (p := p) (col := col) (lo := lo) (hi := hi) (root := root) (a := e2_a7) hwe (by first | assumption | omega | rfl) (ham.1) (by first | assumption | omega | rfl)) dJ10_remove_19 rfl (rc_at B (ci := 27) rfl (k := 1) rfl) rfl q2906 q2307 qs25 q91 q2308 rfl rfl moJ10_deleteEntry rfl rfl (by decide) (by decide) (Nat.le_of_ble_eq_true rfl) (Nat.le_of_ble_eq_true rfl) (Nat.le_of_ble_eq_true rfl) (fun _ _ hx => noX_x hx) (fun v19 L1 hp19 => ?_)
    obtain ⟨ns219, key219, val219, l219, r219, p219, col219, lo219, hi219, root219, u1_19, rfl, rfl, hu1_19, hT2_19, hD_19⟩ := hp19
    refine (show Go g κ 22 [some (.ref t), some (.ref (kI g k)), some (.ref e2_a7), some (.ref (val e2_a7))] [] [wv, [(t, .inr (27, [.null, va_rf vs, .null, va_rf root219, .int (nI (n - 1)), .int (nI (md + 1)), va_rf es, va_rf nk, .null]))], u1_19] 0 0 from ?_)
    refine g_aload_n (q := 23) B dJ10_remove_22 rfl rfl (rv_r _) ?_
    obtain ⟨wc_1, ewc_1⟩ : ∃ w : va_W, w = ([[(t, .inr (27, [.null, va_rf vs, .null, va_rf root219, .int (nI (n - 1)), .int (nI (md + 1)), va_rf es, va_rf nk, .null]))], u1_19, wv] : List va_W).flatten := ⟨_, rfl⟩
    have hwc_1 : MapP g t (fup f k none) (n - 1) (md + 1) wc_1 := by
      rw [ewc_1]
      exact ⟨vs, es, nk, ns219, key219, val219, l219, r219, p219, col219, lo219, hi219, root219, _, _, hT2_19, (by have := hD_19.1; omega), (by rw [← ham.2]; exact hD_19.2.1 f hF), hu1_19, hwv, rfl⟩
    refine g_close (w := wc_1) [1, 1, 0] rfl ewc_1 rfl ?_
    refine (show Go g κ 23 [some (.ref t), some (.ref (kI g k)), some (.ref e2_a7), some (.ref (val e2_a7))] [.ref (val e2_a7)] [wc_1] 0 0 from ?_)
    exact g_aret B E dJ10_remove_23 (by first | exact Or.inl ⟨_, rfl⟩ | exact Or.inr ⟨_, rfl⟩) (rv_r _) (⟨n - 1, md + 1, _, by rw [hF.some ham]; rfl, rfl, hwc_1⟩)
  · skip
    subst c7
    obtain ⟨wc_2, ewc_2⟩ : ∃ w : va_W, w = ([[(t, .inr (27, [.null, va_rf vs, .null, va_rf root, .int (nI n), .int (nI md), va_rf es, va_rf nk, .null]))], we, wv] : List va_W).flatten := ⟨_, rfl⟩
    have hwc_2 : MapP g t (fup f k none) n md wc_2 := by
      rw [ewc_2]
      exact ⟨vs, es, nk, ns, key, val, l, r, p, col, lo, hi, root, _, _, hT, hn, (by rw [mf_same (hF.none (hn_2 rfl))]; exact hF), hwe, hwv, rfl⟩
    refine g_close (w := wc_2) [1, 1, 0] rfl ewc_2 rfl ?_
    refine (show Go g κ 10 [some (.ref t), some (.ref (kI g k)), some (.null), none] [] [wc_2] 0 0 from ?_)
    refine g_aconst_null (q := 11) B dJ10_remove_10 rfl ?_
    exact g_aret B E dJ10_remove_11 (by first | exact Or.inl ⟨_, rfl⟩ | exact Or.inr ⟨_, rfl⟩) rv_n (⟨n, md, _, by rw [hF.none (hn_2 rfl)]; rfl, rfl, hwc_2⟩)
theorem ct_J31_remove (g : Gv) (J : Jd g) {i : Nat} {t : Nat} {f : Nat → Option Nat} {n : Nat} {md : Nat} {j : Nat} {k : Nat} {w0 : va_W} (hw0 : MItP g 32 i t f n md j (some k) w0) : Ct g yJ31_remove (ws_ yJ31_remove cJ31_remove 1 none) 3 0 0 [.ref i] [w0] (fun (rv_ : Option Value) (rL_ : List va_W) => ∃ (u0 : va_W), rv_ = none ∧ rL_ = [u0] ∧ MItP g 32 i t (fup f k none) (n - 1) (md + 1) j none u0) noX := by
  refine Ct.of "java/util/TreeMap$PrivateEntryIterator" [some (.ref i)] rfl (by decide) rfl (Nat.le_of_ble_eq_true rfl) rfl ?_
  intro κ B E tb
  obtain ⟨vs, es, nk, ns, key, val, l, r, p, col, lo, hi, root, we, wv, e, lp, hT, hn, hF, hwe, hwv, hLf, hLa, rfl⟩ := hw0
  refine g_open 0 rfl rfl rfl ?_
  refine (show Go g κ 0 [some (.ref i)] [] [[(t, .inr (27, [.null, va_rf vs, .null, va_rf root, .int (nI n), .int (nI md), va_rf es, va_rf nk, .null]))], we, wv, [(i, .inr (32, [va_rf e, va_rf lp, .int (nI md), .ref t]))]] 0 0 from ?_)
  obtain ⟨a, rfl, ha, hka, hj⟩ := hLa k rfl
  subst hka hj
  refine (show Go g κ 0 [some (.ref i)] [] [[(t, .inr (27, [.null, va_rf vs, .null, va_rf root, .int (nI n), .int (nI md), va_rf es, va_rf nk, .null]))], we, wv, [(i, .inr (32, [va_rf e, .ref a, .int (nI md), .ref t]))]] 0 0 from ?_)
  refine g_aload_n (q := 1) B dJ31_remove_0 rfl rfl (rv_r _) ?_
  refine g_get (q := 4) B (ci := 32) (k := 3) (j := 1) in_J33 rfl dJ31_remove_1 rfl rfl (Nat.le_of_ble_eq_true rfl) q878 rfl rfl ?_
  refine g_ifnonnull_r (tgt := 15) B dJ31_remove_4 (by decide) ?_
  refine g_aload_n (q := 16) B dJ31_remove_15 rfl rfl (rv_r _) ?_
  refine g_get (q := 19) B (ci := 32) (k := 3) (j := 3) in_J33 rfl dJ31_remove_16 rfl rfl (Nat.le_of_ble_eq_true rfl) q880 rfl rfl ?_
  refine g_getN (q := 22) B (ci := 27) (k := 0) (j := 5) in_J10 rfl dJ31_remove_19 rfl rfl (Nat.le_of_ble_eq_true rfl) q1874 rfl rfl ?_
  refine g_aload_n (q := 23) B dJ31_remove_22 rfl rfl (rv_r _) ?_
  refine g_get (q := 26) B (ci := 32) (k := 3) (j := 2) in_J33 rfl dJ31_remove_23 rfl rfl (Nat.le_of_ble_eq_true rfl) q879 rfl rfl ?_
  refine g_icmp_eq (tgt := 37) (q := 29) B dJ31_remove_26 rfl (by decide) (iff_true_intro (rfl)) (fun _ => ?_) (fun z => absurd trivial z)
  refine g_aload_n (q := 38) B dJ31_remove_37 rfl rfl (rv_r _) ?_
  refine g_get (q := 41) B (ci := 32) (k := 3) (j := 1) in_J33 rfl dJ31_remove_38 rfl rfl (Nat.le_of_ble_eq_true rfl) q878 rfl rfl ?_
  refine g_getM (v := va_rf (l a)) (q := 44) B (ci := 28) (k := 1) (j := 2) in_J37 rfl dJ31_remove_41 rfl rfl (EntG.mem hwe ha) (Nat.le_of_ble_eq_true rfl) q2112 rfl rfl ?_
  refine g_ifnull_o (tgt := 65) (q := 47) B dJ31_remove_44 rfl (by decide) (fun c44 => ?_) (fun la_a44 c44 => ?_)
  · skip
    refine g_aload_n (q := 66) B dJ31_remove_65 rfl rfl (rv_r _) ?_
    refine g_get (q := 69) B (ci := 32) (k := 3) (j := 3) in_J33 rfl dJ31_remove_66 rfl rfl (Nat.le_of_ble_eq_true rfl) q880 rfl rfl ?_
    refine g_aload_n (q := 70) B dJ31_remove_69 rfl rfl (rv_r _) ?_
    refine g_get (q := 73) B (ci := 32) (k := 3) (j := 1) in_J33 rfl dJ31_remove_70 rfl rfl (Nat.le_of_ble_eq_true rfl) q878 rfl rfl ?_
    refine g_callVN (q := 76) (is := [0, 0]) (kc2 := 0) (ks2 := 0) B [.ref a] (ct_J10_deleteEntry g J (t := t) (vs := vs) (n := n) (md := md) (es := es) (nk := nk) (ns := ns) (key := key) (val := val) (l := l) (r := r) (p := p) (col := col) (lo := lo) (hi := hi) (root := root) (a := a) hwe (by first | assumption | omega | rfl) (by first | assumption | omega | rfl) (by first | assumption | omega | rfl)) dJ31_remove_73 rfl (rc_at B (ci := 27) rfl (k := 0) rfl) q2305 q2307 qs25 q91 q2308 rfl rfl moJ10_deleteEntry rfl rfl (by decide) (by decide) (Nat.le_of_ble_eq_true rfl) (Nat.le_of_ble_eq_true rfl) (Nat.le_of_ble_eq_true rfl) (fun _ _ hx => noX_x hx) (fun v73 L1 hp73 => ?_)
    obtain ⟨ns273, key273, val273, l273, r273, p273, col273, lo273, hi273, root273, u1_73, rfl, rfl, hu1_73, hT2_73, hD_73⟩ := hp73
    refine (show Go g κ 76 [some (.ref i)] [] [wv, [(i, .inr (32, [va_rf e, .ref a, .int (nI md), .ref t]))], [(t, .inr (27, [.null, va_rf vs, .null, va_rf root273, .int (nI (n - 1)), .int (nI (md + 1)), va_rf es, va_rf nk, .null]))], u1_73] 0 0 from ?_)
    refine g_aload_n (q := 77) B dJ31_remove_76 rfl rfl (rv_r _) ?_
    refine g_aload_n (q := 78) B dJ31_remove_77 rfl rfl (rv_r _) ?_
    refine g_get (q := 81) B (ci := 32) (k := 1) (j := 3) in_J33 rfl dJ31_remove_78 rfl rfl (Nat.le_of_ble_eq_true rfl) q880 rfl rfl ?_
    refine g_getN (q := 84) B (ci := 27) (k := 2) (j := 5) in_J10 rfl dJ31_remove_81 rfl rfl (Nat.le_of_ble_eq_true rfl) q1874 rfl rfl ?_
    refine g_put (q := 87) (L2 := [wv, [(i, .inr (32, [va_rf e, .ref a, .int (nI (md + 1)), .ref t]))], [(t, .inr (27, [.null, va_rf vs, .null, va_rf root273, .int (nI (n - 1)), .int (nI (md + 1)), va_rf es, va_rf nk, .null]))], u1_73]) B (ci := 32) (k := 1) (j := 2) in_J33 tyJ33 tyJ33_ok nmJ33 rfl dJ31_remove_84 rfl rfl (Nat.le_of_ble_eq_true rfl) q879 rfl rfl rfl rfl (Nat.le_of_ble_eq_true rfl) rfl ?_
    refine g_aload_n (q := 88) B dJ31_remove_87 rfl rfl (rv_r _) ?_
    refine g_aconst_null (q := 89) B dJ31_remove_88 rfl ?_
    refine g_put (q := 92) (L2 := [wv, [(i, .inr (32, [va_rf e, .null, .int (nI (md + 1)), .ref t]))], [(t, .inr (27, [.null, va_rf vs, .null, va_rf root273, .int (nI (n - 1)), .int (nI (md + 1)), va_rf es, va_rf nk, .null]))], u1_73]) B (ci := 32) (k := 1) (j := 1) in_J33 tyJ33 tyJ33_ok nmJ33 rfl dJ31_remove_89 rfl rfl (Nat.le_of_ble_eq_true rfl) q878 rfl rfl rfl rfl (Nat.le_of_ble_eq_true rfl) rfl ?_
    obtain ⟨wc_1, ewc_1⟩ : ∃ w : va_W, w = ([[(t, .inr (27, [.null, va_rf vs, .null, va_rf root273, .int (nI (n - 1)), .int (nI (md + 1)), va_rf es, va_rf nk, .null]))], u1_73, wv, [(i, .inr (32, [va_rf e, .null, .int (nI (md + 1)), .ref t]))]] : List va_W).flatten := ⟨_, rfl⟩
    have hwc_1 : MItP g 32 i t (fup f (key a) none) (n - 1) (md + 1) (key a + 1) none wc_1 := by
      rw [ewc_1]
      exact ⟨vs, es, nk, ns273, key273, val273, l273, r273, p273, col273, lo273, hi273, root273, _, _, _, none, hT2_73, (by have := hD_73.1; omega), hD_73.2.1 f hF, hu1_73, hwv, ((hD_73.2.2 _ hLf).2 (fun z => z.1 c44)), (fun k h => by cases h), rfl⟩
    refine g_close (w := wc_1) [2, 2, 0, 0] rfl ewc_1 rfl ?_
    refine (show Go g κ 92 [some (.ref i)] [] [wc_1] 0 0 from ?_)
    exact g_vret B E dJ31_remove_92 (⟨wc_1, rfl, rfl, hwc_1⟩)
  · skip
    refine g_aload_n (q := 48) B dJ31_remove_47 rfl rfl (rv_r _) ?_
    refine g_get (q := 51) B (ci := 32) (k := 3) (j := 1) in_J33 rfl dJ31_remove_48 rfl rfl (Nat.le_of_ble_eq_true rfl) q878 rfl rfl ?_
    refine g_getM (v := va_rf (r a)) (q := 54) B (ci := 28) (k := 1) (j := 3) in_J37 rfl dJ31_remove_51 rfl rfl (EntG.mem hwe ha) (Nat.le_of_ble_eq_true rfl) q2114 rfl rfl ?_
    refine g_ifnull_o (tgt := 65) (q := 57) B dJ31_remove_54 rfl (by decide) (fun c54 => ?_) (fun ra_a54 c54 => ?_)
    · skip
      refine g_aload_n (q := 66) B dJ31_remove_65 rfl rfl (rv_r _) ?_
      refine g_get (q := 69) B (ci := 32) (k := 3) (j := 3) in_J33 rfl dJ31_remove_66 rfl rfl (Nat.le_of_ble_eq_true rfl) q880 rfl rfl ?_
      refine g_aload_n (q := 70) B dJ31_remove_69 rfl rfl (rv_r _) ?_
      refine g_get (q := 73) B (ci := 32) (k := 3) (j := 1) in_J33 rfl dJ31_remove_70 rfl rfl (Nat.le_of_ble_eq_true rfl) q878 rfl rfl ?_
      refine g_callVN (q := 76) (is := [0, 0]) (kc2 := 0) (ks2 := 0) B [.ref a] (ct_J10_deleteEntry g J (t := t) (vs := vs) (n := n) (md := md) (es := es) (nk := nk) (ns := ns) (key := key) (val := val) (l := l) (r := r) (p := p) (col := col) (lo := lo) (hi := hi) (root := root) (a := a) hwe (by first | assumption | omega | rfl) (by first | assumption | omega | rfl) (by first | assumption | omega | rfl)) dJ31_remove_73 rfl (rc_at B (ci := 27) rfl (k := 0) rfl) q2305 q2307 qs25 q91 q2308 rfl rfl moJ10_deleteEntry rfl rfl (by decide) (by decide) (Nat.le_of_ble_eq_true rfl) (Nat.le_of_ble_eq_true rfl) (Nat.le_of_ble_eq_true rfl) (fun _ _ hx => noX_x hx) (fun v73 L1 hp73 => ?_)
      obtain ⟨ns273, key273, val273, l273, r273, p273, col273, lo273, hi273, root273, u1_73, rfl, rfl, hu1_73, hT2_73, hD_73⟩ := hp73
      refine (show Go g κ 76 [some (.ref i)] [] [wv, [(i, .inr (32, [va_rf e, .ref a, .int (nI md), .ref t]))], [(t, .inr (27, [.null, va_rf vs, .null, va_rf root273, .int (nI (n - 1)), .int (nI (md + 1)), va_rf es, va_rf nk, .null]))], u1_73] 0 0 from ?_)
      refine g_aload_n (q := 77) B dJ31_remove_76 rfl rfl (rv_r _) ?_
      refine g_aload_n (q := 78) B dJ31_remove_77 rfl rfl (rv_r _) ?_
      refine g_get (q := 81) B (ci := 32) (k := 1) (j := 3) in_J33 rfl dJ31_remove_78 rfl rfl (Nat.le_of_ble_eq_true rfl) q880 rfl rfl ?_
      refine g_getN (q := 84) B (ci := 27) (k := 2) (j := 5) in_J10 rfl dJ31_remove_81 rfl rfl (Nat.le_of_ble_eq_true rfl) q1874 rfl rfl ?_
      refine g_put (q := 87) (L2 := [wv, [(i, .inr (32, [va_rf e, .ref a, .int (nI (md + 1)), .ref t]))], [(t, .inr (27, [.null, va_rf vs, .null, va_rf root273, .int (nI (n - 1)), .int (nI (md + 1)), va_rf es, va_rf nk, .null]))], u1_73]) B (ci := 32) (k := 1) (j := 2) in_J33 tyJ33 tyJ33_ok nmJ33 rfl dJ31_remove_84 rfl rfl (Nat.le_of_ble_eq_true rfl) q879 rfl rfl rfl rfl (Nat.le_of_ble_eq_true rfl) rfl ?_
      refine g_aload_n (q := 88) B dJ31_remove_87 rfl rfl (rv_r _) ?_
      refine g_aconst_null (q := 89) B dJ31_remove_88 rfl ?_
      refine g_put (q := 92) (L2 := [wv, [(i, .inr (32, [va_rf e, .null, .int (nI (md + 1)), .ref t]))], [(t, .inr (27, [.null, va_rf vs, .null, va_rf root273, .int (nI (n - 1)), .int (nI (md + 1)), va_rf es, va_rf nk, .null]))], u1_73]) B (ci := 32) (k := 1) (j := 1) in_J33 tyJ33 tyJ33_ok nmJ33 rfl dJ31_remove_89 rfl rfl (Nat.le_of_ble_eq_true rfl) q878 rfl rfl rfl rfl (Nat.le_of_ble_eq_true rfl) rfl ?_
      obtain ⟨wc_2, ewc_2⟩ : ∃ w : va_W, w = ([[(t, .inr (27, [.null, va_rf vs, .null, va_rf root273, .int (nI (n - 1)), .int (nI (md + 1)), va_rf es, va_rf nk, .null]))], u1_73, wv, [(i, .inr (32, [va_rf e, .null, .int (nI (md + 1)), .ref t]))]] : List va_W).flatten := ⟨_, rfl⟩
      have hwc_2 : MItP g 32 i t (fup f (key a) none) (n - 1) (md + 1) (key a + 1) none wc_2 := by
        rw [ewc_2]
        exact ⟨vs, es, nk, ns273, key273, val273, l273, r273, p273, col273, lo273, hi273, root273, _, _, _, none, hT2_73, (by have := hD_73.1; omega), hD_73.2.1 f hF, hu1_73, hwv, ((hD_73.2.2 _ hLf).2 (fun z => z.2 c54)), (fun k h => by cases h), rfl⟩
      refine g_close (w := wc_2) [2, 2, 0, 0] rfl ewc_2 rfl ?_
      refine (show Go g κ 92 [some (.ref i)] [] [wc_2] 0 0 from ?_)
      exact g_vret B E dJ31_remove_92 (⟨wc_2, rfl, rfl, hwc_2⟩)
    · skip
      refine g_aload_n (q := 58) B dJ31_remove_57 rfl rfl (rv_r _) ?_
      refine g_aload_n (q := 59) B dJ31_remove_58 rfl rfl (rv_r _) ?_
      refine g_get (q := 62) B (ci := 32) (k := 3) (j := 1) in_J33 rfl dJ31_remove_59 rfl rfl (Nat.le_of_ble_eq_true rfl) q878 rfl rfl ?_
      refine g_put (q := 65) (L2 := [[(t, .inr (27, [.null, va_rf vs, .null, va_rf root, .int (nI n), .int (nI md), va_rf es, va_rf nk, .null]))], we, wv, [(i, .inr (32, [.ref a, .ref a, .int (nI md), .ref t]))]]) B (ci := 32) (k := 3) (j := 0) in_J33 tyJ33 tyJ33_ok nmJ33 rfl dJ31_remove_62 rfl rfl (Nat.le_of_ble_eq_true rfl) q877 rfl rfl rfl rfl (Nat.le_of_ble_eq_true rfl) rfl ?_
      refine g_aload_n (q := 66) B dJ31_remove_65 rfl rfl (rv_r _) ?_
      refine g_get (q := 69) B (ci := 32) (k := 3) (j := 3) in_J33 rfl dJ31_remove_66 rfl rfl (Nat.le_of_ble_eq_true rfl) q880 rfl rfl ?_
      refine g_aload_n (q := 70) B dJ31_remove_69 rfl rfl (rv_r _) ?_
      refine g_get (q := 73) B (ci := 32) (k := 3) (j := 1) in_J33 rfl dJ31_remove_70 rfl rfl (Nat.le_of_ble_eq_true rfl) q878 rfl rfl ?_
      refine g_callVN (q := 76) (is := [0, 0]) (kc2 := 0) (ks2 := 0) B [.ref a] (ct_J10_deleteEntry g J (t := t) (vs := vs) (n := n) (md := md) (es := es) (nk := nk) (ns := ns) (key := key) (val := val) (l := l) (r := r) (p := p) (col := col) (lo := lo) (hi := hi) (root := root) (a := a) hwe (by first | assumption | omega | rfl) (by first | assumption | omega | rfl) (by first | assumption | omega | rfl)) dJ31_remove_73 rfl (rc_at B (ci := 27) rfl (k := 0) rfl) q2305 q2307 qs25 q91 q2308 rfl rfl moJ10_deleteEntry rfl rfl (by decide) (by decide) (Nat.le_of_ble_eq_true rfl) (Nat.le_of_ble_eq_true rfl) (Nat.le_of_ble_eq_true rfl) (fun _ _ hx => noX_x hx) (fun v73 L1 hp73 => ?_)
      obtain ⟨ns273, key273, val273, l273, r273, p273, col273, lo273, hi273, root273, u1_73, rfl, rfl, hu1_73, hT2_73, hD_73⟩ := hp73
      refine (show Go g κ 76 [some (.ref i)] [] [wv, [(i, .inr (32, [.ref a, .ref a, .int (nI md), .ref t]))], [(t, .inr (27, [.null, va_rf vs, .null, va_rf root273, .int (nI (n - 1)), .int (nI (md + 1)), va_rf es, va_rf nk, .null]))], u1_73] 0 0 from ?_)
      refine g_aload_n (q := 77) B dJ31_remove_76 rfl rfl (rv_r _) ?_
      refine g_aload_n (q := 78) B dJ31_remove_77 rfl rfl (rv_r _) ?_
      refine g_get (q := 81) B (ci := 32) (k := 1) (j := 3) in_J33 rfl dJ31_remove_78 rfl rfl (Nat.le_of_ble_eq_true rfl) q880 rfl rfl ?_
      refine g_getN (q := 84) B (ci := 27) (k := 2) (j := 5) in_J10 rfl dJ31_remove_81 rfl rfl (Nat.le_of_ble_eq_true rfl) q1874 rfl rfl ?_
      refine g_put (q := 87) (L2 := [wv, [(i, .inr (32, [.ref a, .ref a, .int (nI (md + 1)), .ref t]))], [(t, .inr (27, [.null, va_rf vs, .null, va_rf root273, .int (nI (n - 1)), .int (nI (md + 1)), va_rf es, va_rf nk, .null]))], u1_73]) B (ci := 32) (k := 1) (j := 2) in_J33 tyJ33 tyJ33_ok nmJ33 rfl dJ31_remove_84 rfl rfl (Nat.le_of_ble_eq_true rfl) q879 rfl rfl rfl rfl (Nat.le_of_ble_eq_true rfl) rfl ?_
      refine g_aload_n (q := 88) B dJ31_remove_87 rfl rfl (rv_r _) ?_
      refine g_aconst_null (q := 89) B dJ31_remove_88 rfl ?_
      refine g_put (q := 92) (L2 := [wv, [(i, .inr (32, [.ref a, .null, .int (nI (md + 1)), .ref t]))], [(t, .inr (27, [.null, va_rf vs, .null, va_rf root273, .int (nI (n - 1)), .int (nI (md + 1)), va_rf es, va_rf nk, .null]))], u1_73]) B (ci := 32) (k := 1) (j := 1) in_J33 tyJ33 tyJ33_ok nmJ33 rfl dJ31_remove_89 rfl rfl (Nat.le_of_ble_eq_true rfl) q878 rfl rfl rfl rfl (Nat.le_of_ble_eq_true rfl) rfl ?_
      obtain ⟨wc_3, ewc_3⟩ : ∃ w : va_W, w = ([[(t, .inr (27, [.null, va_rf vs, .null, va_rf root273, .int (nI (n - 1)), .int (nI (md + 1)), va_rf es, va_rf nk, .null]))], u1_73, wv, [(i, .inr (32, [.ref a, .null, .int (nI (md + 1)), .ref t]))]] : List va_W).flatten := ⟨_, rfl⟩
      have hwc_3 : MItP g 32 i t (fup f (key a) none) (n - 1) (md + 1) (key a + 1) none wc_3 := by
        rw [ewc_3]
        exact ⟨vs, es, nk, ns273, key273, val273, l273, r273, p273, col273, lo273, hi273, root273, _, _, _, none, hT2_73, (by have := hD_73.1; omega), hD_73.2.1 f hF, hu1_73, hwv, ((hD_73.2.2 _ hLf).1 ⟨by rw [c44]; simp, by rw [c54]; simp⟩), (fun k h => by cases h), rfl⟩
      refine g_close (w := wc_3) [2, 2, 0, 0] rfl ewc_3 rfl ?_
      refine (show Go g κ 92 [some (.ref i)] [] [wc_3] 0 0 from ?_)
      exact g_vret B E dJ31_remove_92 (⟨wc_3, rfl, rfl, hwc_3⟩)
