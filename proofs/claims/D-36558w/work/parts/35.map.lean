set_option maxRecDepth 100000
/-- the views that a TreeMap keeps -/
def VwP (t : Nat) (vs es nk : Option Nat) (w : va_W) : Prop := w = (vs.toList.map fun a => (a, .inr (29, [.ref t]))) ++ ((es.toList.map fun a => (a, .inr (31, [.ref t]))) ++ (nk.toList.map fun a => (a, .inr (30, [.ref t]))))
def MF (ns : List Nat) (key val : Nat → Nat) (f : Nat → Option Nat) : Prop := (∀ a ∈ ns, f (key a) = some (val a)) ∧ ∀ k v, f k = some v → ∃ a ∈ ns, key a = k
/-- a TreeMap at t: f gives each key's value (a place); n entries, modCount md -/
def MapP (g : Gv) (t : Nat) (f : Nat → Option Nat) (n md : Nat) (w : va_W) : Prop := ∃ (vs es nk : Option Nat) (ns : List Nat) (key val : Nat → Nat) (l r p : Nat → Option Nat) (col : Nat → Bool) (lo hi : Nat → Nat) (root : Option Nat) (we wv : va_W), Tr ns key l r p lo hi root 128 ∧ n = ns.length ∧ MF ns key val f ∧ EntG g ns key val l r p col we ∧ VwP t vs es nk wv ∧ w = ([[(t, .inr (27, [.null, va_rf vs, .null, va_rf root, .int (nI n), .int (nI md), va_rf es, va_rf nk, .null]))], we, wv] : List va_W).flatten
theorem MapP.hm {g : Gv} {t : Nat} {f : Nat → Option Nat} {n md : Nat} {w : va_W} (h : MapP g t f n md w) : ∃ fs, (t, .inr (27, fs)) ∈ w := by
  obtain ⟨vs, es, nk, ns, key, val, l, r, p, col, lo, hi, root, we, wv, -, -, -, -, -, rfl⟩ := h
  exact ⟨_, List.mem_cons_self⟩
theorem MF.some {ns : List Nat} {key val : Nat → Nat} {f : Nat → Option Nat} {k a : Nat} (h : MF ns key val f) (ha : a ∈ ns ∧ key a = k) : f k = some (val a) := by rw [← ha.2]; exact h.1 a ha.1
theorem MF.none {ns : List Nat} {key val : Nat → Nat} {f : Nat → Option Nat} {k : Nat} (h : MF ns key val f) (hn : ∀ b ∈ ns, key b ≠ k) : f k = none := by
  cases e : f k with
  | none => rfl
  | some v => obtain ⟨a, ha, hk⟩ := h.2 k v e; exact absurd hk (hn a ha)
theorem moJ10_getEntry : Mo yJ10_getEntry 1 := by
  refine ⟨by decide, by decide, by decide +kernel⟩
theorem ct_J10_get (g : Gv) (J : Jd g) {t : Nat} {f : Nat → Option Nat} {n : Nat} {md : Nat} {k : Nat} {w0 : va_W} (hw0 : MapP g t f n md w0) (hk : k < 128) : Ct g yJ10_get (ws_ yJ10_get cJ10_get 3 (some (.object "java/lang/Object"))) 4 0 0 [.ref t, .ref (kI g k)] [w0] (fun (rv_ : Option Value) (rL_ : List va_W) => ∃ (u0 : va_W), rv_ = some (va_rf (f k)) ∧ rL_ = [u0] ∧ MapP g t f n md u0) noX := by
  refine Ct.of "java/util/TreeMap" [some (.ref t), some (.ref (kI g k)), none] rfl (by decide) rfl (Nat.le_of_ble_eq_true rfl) rfl ?_
  intro κ B E tb
  obtain ⟨vs, es, nk, ns, key, val, l, r, p, col, lo, hi, root, we, wv, hT, hn, hF, hwe, hwv, rfl⟩ := hw0
  refine g_open 0 rfl rfl rfl ?_
  refine (show Go g κ 0 [some (.ref t), some (.ref (kI g k)), none] [] [[(t, .inr (27, [.null, va_rf vs, .null, va_rf root, .int (nI n), .int (nI md), va_rf es, va_rf nk, .null]))], we, wv] 0 0 from ?_)
  refine g_aload_n (q := 1) B dJ10_get_0 rfl rfl (rv_r _) ?_
  refine g_aload_n (q := 2) B dJ10_get_1 rfl rfl (rv_r _) ?_
  refine g_callV (q := 5) (is := [0, 0]) (kc2 := 0) (ks2 := 0) B [.ref (kI g k)] (ct_J10_getEntry g J (t := t) (vs := vs) (n := n) (md := md) (es := es) (nk := nk) (ns := ns) (key := key) (val := val) (l := l) (r := r) (p := p) (col := col) (lo := lo) (hi := hi) (root := root) (k := k) hwe (by first | assumption | omega | rfl) (by first | assumption | omega | rfl)) dJ10_get_2 rfl (rc_at B (ci := 27) rfl (k := 0) rfl) rfl q1807 q1808 q1809 q91 q1810 rfl rfl moJ10_getEntry rfl rfl (by decide) (by decide) (Nat.le_of_ble_eq_true rfl) (Nat.le_of_ble_eq_true rfl) (Nat.le_of_ble_eq_true rfl) (fun _ _ hx => noX_x hx) (fun v2 L1 hp2 => ?_)
  obtain ⟨e2, rfl, rfl, he_2, hn_2⟩ := hp2
  refine (show Go g κ 5 [some (.ref t), some (.ref (kI g k)), none] [va_rf e2] [wv, [(t, .inr (27, [.null, va_rf vs, .null, va_rf root, .int (nI n), .int (nI md), va_rf es, va_rf nk, .null]))], we] 0 0 from ?_)
  refine g_astore_n (q := 6) (lv2 := [some (.ref t), some (.ref (kI g k)), some (va_rf e2)]) B dJ10_get_5 rfl (Nat.le_of_ble_eq_true rfl) (rv_o _) rfl ?_
  refine g_aload_n (q := 7) B dJ10_get_6 rfl rfl (rv_o _) ?_
  refine g_ifnonnull_o (tgt := 14) (q := 10) B dJ10_get_7 rfl (by decide) (fun e2_a7 c7 => ?_) (fun c7 => ?_)
  · skip
    subst c7
    have ham := he_2 e2_a7 rfl
    refine g_aload_n (q := 15) B dJ10_get_14 rfl rfl (rv_r _) ?_
    refine g_getM (v := .ref (val e2_a7)) (q := 18) B (ci := 28) (k := 2) (j := 1) in_J37 rfl dJ10_get_15 rfl rfl (EntG.mem hwe ham.1) (Nat.le_of_ble_eq_true rfl) q2111 rfl rfl ?_
    obtain ⟨wc_1, ewc_1⟩ : ∃ w : va_W, w = ([[(t, .inr (27, [.null, va_rf vs, .null, va_rf root, .int (nI n), .int (nI md), va_rf es, va_rf nk, .null]))], we, wv] : List va_W).flatten := ⟨_, rfl⟩
    have hwc_1 : MapP g t f n md wc_1 := by
      rw [ewc_1]
      exact ⟨vs, es, nk, ns, key, val, l, r, p, col, lo, hi, root, _, _, hT, hn, hF, hwe, hwv, rfl⟩
    refine g_close (w := wc_1) [1, 1, 0] rfl ewc_1 rfl ?_
    refine (show Go g κ 18 [some (.ref t), some (.ref (kI g k)), some (.ref e2_a7)] [.ref (val e2_a7)] [wc_1] 0 0 from ?_)
    exact g_aret B E dJ10_get_18 (by first | exact Or.inl ⟨_, rfl⟩ | exact Or.inr ⟨_, rfl⟩) (rv_r _) (⟨wc_1, by rw [hF.some ham]; rfl, rfl, hwc_1⟩)
  · skip
    subst c7
    refine g_aconst_null (q := 11) B dJ10_get_10 rfl ?_
    refine g_goto (tgt := 18) B dJ10_get_11 (by decide) ?_
    obtain ⟨wc_2, ewc_2⟩ : ∃ w : va_W, w = ([[(t, .inr (27, [.null, va_rf vs, .null, va_rf root, .int (nI n), .int (nI md), va_rf es, va_rf nk, .null]))], we, wv] : List va_W).flatten := ⟨_, rfl⟩
    have hwc_2 : MapP g t f n md wc_2 := by
      rw [ewc_2]
      exact ⟨vs, es, nk, ns, key, val, l, r, p, col, lo, hi, root, _, _, hT, hn, hF, hwe, hwv, rfl⟩
    refine g_close (w := wc_2) [1, 1, 0] rfl ewc_2 rfl ?_
    refine (show Go g κ 18 [some (.ref t), some (.ref (kI g k)), some (.null)] [.null] [wc_2] 0 0 from ?_)
    exact g_aret B E dJ10_get_18 (by first | exact Or.inl ⟨_, rfl⟩ | exact Or.inr ⟨_, rfl⟩) rv_n (⟨wc_2, by rw [hF.none (hn_2 rfl)]; rfl, rfl, hwc_2⟩)
theorem ct_J10_containsKey (g : Gv) (J : Jd g) {t : Nat} {f : Nat → Option Nat} {n : Nat} {md : Nat} {k : Nat} {w0 : va_W} (hw0 : MapP g t f n md w0) (hk : k < 128) : Ct g yJ10_containsKey (ws_ yJ10_containsKey cJ10_containsKey 2 (some .boolean)) 4 0 0 [.ref t, .ref (kI g k)] [w0] (fun (rv_ : Option Value) (rL_ : List va_W) => ∃ (u0 : va_W), rv_ = some (.int (nI (if (f k).isSome = true then 1 else 0))) ∧ rL_ = [u0] ∧ MapP g t f n md u0) noX := by
  refine Ct.of "java/util/TreeMap" [some (.ref t), some (.ref (kI g k))] rfl (by decide) rfl (Nat.le_of_ble_eq_true rfl) rfl ?_
  intro κ B E tb
  obtain ⟨vs, es, nk, ns, key, val, l, r, p, col, lo, hi, root, we, wv, hT, hn, hF, hwe, hwv, rfl⟩ := hw0
  refine g_open 0 rfl rfl rfl ?_
  refine (show Go g κ 0 [some (.ref t), some (.ref (kI g k))] [] [[(t, .inr (27, [.null, va_rf vs, .null, va_rf root, .int (nI n), .int (nI md), va_rf es, va_rf nk, .null]))], we, wv] 0 0 from ?_)
  refine g_aload_n (q := 1) B dJ10_containsKey_0 rfl rfl (rv_r _) ?_
  refine g_aload_n (q := 2) B dJ10_containsKey_1 rfl rfl (rv_r _) ?_
  refine g_callV (q := 5) (is := [0, 0]) (kc2 := 0) (ks2 := 0) B [.ref (kI g k)] (ct_J10_getEntry g J (t := t) (vs := vs) (n := n) (md := md) (es := es) (nk := nk) (ns := ns) (key := key) (val := val) (l := l) (r := r) (p := p) (col := col) (lo := lo) (hi := hi) (root := root) (k := k) hwe (by first | assumption | omega | rfl) (by first | assumption | omega | rfl)) dJ10_containsKey_2 rfl (rc_at B (ci := 27) rfl (k := 0) rfl) rfl q1807 q1808 q1809 q91 q1810 rfl rfl moJ10_getEntry rfl rfl (by decide) (by decide) (Nat.le_of_ble_eq_true rfl) (Nat.le_of_ble_eq_true rfl) (Nat.le_of_ble_eq_true rfl) (fun _ _ hx => noX_x hx) (fun v2 L1 hp2 => ?_)
  obtain ⟨e2, rfl, rfl, he_2, hn_2⟩ := hp2
  refine (show Go g κ 5 [some (.ref t), some (.ref (kI g k))] [va_rf e2] [wv, [(t, .inr (27, [.null, va_rf vs, .null, va_rf root, .int (nI n), .int (nI md), va_rf es, va_rf nk, .null]))], we] 0 0 from ?_)
  refine g_ifnull_o (tgt := 12) (q := 8) B dJ10_containsKey_5 rfl (by decide) (fun c5 => ?_) (fun e2_a5 c5 => ?_)
  · skip
    subst c5
    refine g_iconst (v := nI 0) (q := 13) B dJ10_containsKey_12 rfl (by decide) ?_
    obtain ⟨wc_1, ewc_1⟩ : ∃ w : va_W, w = ([[(t, .inr (27, [.null, va_rf vs, .null, va_rf root, .int (nI n), .int (nI md), va_rf es, va_rf nk, .null]))], we, wv] : List va_W).flatten := ⟨_, rfl⟩
    have hwc_1 : MapP g t f n md wc_1 := by
      rw [ewc_1]
      exact ⟨vs, es, nk, ns, key, val, l, r, p, col, lo, hi, root, _, _, hT, hn, hF, hwe, hwv, rfl⟩
    refine g_close (w := wc_1) [1, 1, 0] rfl ewc_1 rfl ?_
    refine (show Go g κ 13 [some (.ref t), some (.ref (kI g k))] [.int (nI 0)] [wc_1] 0 0 from ?_)
    exact g_zret B E dJ10_containsKey_13 (by decide) (⟨wc_1, bo0 (by rw [hF.none (hn_2 rfl)]; simp), rfl, hwc_1⟩)
  · skip
    subst c5
    have ham := he_2 e2_a5 rfl
    refine g_iconst (v := nI 1) (q := 9) B dJ10_containsKey_8 rfl (by decide) ?_
    refine g_goto (tgt := 13) B dJ10_containsKey_9 (by decide) ?_
    obtain ⟨wc_2, ewc_2⟩ : ∃ w : va_W, w = ([[(t, .inr (27, [.null, va_rf vs, .null, va_rf root, .int (nI n), .int (nI md), va_rf es, va_rf nk, .null]))], we, wv] : List va_W).flatten := ⟨_, rfl⟩
    have hwc_2 : MapP g t f n md wc_2 := by
      rw [ewc_2]
      exact ⟨vs, es, nk, ns, key, val, l, r, p, col, lo, hi, root, _, _, hT, hn, hF, hwe, hwv, rfl⟩
    refine g_close (w := wc_2) [1, 1, 0] rfl ewc_2 rfl ?_
    refine (show Go g κ 13 [some (.ref t), some (.ref (kI g k))] [.int (nI 1)] [wc_2] 0 0 from ?_)
    exact g_zret B E dJ10_containsKey_13 (by decide) (⟨wc_2, bo1 (by rw [hF.some ham]; rfl), rfl, hwc_2⟩)
