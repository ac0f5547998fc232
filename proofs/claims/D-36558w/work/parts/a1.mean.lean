set_option maxRecDepth 100000
theorem dd_n1 : ∀ a, a < 30 → ∀ b, b < 64 → vf_n64 (FP.ddiv (FP.i2d (nI (64 * a + b))) (FP.i2d (nI 1))) := by unfold vf_n64; decide +kernel
theorem dd_n2 : ∀ a, a < 30 → ∀ b, b < 64 → vf_n64 (FP.ddiv (FP.i2d (nI (64 * a + b))) (FP.i2d (nI 2))) := by unfold vf_n64; decide +kernel
theorem dd_n3 : ∀ a, a < 30 → ∀ b, b < 64 → vf_n64 (FP.ddiv (FP.i2d (nI (64 * a + b))) (FP.i2d (nI 3))) := by unfold vf_n64; decide +kernel
theorem dd_n4 : ∀ a, a < 30 → ∀ b, b < 64 → vf_n64 (FP.ddiv (FP.i2d (nI (64 * a + b))) (FP.i2d (nI 4))) := by unfold vf_n64; decide +kernel
theorem dd_n5 : ∀ a, a < 30 → ∀ b, b < 64 → vf_n64 (FP.ddiv (FP.i2d (nI (64 * a + b))) (FP.i2d (nI 5))) := by unfold vf_n64; decide +kernel
theorem dd_n6 : ∀ a, a < 30 → ∀ b, b < 64 → vf_n64 (FP.ddiv (FP.i2d (nI (64 * a + b))) (FP.i2d (nI 6))) := by unfold vf_n64; decide +kernel
theorem dd_n7 : ∀ a, a < 30 → ∀ b, b < 64 → vf_n64 (FP.ddiv (FP.i2d (nI (64 * a + b))) (FP.i2d (nI 7))) := by unfold vf_n64; decide +kernel
theorem dd_n8 : ∀ a, a < 30 → ∀ b, b < 64 → vf_n64 (FP.ddiv (FP.i2d (nI (64 * a + b))) (FP.i2d (nI 8))) := by unfold vf_n64; decide +kernel
theorem dd_n9 : ∀ a, a < 30 → ∀ b, b < 64 → vf_n64 (FP.ddiv (FP.i2d (nI (64 * a + b))) (FP.i2d (nI 9))) := by unfold vf_n64; decide +kernel
theorem dd_n10 : ∀ a, a < 30 → ∀ b, b < 64 → vf_n64 (FP.ddiv (FP.i2d (nI (64 * a + b))) (FP.i2d (nI 10))) := by unfold vf_n64; decide +kernel
theorem dd_n11 : ∀ a, a < 30 → ∀ b, b < 64 → vf_n64 (FP.ddiv (FP.i2d (nI (64 * a + b))) (FP.i2d (nI 11))) := by unfold vf_n64; decide +kernel
theorem dd_n12 : ∀ a, a < 30 → ∀ b, b < 64 → vf_n64 (FP.ddiv (FP.i2d (nI (64 * a + b))) (FP.i2d (nI 12))) := by unfold vf_n64; decide +kernel
theorem dd_n13 : ∀ a, a < 30 → ∀ b, b < 64 → vf_n64 (FP.ddiv (FP.i2d (nI (64 * a + b))) (FP.i2d (nI 13))) := by unfold vf_n64; decide +kernel
theorem dd_n14 : ∀ a, a < 30 → ∀ b, b < 64 → vf_n64 (FP.ddiv (FP.i2d (nI (64 * a + b))) (FP.i2d (nI 14))) := by unfold vf_n64; decide +kernel
theorem dd_n15 : ∀ a, a < 30 → ∀ b, b < 64 → vf_n64 (FP.ddiv (FP.i2d (nI (64 * a + b))) (FP.i2d (nI 15))) := by unfold vf_n64; decide +kernel
theorem dd_n16 : ∀ a, a < 30 → ∀ b, b < 64 → vf_n64 (FP.ddiv (FP.i2d (nI (64 * a + b))) (FP.i2d (nI 16))) := by unfold vf_n64; decide +kernel
theorem dd_n17 : ∀ a, a < 30 → ∀ b, b < 64 → vf_n64 (FP.ddiv (FP.i2d (nI (64 * a + b))) (FP.i2d (nI 17))) := by unfold vf_n64; decide +kernel
theorem dd_n18 : ∀ a, a < 30 → ∀ b, b < 64 → vf_n64 (FP.ddiv (FP.i2d (nI (64 * a + b))) (FP.i2d (nI 18))) := by unfold vf_n64; decide +kernel
theorem dd_n19 : ∀ a, a < 30 → ∀ b, b < 64 → vf_n64 (FP.ddiv (FP.i2d (nI (64 * a + b))) (FP.i2d (nI 19))) := by unfold vf_n64; decide +kernel
theorem dd_n20 : ∀ a, a < 30 → ∀ b, b < 64 → vf_n64 (FP.ddiv (FP.i2d (nI (64 * a + b))) (FP.i2d (nI 20))) := by unfold vf_n64; decide +kernel
theorem dd_n21 : ∀ a, a < 30 → ∀ b, b < 64 → vf_n64 (FP.ddiv (FP.i2d (nI (64 * a + b))) (FP.i2d (nI 21))) := by unfold vf_n64; decide +kernel
theorem dd_n22 : ∀ a, a < 30 → ∀ b, b < 64 → vf_n64 (FP.ddiv (FP.i2d (nI (64 * a + b))) (FP.i2d (nI 22))) := by unfold vf_n64; decide +kernel
theorem dd_n23 : ∀ a, a < 30 → ∀ b, b < 64 → vf_n64 (FP.ddiv (FP.i2d (nI (64 * a + b))) (FP.i2d (nI 23))) := by unfold vf_n64; decide +kernel
theorem dd_n24 : ∀ a, a < 30 → ∀ b, b < 64 → vf_n64 (FP.ddiv (FP.i2d (nI (64 * a + b))) (FP.i2d (nI 24))) := by unfold vf_n64; decide +kernel
theorem dd_ok {n m : Nat} (hn : n < 25) (hm : m ≤ 1900) (hk : 1 ≤ n) : vf_n64 (FP.ddiv (FP.i2d (nI m)) (FP.i2d (nI n))) := by
  have h1 : m / 64 < 30 := by omega
  have h2 : m % 64 < 64 := by omega
  have e : m = 64 * (m / 64) + m % 64 := by omega
  rw [e]
  match n, hn, hk with
  | 1, _, _ => exact dd_n1 _ h1 _ h2
  | 2, _, _ => exact dd_n2 _ h1 _ h2
  | 3, _, _ => exact dd_n3 _ h1 _ h2
  | 4, _, _ => exact dd_n4 _ h1 _ h2
  | 5, _, _ => exact dd_n5 _ h1 _ h2
  | 6, _, _ => exact dd_n6 _ h1 _ h2
  | 7, _, _ => exact dd_n7 _ h1 _ h2
  | 8, _, _ => exact dd_n8 _ h1 _ h2
  | 9, _, _ => exact dd_n9 _ h1 _ h2
  | 10, _, _ => exact dd_n10 _ h1 _ h2
  | 11, _, _ => exact dd_n11 _ h1 _ h2
  | 12, _, _ => exact dd_n12 _ h1 _ h2
  | 13, _, _ => exact dd_n13 _ h1 _ h2
  | 14, _, _ => exact dd_n14 _ h1 _ h2
  | 15, _, _ => exact dd_n15 _ h1 _ h2
  | 16, _, _ => exact dd_n16 _ h1 _ h2
  | 17, _, _ => exact dd_n17 _ h1 _ h2
  | 18, _, _ => exact dd_n18 _ h1 _ h2
  | 19, _, _ => exact dd_n19 _ h1 _ h2
  | 20, _, _ => exact dd_n20 _ h1 _ h2
  | 21, _, _ => exact dd_n21 _ h1 _ h2
  | 22, _, _ => exact dd_n22 _ h1 _ h2
  | 23, _, _ => exact dd_n23 _ h1 _ h2
  | 24, _, _ => exact dd_n24 _ h1 _ h2
  | k + 25, hn, _ => exact absurd hn (by omega)
theorem nw_lt {n : Nat} (hn : n < 2 ^ 31) : nI n - nI 1 < nI 1 ↔ n < 2 := by
  rw [in_hi hn, nI_ti (show 1 < 2 ^ 31 by decide)]; omega
theorem nw_ge {n : Nat} (hn : n < 2 ^ 31) : nI 1 ≤ nI n - nI 1 ↔ 2 ≤ n := by
  rw [← Int32.not_lt, nw_lt hn]; omega
theorem ct_X1_meanBoxes (g : Gv) (J : Jd g) {x : Nat} {C : KsS} {w0 : va_W} (hw0 : KgP g x C w0) (hC : KsB C) : Ct g yX1_meanBoxes (ws_ yX1_meanBoxes cX1_meanBoxes 1 (some .double)) 10 10 60 [.ref x] [w0] (fun (rv_ : Option Value) (rL_ : List va_W) => ∃ (u0 : va_W), rv_ = some (.double (FP.ddiv (FP.i2d (nI (zBn C))) (FP.i2d (nI ((zTs C).length - 1))))) ∧ rL_ = [u0] ∧ KgP g x C u0 ∧ (2 ≤ (zTs C).length)) (fun (rE_ : String) (rL_ : List va_W) => rL_ = [w0] ∧ ((rE_ = "java/lang/ArithmeticException" ∧ (¬ 2 ≤ (zTs C).length)))) := by
  refine Ct.of "Keygrove" [some (.ref x)] rfl (by decide) rfl (Nat.le_of_ble_eq_true rfl) rfl ?_
  intro κ B E tb
  have hC0 := hC
  obtain ⟨hc1, hc2, hc3, hc4, hc5, hc6, hc7, hc8, hc9, hc10, hc11⟩ := hC0
  obtain ⟨b, lp, lk, lr, lt, ls, lm, so, pcap, kcap, rcap, tcap, scap, mcap, socap, ps, pks, pmd, v0, v1, v2, v3, v4, v5, v6, v7, hcap, hv0, hv1, hv2, hv3, hv4, hv5, hv6, hv7, rfl⟩ := hw0
  refine g_open 0 rfl rfl rfl ?_
  refine (show Go g κ 0 [some (.ref x)] [] [[(x, .inr (0, [.ref b, .ref lp, .ref lk, .ref lr, .ref lt, .ref ls, .ref lm, .ref so, .int (nI (zBn C))]))], v0, v1, v2, v3, v4, v5, v6, v7] 10 60 from ?_)
  refine g_aload_n (q := 1) B dX1_meanBoxes_0 rfl rfl (rv_r _) ?_
  refine g_callV (q := 4) (is := [0, 4]) (kc2 := 10) (ks2 := 60) B [] (ct_X1_newest g J (x := x) (lk := lk) (b := b) (lp := lp) (lr := lr) (lt := lt) (ls := ls) (lm := lm) (so := so) (bxs := zBn C) (Ts := (zTs C)) (tcap := tcap) hv4 ) dX1_meanBoxes_1 rfl (rc_at B (ci := 0) rfl (k := 0) rfl) rfl q1120 q1122 qs8 q77 q1123 rfl rfl moX1_newest rfl rfl (by decide) (by decide) (Nat.le_of_ble_eq_true rfl) (Nat.le_of_ble_eq_true rfl) (Nat.le_of_ble_eq_true rfl) (fun _ _ hx => noX_x hx) (fun v1 L1 hp1 => ?_)
  obtain ⟨rfl, rfl⟩ := hp1
  refine (show Go g κ 4 [some (.ref x)] [.int (nI (zTs C).length - nI 1)] [v0, v1, v2, v3, v5, v6, v7, [(x, .inr (0, [.ref b, .ref lp, .ref lk, .ref lr, .ref lt, .ref ls, .ref lm, .ref so, .int (nI (zBn C))]))], v4] 10 60 from ?_)
  refine g_iconst (v := nI 1) (q := 5) B dX1_meanBoxes_4 rfl (by decide) ?_
  refine g_icmp_ge (tgt := 16) (q := 8) B dX1_meanBoxes_5 rfl (by decide) (nw_ge (n := (zTs C).length) (by omega)) (fun c5 => ?_) (fun c5 => ?_)
  · skip
    refine g_aload_n (q := 17) B dX1_meanBoxes_16 rfl rfl (rv_r _) ?_
    refine g_get (q := 20) B (ci := 0) (k := 7) (j := 8) in_X1 rfl dX1_meanBoxes_17 rfl rfl (Nat.le_of_ble_eq_true rfl) q286 rfl rfl ?_
    refine g_i2d (v := FP.i2d (nI (zBn C))) (q := 21) B dX1_meanBoxes_20 rfl rfl ?_
    refine g_aload_n (q := 22) B dX1_meanBoxes_21 rfl rfl (rv_r _) ?_
    refine g_callV (q := 25) (is := [7, 7]) (kc2 := 10) (ks2 := 60) B [] (ct_X1_newest g J (x := x) (lk := lk) (b := b) (lp := lp) (lr := lr) (lt := lt) (ls := ls) (lm := lm) (so := so) (bxs := (zBn C)) (Ts := (zTs C)) (tcap := tcap) hv4 ) dX1_meanBoxes_22 rfl (rc_at B (ci := 0) rfl (k := 7) rfl) rfl q1120 q1122 qs8 q77 q1123 rfl rfl moX1_newest rfl rfl (by decide) (by decide) (Nat.le_of_ble_eq_true rfl) (Nat.le_of_ble_eq_true rfl) (Nat.le_of_ble_eq_true rfl) (fun _ _ hx => noX_x hx) (fun v22 L1 hp22 => ?_)
    obtain ⟨rfl, rfl⟩ := hp22
    refine (show Go g κ 25 [some (.ref x)] [.int (nI (zTs C).length - nI 1), .double (FP.i2d (nI (zBn C)))] [v0, v1, v2, v3, v5, v6, v7, [(x, .inr (0, [.ref b, .ref lp, .ref lk, .ref lr, .ref lt, .ref ls, .ref lm, .ref so, .int (nI (zBn C))]))], v4] 10 60 from ?_)
    rw [(show nI (zTs C).length - nI 1 = nI ((zTs C).length - 1) from pk_sub (by omega))]
    refine (show Go g κ 25 [some (.ref x)] [.int (nI ((zTs C).length - 1)), .double (FP.i2d (nI (zBn C)))] [v0, v1, v2, v3, v5, v6, v7, [(x, .inr (0, [.ref b, .ref lp, .ref lk, .ref lr, .ref lt, .ref ls, .ref lm, .ref so, .int (nI (zBn C))]))], v4] 10 60 from ?_)
    refine g_i2d (v := FP.i2d (nI ((zTs C).length - 1))) (q := 26) B dX1_meanBoxes_25 rfl rfl ?_
    refine g_ddiv (v := FP.ddiv (FP.i2d (nI (zBn C))) (FP.i2d (nI ((zTs C).length - 1)))) (q := 27) B dX1_meanBoxes_26 rfl (dd_ok (by omega) (by omega) (by omega)) rfl ?_
    obtain ⟨wc_1, ewc_1⟩ : ∃ w : va_W, w = ([[(x, .inr (0, [.ref b, .ref lp, .ref lk, .ref lr, .ref lt, .ref ls, .ref lm, .ref so, .int (nI (zBn C))]))], v0, v1, v2, v3, v4, v5, v6, v7] : List va_W).flatten := ⟨_, rfl⟩
    have hwc_1 : KgP g x C wc_1 := by
      rw [ewc_1]
      exact ⟨b, lp, lk, lr, lt, ls, lm, so, pcap, kcap, rcap, tcap, scap, mcap, socap, ps, pks, pmd, _, _, _, _, _, _, _, _, hcap, hv0, hv1, hv2, hv3, hv4, hv5, hv6, hv7, rfl⟩
    refine g_close (w := wc_1) [7, 0, 0, 0, 0, 3, 0, 0, 0] rfl ewc_1 rfl ?_
    refine (show Go g κ 27 [some (.ref x)] [.double (FP.ddiv (FP.i2d (nI (zBn C))) (FP.i2d (nI ((zTs C).length - 1))))] [wc_1] 10 60 from ?_)
    exact g_dret B E dX1_meanBoxes_27 (⟨_, rfl, rfl, hwc_1, by omega⟩)
  · skip
    obtain ⟨wc_2, ewc_2⟩ : ∃ w : va_W, w = ([[(x, .inr (0, [.ref b, .ref lp, .ref lk, .ref lr, .ref lt, .ref ls, .ref lm, .ref so, .int (nI (zBn C))]))], v0, v1, v2, v3, v4, v5, v6, v7] : List va_W).flatten := ⟨_, rfl⟩
    have hwc_2 : KgP g x C wc_2 := by
      rw [ewc_2]
      exact ⟨b, lp, lk, lr, lt, ls, lm, so, pcap, kcap, rcap, tcap, scap, mcap, socap, ps, pks, pmd, _, _, _, _, _, _, _, _, hcap, hv0, hv1, hv2, hv3, hv4, hv5, hv6, hv7, rfl⟩
    refine g_close (w := wc_2) [7, 0, 0, 0, 0, 3, 0, 0, 0] rfl ewc_2 rfl ?_
    refine (show Go g κ 8 [some (.ref x)] [] [wc_2] 10 60 from ?_)
    exact g_throw0 B E tb J (cls := "java/lang/ArithmeticException") (names := ["java/lang/RuntimeException", "java/lang/Exception"]) (ik := 499) (ic := 501) (by unfold ThrowOk; decide +kernel) dX1_meanBoxes_8 dX1_meanBoxes_11 dX1_meanBoxes_12 dX1_meanBoxes_15 rfl (by decide) (by decide) (by decide) (by omega) (by omega) (⟨by rw [ewc_2], rfl, c5⟩)
