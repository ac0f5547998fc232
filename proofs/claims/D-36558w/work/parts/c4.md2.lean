set_option maxRecDepth 100000
theorem ct_X3_thrown (g : Gv) (J : Jd g) {m : Nat} {D : MdS} {w0 : va_W} (hw0 : KdP g m D w0) : Ct g yX3_thrown (ws_ yX3_thrown cX3_thrown 1 (some .int)) 0 0 0 [.ref m] [w0] (fun (rv_ : Option Value) (rL_ : List va_W) => rv_ = some (.int (nI (dTh D))) ∧ rL_ = [w0]) noX := by
  refine Ct.of "KeygroveModel" [some (.ref m)] rfl (by decide) rfl (Nat.le_of_ble_eq_true rfl) rfl ?_
  intro κ B E tb
  refine g_aload_n (q := 1) B dX3_thrown_0 rfl rfl (rv_r _) ?_
  obtain ⟨ls_1, lb_1, lk_1, lp_1, lr_1, le_1, lm_1, lo_1, kcap_1, pcap_1, rcap_1, ecap_1, mcap_1, mks_1, mps_1, hcap_1, hc_1_0, hs_1_0, hs_1_1, hs_1_2, hs_1_3, hs_1_4, hs_1_5, hs_1_6, hs_1_7⟩ := KdP.at (Sub.self hw0)
  refine g_getM (q := 4) B (ci := 12) (k := 0) (j := 8) in_X3 rfl dX3_thrown_1 rfl rfl (hc_1_0) (Nat.le_of_ble_eq_true rfl) q3065 rfl rfl ?_
  exact g_iret B E dX3_thrown_4 (⟨rfl, rfl⟩)
theorem ct_X3_seed (g : Gv) (J : Jd g) {m : Nat} {D : MdS} {v : Int32} {w0 : va_W} (hw0 : KdP g m D w0) (hD : MdB D) : Ct g yX3_seed (ws_ yX3_seed cX3_seed 3 (some .int)) 0 0 0 [.ref m, .int v] [w0] (fun (rv_ : Option Value) (rL_ : List va_W) => ∃ (u0 : va_W), rv_ = some (.int (dZz D)) ∧ rL_ = [u0] ∧ KdP g m ((dSs D, dBx D, dKs D, dPs D, dRs D, dEs D, dMs D, dSo D, 0, v, dBn D, dCm D) : MdS) u0) noX := by
  refine Ct.of "KeygroveModel" [some (.ref m), some (.int v), none] rfl (by decide) rfl (Nat.le_of_ble_eq_true rfl) rfl ?_
  intro κ B E tb
  have hD0 := hD
  obtain ⟨hd1, hd2, hd3, hd4, hd5, hd6, hd7, hd8, hd9⟩ := hD0
  obtain ⟨ls, lb, lk, lp, lr, le, lm, lo, kcap, pcap, rcap, ecap, mcap, mks, mps, v0, v1, v2, v3, v4, v5, v6, v7, hcap, hv0, hv1, hv2, hv3, hv4, hv5, hv6, hv7, rfl⟩ := hw0
  refine g_open 0 rfl rfl rfl ?_
  refine (show Go g κ 0 [some (.ref m), some (.int v), none] [] [[(m, .inr (12, [.ref ls, .ref lb, .ref lk, .ref lp, .ref lr, .ref le, .ref lm, .ref lo, .int (nI (dTh D)), .int (dZz D), .int (nI (dBn D)), .int (nI (dCm D))]))], v0, v1, v2, v3, v4, v5, v6, v7] 0 0 from ?_)
  obtain ⟨kc1, kc2, kc3, kc4, kc5⟩ := (show capM kcap pcap rcap ecap mcap from hcap)
  refine g_aload_n (q := 1) B dX3_seed_0 rfl rfl (rv_r _) ?_
  refine g_iconst (v := nI 0) (q := 2) B dX3_seed_1 rfl (by decide) ?_
  refine g_put (q := 5) (L2 := [[(m, .inr (12, [.ref ls, .ref lb, .ref lk, .ref lp, .ref lr, .ref le, .ref lm, .ref lo, .int (nI 0), .int (dZz D), .int (nI (dBn D)), .int (nI (dCm D))]))], v0, v1, v2, v3, v4, v5, v6, v7]) B (ci := 12) (k := 0) (j := 8) in_X3 tyX3 tyX3_ok nmX3 rfl dX3_seed_2 rfl rfl (Nat.le_of_ble_eq_true rfl) q3065 rfl rfl rfl rfl (Nat.le_of_ble_eq_true rfl) rfl ?_
  refine g_aload_n (q := 6) B dX3_seed_5 rfl rfl (rv_r _) ?_
  refine g_get (q := 9) B (ci := 12) (k := 0) (j := 9) in_X3 rfl dX3_seed_6 rfl rfl (Nat.le_of_ble_eq_true rfl) q3066 rfl rfl ?_
  refine g_istore_n (q := 10) (lv2 := [some (.ref m), some (.int v), some (.int (dZz D))]) B dX3_seed_9 rfl (Nat.le_of_ble_eq_true rfl) rfl ?_
  refine g_aload_n (q := 11) B dX3_seed_10 rfl rfl (rv_r _) ?_
  refine g_iload_n (q := 12) B dX3_seed_11 rfl rfl ?_
  refine g_put (q := 15) (L2 := [[(m, .inr (12, [.ref ls, .ref lb, .ref lk, .ref lp, .ref lr, .ref le, .ref lm, .ref lo, .int (nI 0), .int v, .int (nI (dBn D)), .int (nI (dCm D))]))], v0, v1, v2, v3, v4, v5, v6, v7]) B (ci := 12) (k := 0) (j := 9) in_X3 tyX3 tyX3_ok nmX3 rfl dX3_seed_12 rfl rfl (Nat.le_of_ble_eq_true rfl) q3066 rfl rfl rfl rfl (Nat.le_of_ble_eq_true rfl) rfl ?_
  refine g_iload_n (q := 16) B dX3_seed_15 rfl rfl ?_
  obtain ⟨wc_1, ewc_1⟩ : ∃ w : va_W, w = ([[(m, .inr (12, [.ref ls, .ref lb, .ref lk, .ref lp, .ref lr, .ref le, .ref lm, .ref lo, .int (nI 0), .int v, .int (nI (dBn D)), .int (nI (dCm D))]))], v0, v1, v2, v3, v4, v5, v6, v7] : List va_W).flatten := ⟨_, rfl⟩
  have hwc_1 : KdP g m ((dSs D, dBx D, dKs D, dPs D, dRs D, dEs D, dMs D, dSo D, 0, v, dBn D, dCm D) : MdS) wc_1 := by
    rw [ewc_1]
    exact ⟨ls, lb, lk, lp, lr, le, lm, lo, kcap, pcap, rcap, ecap, mcap, mks, mps, _, _, _, _, _, _, _, _, hcap, hv0, hv1, hv2, hv3, hv4, hv5, hv6, hv7, rfl⟩
  refine g_close (w := wc_1) [0, 0, 0, 0, 0, 0, 0, 0, 0] rfl ewc_1 rfl ?_
  refine (show Go g κ 16 [some (.ref m), some (.int v), some (.int (dZz D))] [.int (dZz D)] [wc_1] 0 0 from ?_)
  exact g_iret B E dX3_seed_16 (⟨wc_1, rfl, rfl, hwc_1⟩)
theorem ct_X3_proposals (g : Gv) (J : Jd g) {m : Nat} {D : MdS} {w0 : va_W} (hw0 : KdP g m D w0) (hD : MdB D) : Ct g yX3_proposals (ws_ yX3_proposals cX3_proposals 1 (some .int)) 1 0 0 [.ref m] [w0] (fun (rv_ : Option Value) (rL_ : List va_W) => ∃ (u0 : va_W), rv_ = some (.int (nI ((dRs D).length))) ∧ rL_ = [u0] ∧ KdP g m (dT D 0) u0) noX := by
  refine Ct.of "KeygroveModel" [some (.ref m)] rfl (by decide) rfl (Nat.le_of_ble_eq_true rfl) rfl ?_
  intro κ B E tb
  have hD0 := hD
  obtain ⟨hd1, hd2, hd3, hd4, hd5, hd6, hd7, hd8, hd9⟩ := hD0
  obtain ⟨ls, lb, lk, lp, lr, le, lm, lo, kcap, pcap, rcap, ecap, mcap, mks, mps, v0, v1, v2, v3, v4, v5, v6, v7, hcap, hv0, hv1, hv2, hv3, hv4, hv5, hv6, hv7, rfl⟩ := hw0
  refine g_open 0 rfl rfl rfl ?_
  refine (show Go g κ 0 [some (.ref m)] [] [[(m, .inr (12, [.ref ls, .ref lb, .ref lk, .ref lp, .ref lr, .ref le, .ref lm, .ref lo, .int (nI (dTh D)), .int (dZz D), .int (nI (dBn D)), .int (nI (dCm D))]))], v0, v1, v2, v3, v4, v5, v6, v7] 0 0 from ?_)
  obtain ⟨kc1, kc2, kc3, kc4, kc5⟩ := (show capM kcap pcap rcap ecap mcap from hcap)
  refine g_aload_n (q := 1) B dX3_proposals_0 rfl rfl (rv_r _) ?_
  refine g_iconst (v := nI 0) (q := 2) B dX3_proposals_1 rfl (by decide) ?_
  refine g_put (q := 5) (L2 := [[(m, .inr (12, [.ref ls, .ref lb, .ref lk, .ref lp, .ref lr, .ref le, .ref lm, .ref lo, .int (nI 0), .int (dZz D), .int (nI (dBn D)), .int (nI (dCm D))]))], v0, v1, v2, v3, v4, v5, v6, v7]) B (ci := 12) (k := 0) (j := 8) in_X3 tyX3 tyX3_ok nmX3 rfl dX3_proposals_2 rfl rfl (Nat.le_of_ble_eq_true rfl) q3065 rfl rfl rfl rfl (Nat.le_of_ble_eq_true rfl) rfl ?_
  refine g_aload_n (q := 6) B dX3_proposals_5 rfl rfl (rv_r _) ?_
  refine g_get (q := 9) B (ci := 12) (k := 0) (j := 4) in_X3 rfl dX3_proposals_6 rfl rfl (Nat.le_of_ble_eq_true rfl) q3061 rfl rfl ?_
  obtain ⟨ps_1, md_1, hli_1, hln_1, hel_1⟩ := LhP.at (Sub.self hv4)
  refine g_callV (q := 12) (is := [5]) (kc2 := 0) (ks2 := 0) B [] (ct_J2_size_s g J (p := lr) (xs := ps_1) (md := md_1) (cap := rcap) (W0 := v4)  (hli_1)) dX3_proposals_9 rfl (rc_in B (ci := 21) rfl (k := 5) rfl (LhP.hm hv4)) rfl q3102 q321 q3665 q81 q323 rfl rfl moJ2_size rfl rfl (by decide) (by decide) (Nat.le_of_ble_eq_true rfl) (Nat.le_of_ble_eq_true rfl) (Nat.le_of_ble_eq_true rfl) (fun _ _ hx => noX_x hx) (fun v9 L1 hp9 => ?_)
  obtain ⟨rfl, rfl⟩ := hp9
  refine (show Go g κ 12 [some (.ref m)] [.int (nI ps_1.length)] [[(m, .inr (12, [.ref ls, .ref lb, .ref lk, .ref lp, .ref lr, .ref le, .ref lm, .ref lo, .int (nI 0), .int (dZz D), .int (nI (dBn D)), .int (nI (dCm D))]))], v0, v1, v2, v3, v5, v6, v7, v4] 0 0 from ?_)
  rw [hln_1.1]
  refine (show Go g κ 12 [some (.ref m)] [.int (nI ((dRs D).length))] [[(m, .inr (12, [.ref ls, .ref lb, .ref lk, .ref lp, .ref lr, .ref le, .ref lm, .ref lo, .int (nI 0), .int (dZz D), .int (nI (dBn D)), .int (nI (dCm D))]))], v0, v1, v2, v3, v5, v6, v7, v4] 0 0 from ?_)
  obtain ⟨wc_2, ewc_2⟩ : ∃ w : va_W, w = ([[(m, .inr (12, [.ref ls, .ref lb, .ref lk, .ref lp, .ref lr, .ref le, .ref lm, .ref lo, .int (nI 0), .int (dZz D), .int (nI (dBn D)), .int (nI (dCm D))]))], v0, v1, v2, v3, v4, v5, v6, v7] : List va_W).flatten := ⟨_, rfl⟩
  have hwc_2 : KdP g m (dT D 0) wc_2 := by
    rw [ewc_2]
    exact ⟨ls, lb, lk, lp, lr, le, lm, lo, kcap, pcap, rcap, ecap, mcap, mks, mps, _, _, _, _, _, _, _, _, hcap, hv0, hv1, hv2, hv3, hv4, hv5, hv6, hv7, rfl⟩
  refine g_close (w := wc_2) [0, 0, 0, 0, 0, 3, 0, 0, 0] rfl ewc_2 rfl ?_
  refine (show Go g κ 12 [some (.ref m)] [.int (nI ((dRs D).length))] [wc_2] 0 0 from ?_)
  exact g_iret B E dX3_proposals_12 (⟨wc_2, rfl, rfl, hwc_2⟩)
theorem ct_X3_boxes (g : Gv) (J : Jd g) {m : Nat} {D : MdS} {w0 : va_W} (hw0 : KdP g m D w0) (hD : MdB D) : Ct g yX3_boxes (ws_ yX3_boxes cX3_boxes 1 (some .int)) 0 0 0 [.ref m] [w0] (fun (rv_ : Option Value) (rL_ : List va_W) => ∃ (u0 : va_W), rv_ = some (.int (nI (dBn D))) ∧ rL_ = [u0] ∧ KdP g m (dT D 0) u0) noX := by
  refine Ct.of "KeygroveModel" [some (.ref m)] rfl (by decide) rfl (Nat.le_of_ble_eq_true rfl) rfl ?_
  intro κ B E tb
  have hD0 := hD
  obtain ⟨hd1, hd2, hd3, hd4, hd5, hd6, hd7, hd8, hd9⟩ := hD0
  obtain ⟨ls, lb, lk, lp, lr, le, lm, lo, kcap, pcap, rcap, ecap, mcap, mks, mps, v0, v1, v2, v3, v4, v5, v6, v7, hcap, hv0, hv1, hv2, hv3, hv4, hv5, hv6, hv7, rfl⟩ := hw0
  refine g_open 0 rfl rfl rfl ?_
  refine (show Go g κ 0 [some (.ref m)] [] [[(m, .inr (12, [.ref ls, .ref lb, .ref lk, .ref lp, .ref lr, .ref le, .ref lm, .ref lo, .int (nI (dTh D)), .int (dZz D), .int (nI (dBn D)), .int (nI (dCm D))]))], v0, v1, v2, v3, v4, v5, v6, v7] 0 0 from ?_)
  obtain ⟨kc1, kc2, kc3, kc4, kc5⟩ := (show capM kcap pcap rcap ecap mcap from hcap)
  refine g_aload_n (q := 1) B dX3_boxes_0 rfl rfl (rv_r _) ?_
  refine g_iconst (v := nI 0) (q := 2) B dX3_boxes_1 rfl (by decide) ?_
  refine g_put (q := 5) (L2 := [[(m, .inr (12, [.ref ls, .ref lb, .ref lk, .ref lp, .ref lr, .ref le, .ref lm, .ref lo, .int (nI 0), .int (dZz D), .int (nI (dBn D)), .int (nI (dCm D))]))], v0, v1, v2, v3, v4, v5, v6, v7]) B (ci := 12) (k := 0) (j := 8) in_X3 tyX3 tyX3_ok nmX3 rfl dX3_boxes_2 rfl rfl (Nat.le_of_ble_eq_true rfl) q3065 rfl rfl rfl rfl (Nat.le_of_ble_eq_true rfl) rfl ?_
  refine g_aload_n (q := 6) B dX3_boxes_5 rfl rfl (rv_r _) ?_
  refine g_get (q := 9) B (ci := 12) (k := 0) (j := 10) in_X3 rfl dX3_boxes_6 rfl rfl (Nat.le_of_ble_eq_true rfl) q3067 rfl rfl ?_
  obtain ⟨wc_1, ewc_1⟩ : ∃ w : va_W, w = ([[(m, .inr (12, [.ref ls, .ref lb, .ref lk, .ref lp, .ref lr, .ref le, .ref lm, .ref lo, .int (nI 0), .int (dZz D), .int (nI (dBn D)), .int (nI (dCm D))]))], v0, v1, v2, v3, v4, v5, v6, v7] : List va_W).flatten := ⟨_, rfl⟩
  have hwc_1 : KdP g m (dT D 0) wc_1 := by
    rw [ewc_1]
    exact ⟨ls, lb, lk, lp, lr, le, lm, lo, kcap, pcap, rcap, ecap, mcap, mks, mps, _, _, _, _, _, _, _, _, hcap, hv0, hv1, hv2, hv3, hv4, hv5, hv6, hv7, rfl⟩
  refine g_close (w := wc_1) [0, 0, 0, 0, 0, 0, 0, 0, 0] rfl ewc_1 rfl ?_
  refine (show Go g κ 9 [some (.ref m)] [.int (nI (dBn D))] [wc_1] 0 0 from ?_)
  exact g_iret B E dX3_boxes_9 (⟨wc_1, rfl, rfl, hwc_1⟩)
theorem ct_X3_epoch (g : Gv) (J : Jd g) {m : Nat} {D : MdS} {w0 : va_W} (hw0 : KdP g m D w0) (hD : MdB D) : Ct g yX3_epoch (ws_ yX3_epoch cX3_epoch 1 (some .int)) 2 0 0 [.ref m] [w0] (fun (rv_ : Option Value) (rL_ : List va_W) => ∃ (k : Nat) (x : Int32) (u0 : va_W), rv_ = some (.int x) ∧ rL_ = [u0] ∧ KdP g m (dT D k) u0 ∧ ((k = 1 ∧ dEs D = []) ∨ (k = 0 ∧ dEs D ≠ [] ∧ x = nI (dEs D).length - nI 1))) noX := by
  refine Ct.of "KeygroveModel" [some (.ref m)] rfl (by decide) rfl (Nat.le_of_ble_eq_true rfl) rfl ?_
  intro κ B E tb
  have hD0 := hD
  obtain ⟨hd1, hd2, hd3, hd4, hd5, hd6, hd7, hd8, hd9⟩ := hD0
  obtain ⟨ls, lb, lk, lp, lr, le, lm, lo, kcap, pcap, rcap, ecap, mcap, mks, mps, v0, v1, v2, v3, v4, v5, v6, v7, hcap, hv0, hv1, hv2, hv3, hv4, hv5, hv6, hv7, rfl⟩ := hw0
  refine g_open 0 rfl rfl rfl ?_
  refine (show Go g κ 0 [some (.ref m)] [] [[(m, .inr (12, [.ref ls, .ref lb, .ref lk, .ref lp, .ref lr, .ref le, .ref lm, .ref lo, .int (nI (dTh D)), .int (dZz D), .int (nI (dBn D)), .int (nI (dCm D))]))], v0, v1, v2, v3, v4, v5, v6, v7] 0 0 from ?_)
  obtain ⟨kc1, kc2, kc3, kc4, kc5⟩ := (show capM kcap pcap rcap ecap mcap from hcap)
  refine g_aload_n (q := 1) B dX3_epoch_0 rfl rfl (rv_r _) ?_
  refine g_aload_n (q := 2) B dX3_epoch_1 rfl rfl (rv_r _) ?_
  refine g_get (q := 5) B (ci := 12) (k := 0) (j := 5) in_X3 rfl dX3_epoch_2 rfl rfl (Nat.le_of_ble_eq_true rfl) q3062 rfl rfl ?_
  obtain ⟨ps_1, md_1, hli_1, hln_1, hel_1⟩ := LhP.at (Sub.self hv5)
  refine g_callV (q := 8) (is := [6]) (kc2 := 0) (ks2 := 0) B [] (ct_J2_isEmpty_s g J (p := le) (xs := ps_1) (md := md_1) (cap := ecap) (W0 := v5)  (hli_1)) dX3_epoch_5 rfl (rc_in B (ci := 21) rfl (k := 6) rfl (LhP.hm hv5)) rfl q3248 q1130 q3669 q81 q1132 rfl rfl moJ2_isEmpty rfl rfl (by decide) (by decide) (Nat.le_of_ble_eq_true rfl) (Nat.le_of_ble_eq_true rfl) (Nat.le_of_ble_eq_true rfl) (fun _ _ hx => noX_x hx) (fun v5 L1 hp5 => ?_)
  obtain ⟨rfl, rfl⟩ := hp5
  refine (show Go g κ 8 [some (.ref m)] [.int (nI (if ps_1.length = 0 then 1 else 0)), .ref m] [[(m, .inr (12, [.ref ls, .ref lb, .ref lk, .ref lp, .ref lr, .ref le, .ref lm, .ref lo, .int (nI (dTh D)), .int (dZz D), .int (nI (dBn D)), .int (nI (dCm D))]))], v0, v1, v2, v3, v4, v6, v7, v5] 0 0 from ?_)
  rw [hln_1.1]
  refine (show Go g κ 8 [some (.ref m)] [.int (nI (if (dEs D).length = 0 then 1 else 0)), .ref m] [[(m, .inr (12, [.ref ls, .ref lb, .ref lk, .ref lp, .ref lr, .ref le, .ref lm, .ref lo, .int (nI (dTh D)), .int (dZz D), .int (nI (dBn D)), .int (nI (dCm D))]))], v0, v1, v2, v3, v4, v6, v7, v5] 0 0 from ?_)
  refine g_if_eq (tgt := 15) (q := 11) B dX3_epoch_8 rfl (by decide) (bo_eq) (fun c8 => ?_) (fun c8 => ?_)
  · skip
    refine g_iconst (v := nI 0) (q := 16) B dX3_epoch_15 rfl (by decide) ?_
    refine g_callV (q := 19) (is := [0]) (kc2 := 0) (ks2 := 0) B [.int (nI 0)] (ct_X3_isWrong g J (m := m) (ls := ls) (lb := lb) (lk := lk) (lp := lp) (lr := lr) (le := le) (lm := lm) (lo := lo) (th := dTh D) (z := dZz D) (bo := dBn D) (cm := dCm D) (k := 0)  (by decide)) dX3_epoch_16 rfl (rc_at B (ci := 12) rfl (k := 0) rfl) rfl q3103 q3105 qs49 q85 q3106 rfl rfl moX3_isWrong rfl rfl (by decide) (by decide) (Nat.le_of_ble_eq_true rfl) (Nat.le_of_ble_eq_true rfl) (Nat.le_of_ble_eq_true rfl) (fun _ _ hx => noX_x hx) (fun v16 L1 hp16 => ?_)
    obtain ⟨rfl, rfl⟩ := hp16
    refine (show Go g κ 19 [some (.ref m)] [.int (nI (if ¬ 0 = 0 then 1 else 0))] [v0, v1, v2, v3, v4, v6, v7, v5, [(m, .inr (12, [.ref ls, .ref lb, .ref lk, .ref lp, .ref lr, .ref le, .ref lm, .ref lo, .int (nI 0), .int (dZz D), .int (nI (dBn D)), .int (nI (dCm D))]))]] 0 0 from ?_)
    refine g_if_eq (tgt := 26) (q := 22) B dX3_epoch_19 rfl (by decide) (iff_true_intro (by decide)) (fun _ => ?_) (fun z => absurd trivial z)
    refine g_aload_n (q := 27) B dX3_epoch_26 rfl rfl (rv_r _) ?_
    refine g_get (q := 30) B (ci := 12) (k := 8) (j := 5) in_X3 rfl dX3_epoch_27 rfl rfl (Nat.le_of_ble_eq_true rfl) q3062 rfl rfl ?_
    refine g_callV (q := 33) (is := [7]) (kc2 := 0) (ks2 := 0) B [] (ct_J2_size_s g J (p := le) (xs := ps_1) (md := md_1) (cap := ecap) (W0 := v5)  (hli_1)) dX3_epoch_30 rfl (rc_in B (ci := 21) rfl (k := 7) rfl (LhP.hm hv5)) rfl q3102 q321 q3665 q81 q323 rfl rfl moJ2_size rfl rfl (by decide) (by decide) (Nat.le_of_ble_eq_true rfl) (Nat.le_of_ble_eq_true rfl) (Nat.le_of_ble_eq_true rfl) (fun _ _ hx => noX_x hx) (fun v30 L1 hp30 => ?_)
    obtain ⟨rfl, rfl⟩ := hp30
    refine (show Go g κ 33 [some (.ref m)] [.int (nI ps_1.length)] [v0, v1, v2, v3, v4, v6, v7, [(m, .inr (12, [.ref ls, .ref lb, .ref lk, .ref lp, .ref lr, .ref le, .ref lm, .ref lo, .int (nI 0), .int (dZz D), .int (nI (dBn D)), .int (nI (dCm D))]))], v5] 0 0 from ?_)
    rw [hln_1.1]
    refine (show Go g κ 33 [some (.ref m)] [.int (nI ((dEs D).length))] [v0, v1, v2, v3, v4, v6, v7, [(m, .inr (12, [.ref ls, .ref lb, .ref lk, .ref lp, .ref lr, .ref le, .ref lm, .ref lo, .int (nI 0), .int (dZz D), .int (nI (dBn D)), .int (nI (dCm D))]))], v5] 0 0 from ?_)
    refine g_iconst (v := nI 1) (q := 34) B dX3_epoch_33 rfl (by decide) ?_
    refine g_isub (v := nI (dEs D).length - nI 1) (q := 35) B dX3_epoch_34 rfl rfl ?_
    obtain ⟨wc_2, ewc_2⟩ : ∃ w : va_W, w = ([[(m, .inr (12, [.ref ls, .ref lb, .ref lk, .ref lp, .ref lr, .ref le, .ref lm, .ref lo, .int (nI 0), .int (dZz D), .int (nI (dBn D)), .int (nI (dCm D))]))], v0, v1, v2, v3, v4, v5, v6, v7] : List va_W).flatten := ⟨_, rfl⟩
    have hwc_2 : KdP g m (dT D 0) wc_2 := by
      rw [ewc_2]
      exact ⟨ls, lb, lk, lp, lr, le, lm, lo, kcap, pcap, rcap, ecap, mcap, mks, mps, _, _, _, _, _, _, _, _, hcap, hv0, hv1, hv2, hv3, hv4, hv5, hv6, hv7, rfl⟩
    refine g_close (w := wc_2) [7, 0, 0, 0, 0, 0, 2, 0, 0] rfl ewc_2 rfl ?_
    refine (show Go g κ 35 [some (.ref m)] [.int (nI (dEs D).length - nI 1)] [wc_2] 0 0 from ?_)
    exact g_iret B E dX3_epoch_35 (⟨0, nI (dEs D).length - nI 1, _, rfl, rfl, hwc_2, Or.inr ⟨rfl, fun z => c8 (by rw [z]; rfl), rfl⟩⟩)
  · skip
    have c8 := Classical.not_not.mp c8
    refine g_iconst (v := nI 1) (q := 12) B dX3_epoch_11 rfl (by decide) ?_
    refine g_goto (tgt := 16) B dX3_epoch_12 (by decide) ?_
    refine g_callV (q := 19) (is := [0]) (kc2 := 0) (ks2 := 0) B [.int (nI 1)] (ct_X3_isWrong g J (m := m) (ls := ls) (lb := lb) (lk := lk) (lp := lp) (lr := lr) (le := le) (lm := lm) (lo := lo) (th := dTh D) (z := dZz D) (bo := dBn D) (cm := dCm D) (k := 1)  (by decide)) dX3_epoch_16 rfl (rc_at B (ci := 12) rfl (k := 0) rfl) rfl q3103 q3105 qs49 q85 q3106 rfl rfl moX3_isWrong rfl rfl (by decide) (by decide) (Nat.le_of_ble_eq_true rfl) (Nat.le_of_ble_eq_true rfl) (Nat.le_of_ble_eq_true rfl) (fun _ _ hx => noX_x hx) (fun v16 L1 hp16 => ?_)
    obtain ⟨rfl, rfl⟩ := hp16
    refine (show Go g κ 19 [some (.ref m)] [.int (nI (if ¬ 1 = 0 then 1 else 0))] [v0, v1, v2, v3, v4, v6, v7, v5, [(m, .inr (12, [.ref ls, .ref lb, .ref lk, .ref lp, .ref lr, .ref le, .ref lm, .ref lo, .int (nI 1), .int (dZz D), .int (nI (dBn D)), .int (nI (dCm D))]))]] 0 0 from ?_)
    refine g_if_eq (tgt := 26) (q := 22) B dX3_epoch_19 rfl (by decide) (iff_false_intro (by decide)) (fun z => z.elim) (fun _ => ?_)
    refine g_iconst (v := nI 0) (q := 23) B dX3_epoch_22 rfl (by decide) ?_
    refine g_goto (tgt := 35) B dX3_epoch_23 (by decide) ?_
    obtain ⟨wc_3, ewc_3⟩ : ∃ w : va_W, w = ([[(m, .inr (12, [.ref ls, .ref lb, .ref lk, .ref lp, .ref lr, .ref le, .ref lm, .ref lo, .int (nI 1), .int (dZz D), .int (nI (dBn D)), .int (nI (dCm D))]))], v0, v1, v2, v3, v4, v5, v6, v7] : List va_W).flatten := ⟨_, rfl⟩
    have hwc_3 : KdP g m (dT D 1) wc_3 := by
      rw [ewc_3]
      exact ⟨ls, lb, lk, lp, lr, le, lm, lo, kcap, pcap, rcap, ecap, mcap, mks, mps, _, _, _, _, _, _, _, _, hcap, hv0, hv1, hv2, hv3, hv4, hv5, hv6, hv7, rfl⟩
    refine g_close (w := wc_3) [8, 0, 0, 0, 0, 0, 2, 0, 0] rfl ewc_3 rfl ?_
    refine (show Go g κ 35 [some (.ref m)] [.int (nI 0)] [wc_3] 0 0 from ?_)
    exact g_iret B E dX3_epoch_35 (⟨1, nI 0, _, rfl, rfl, hwc_3, Or.inl ⟨rfl, List.length_eq_zero_iff.mp c8⟩⟩)
theorem moX3_isInNone : Mo yX3_isInNone 1 := by
  refine ⟨by decide, by decide, by decide +kernel⟩
theorem ct_X3_epochOf (g : Gv) (J : Jd g) {m : Nat} {D : MdS} {v : Int32} {w0 : va_W} (hw0 : KdP g m D w0) (hD : MdB D) : Ct g yX3_epochOf (ws_ yX3_epochOf cX3_epochOf 2 (some .int)) 7 0 0 [.ref m, .int v] [w0] (fun (rv_ : Option Value) (rL_ : List va_W) => ∃ (k : Nat) (x : Int32) (u0 : va_W), rv_ = some (.int x) ∧ rL_ = [u0] ∧ KdP g m (dT D k) u0 ∧ ((k = 1 ∧ ¬ inR v (dPs D).length = true) ∨ ∃ (i : Nat) (r : MpS), v = nI i ∧ (dPs D)[i]? = some r ∧ ((k = 2 ∧ mEp r = none) ∨ (k = 0 ∧ ¬ mEp r = none ∧ x = oI (mEp r))))) noX := by
  refine Ct.of "KeygroveModel" [some (.ref m), some (.int v)] rfl (by decide) rfl (Nat.le_of_ble_eq_true rfl) rfl ?_
  intro κ B E tb
  have hD0 := hD
  obtain ⟨hd1, hd2, hd3, hd4, hd5, hd6, hd7, hd8, hd9⟩ := hD0
  obtain ⟨ls, lb, lk, lp, lr, le, lm, lo, kcap, pcap, rcap, ecap, mcap, mks, mps, v0, v1, v2, v3, v4, v5, v6, v7, hcap, hv0, hv1, hv2, hv3, hv4, hv5, hv6, hv7, rfl⟩ := hw0
  refine g_open 0 rfl rfl rfl ?_
  refine (show Go g κ 0 [some (.ref m), some (.int v)] [] [[(m, .inr (12, [.ref ls, .ref lb, .ref lk, .ref lp, .ref lr, .ref le, .ref lm, .ref lo, .int (nI (dTh D)), .int (dZz D), .int (nI (dBn D)), .int (nI (dCm D))]))], v0, v1, v2, v3, v4, v5, v6, v7] 0 0 from ?_)
  obtain ⟨kc1, kc2, kc3, kc4, kc5⟩ := (show capM kcap pcap rcap ecap mcap from hcap)
  refine g_aload_n (q := 1) B dX3_epochOf_0 rfl rfl (rv_r _) ?_
  refine g_iload_n (q := 2) B dX3_epochOf_1 rfl rfl ?_
  refine g_callV (q := 5) (is := [0, 3]) (kc2 := 0) (ks2 := 0) B [.int v] (ct_X3_isInNone g J (m := m) (ls := ls) (lb := lb) (lk := lk) (lp := lp) (lr := lr) (le := le) (lm := lm) (lo := lo) (th := dTh D) (z := dZz D) (bo := dBn D) (cm := dCm D) (mps := mps) (Ps := (dPs D)) (pcap := pcap) (v := v) hv3 (by omega)) dX3_epochOf_2 rfl (rc_at B (ci := 12) rfl (k := 0) rfl) rfl q3346 q3348 qs59 q85 q3349 rfl rfl moX3_isInNone rfl rfl (by decide) (by decide) (Nat.le_of_ble_eq_true rfl) (Nat.le_of_ble_eq_true rfl) (Nat.le_of_ble_eq_true rfl) (fun _ _ hx => noX_x hx) (fun v2 L1 hp2 => ?_)
  obtain ⟨k2, rfl, rfl, hk_2⟩ := hp2
  refine (show Go g κ 5 [some (.ref m), some (.int v)] [.int (nI (if ¬ k2 = 0 then 1 else 0))] [v0, v1, v2, v4, v5, v6, v7, [(m, .inr (12, [.ref ls, .ref lb, .ref lk, .ref lp, .ref lr, .ref le, .ref lm, .ref lo, .int (nI k2), .int (dZz D), .int (nI (dBn D)), .int (nI (dCm D))]))], v3] 0 0 from ?_)
  refine g_if_eq (tgt := 12) (q := 8) B dX3_epochOf_5 rfl (by decide) (bo_eq) (fun c5 => ?_) (fun c5 => ?_)
  · skip
    rcases hk_2 with ⟨rfl, -⟩ | ⟨i, r, rfl, hr, ⟨rfl, -⟩ | ⟨rfl, hin⟩⟩
    · exact absurd c5 (by decide)
    · exact absurd c5 (by decide)
    have hil := get_lt2 hr
    refine (show Go g κ 12 [some (.ref m), some (.int (nI i))] [] [v0, v1, v2, v4, v5, v6, v7, [(m, .inr (12, [.ref ls, .ref lb, .ref lk, .ref lp, .ref lr, .ref le, .ref lm, .ref lo, .int (nI 0), .int (dZz D), .int (nI (dBn D)), .int (nI (dCm D))]))], v3] 0 0 from ?_)
    refine g_aload_n (q := 13) B dX3_epochOf_12 rfl rfl (rv_r _) ?_
    refine g_get (q := 16) B (ci := 12) (k := 7) (j := 3) in_X3 rfl dX3_epochOf_13 rfl rfl (Nat.le_of_ble_eq_true rfl) q3060 rfl rfl ?_
    refine g_iload_n (q := 17) B dX3_epochOf_16 rfl rfl ?_
    obtain ⟨md_1, hli_1, hln_1, hel_1⟩ := LoP.at (Sub.self hv3)
    obtain ⟨x17, hx17⟩ := get_ex (xs := mps) (i := i) (by have := get_lt2 (show (dPs D)[i]? = some r from hr); have := hln_1.1; omega)
    have hE_2 := hel_1 _ _ _ hx17 (show (dPs D)[i]? = some r from hr)
    refine g_callV (q := 20) (is := [8]) (kc2 := 0) (ks2 := 0) B [.int (nI i)] (ct_J2_get_s g J (p := lp) (xs := mps) (md := md_1) (cap := pcap) (i := i) (x := x17) (W0 := v3)  (hli_1) (hx17)) dX3_epochOf_17 rfl (rc_in B (ci := 21) rfl (k := 8) rfl (LoP.hm hv3)) rfl q3231 q1095 q3667 q81 q1097 rfl rfl moJ2_get rfl rfl (by decide) (by decide) (Nat.le_of_ble_eq_true rfl) (Nat.le_of_ble_eq_true rfl) (Nat.le_of_ble_eq_true rfl) (fun _ _ hx => noX_x hx) (fun v17 L1 hp17 => ?_)
    obtain ⟨rfl, rfl⟩ := hp17
    refine (show Go g κ 20 [some (.ref m), some (.int (nI i))] [.ref x17] [v0, v1, v2, v4, v5, v6, v7, [(m, .inr (12, [.ref ls, .ref lb, .ref lk, .ref lp, .ref lr, .ref le, .ref lm, .ref lo, .int (nI 0), .int (dZz D), .int (nI (dBn D)), .int (nI (dCm D))]))], v3] 0 0 from ?_)
    refine g_castRS (ci := 13) (q := 23) B rfl (rc_in B (ci := 13) rfl (k := 8) rfl (Sub.hm (hE_2) fun _ z => MpP.hm z)) dX3_epochOf_20 rfl q3107 ?_
    obtain ⟨nd_3, ch_3, ev_3, cv_3, fn_3, fc_3, hM_3, hfn_3, hoc_3, hcv_3, hc_3_0, hc_3_1, hc_3_2, hs_3_0, hs_3_1⟩ := MpP.at (hE_2)
    refine g_getNM (q := 26) B (ci := 13) (k := 8) (j := 0) in_X5 rfl dX3_epochOf_23 rfl rfl (hc_3_0) (Nat.le_of_ble_eq_true rfl) q3118 rfl rfl ?_
    obtain ⟨wc_4, ewc_4⟩ : ∃ w : va_W, w = ([[(m, .inr (12, [.ref ls, .ref lb, .ref lk, .ref lp, .ref lr, .ref le, .ref lm, .ref lo, .int (nI 0), .int (dZz D), .int (nI (dBn D)), .int (nI (dCm D))]))], v0, v1, v2, v3, v4, v5, v6, v7] : List va_W).flatten := ⟨_, rfl⟩
    have hwc_4 : KdP g m (dT D 0) wc_4 := by
      rw [ewc_4]
      exact ⟨ls, lb, lk, lp, lr, le, lm, lo, kcap, pcap, rcap, ecap, mcap, mks, mps, _, _, _, _, _, _, _, _, hcap, hv0, hv1, hv2, hv3, hv4, hv5, hv6, hv7, rfl⟩
    refine g_close (w := wc_4) [7, 0, 0, 0, 4, 0, 0, 0, 0] rfl ewc_4 rfl ?_
    refine (show Go g κ 26 [some (.ref m), some (.int (nI i))] [.int (oI (mEp r))] [wc_4] 0 0 from ?_)
    exact g_iret B E dX3_epochOf_26 (⟨0, oI (mEp r), _, rfl, rfl, hwc_4, Or.inr ⟨i, r, rfl, hr, Or.inr ⟨rfl, hin, rfl⟩⟩⟩)
  · skip
    have c5 := Classical.not_not.mp c5
    refine g_iconst (v := nI 0) (q := 9) B dX3_epochOf_8 rfl (by decide) ?_
    refine g_goto (tgt := 26) B dX3_epochOf_9 (by decide) ?_
    obtain ⟨wc_5, ewc_5⟩ : ∃ w : va_W, w = ([[(m, .inr (12, [.ref ls, .ref lb, .ref lk, .ref lp, .ref lr, .ref le, .ref lm, .ref lo, .int (nI k2), .int (dZz D), .int (nI (dBn D)), .int (nI (dCm D))]))], v0, v1, v2, v3, v4, v5, v6, v7] : List va_W).flatten := ⟨_, rfl⟩
    have hwc_5 : KdP g m (dT D k2) wc_5 := by
      rw [ewc_5]
      exact ⟨ls, lb, lk, lp, lr, le, lm, lo, kcap, pcap, rcap, ecap, mcap, mks, mps, _, _, _, _, _, _, _, _, hcap, hv0, hv1, hv2, hv3, hv4, hv5, hv6, hv7, rfl⟩
    refine g_close (w := wc_5) [7, 0, 0, 0, 4, 0, 0, 0, 0] rfl ewc_5 rfl ?_
    refine (show Go g κ 26 [some (.ref m), some (.int v)] [.int (nI 0)] [wc_5] 0 0 from ?_)
    exact g_iret B E dX3_epochOf_26 (⟨k2, nI 0, _, rfl, rfl, hwc_5, by rcases hk_2 with h | ⟨i, r, h1, h2, h | h⟩; exact Or.inl h; exact Or.inr ⟨i, r, h1, h2, Or.inl h⟩; exact absurd h.1 c5⟩)
theorem ct_X3_leafOf (g : Gv) (J : Jd g) {m : Nat} {D : MdS} {v : Int32} {w0 : va_W} (hw0 : KdP g m D w0) (hD : MdB D) : Ct g yX3_leafOf (ws_ yX3_leafOf cX3_leafOf 2 (some .int)) 7 0 0 [.ref m, .int v] [w0] (fun (rv_ : Option Value) (rL_ : List va_W) => ∃ (k : Nat) (x : Int32) (u0 : va_W), rv_ = some (.int x) ∧ rL_ = [u0] ∧ KdP g m (dT D k) u0 ∧ ((k = 1 ∧ ¬ inR v (dPs D).length = true) ∨ ∃ (i : Nat) (r : MpS), v = nI i ∧ (dPs D)[i]? = some r ∧ ((k = 2 ∧ mEp r = none) ∨ (k = 0 ∧ ¬ mEp r = none ∧ x = nI (mLf r))))) noX := by
  refine Ct.of "KeygroveModel" [some (.ref m), some (.int v)] rfl (by decide) rfl (Nat.le_of_ble_eq_true rfl) rfl ?_
  intro κ B E tb
  have hD0 := hD
  obtain ⟨hd1, hd2, hd3, hd4, hd5, hd6, hd7, hd8, hd9⟩ := hD0
  obtain ⟨ls, lb, lk, lp, lr, le, lm, lo, kcap, pcap, rcap, ecap, mcap, mks, mps, v0, v1, v2, v3, v4, v5, v6, v7, hcap, hv0, hv1, hv2, hv3, hv4, hv5, hv6, hv7, rfl⟩ := hw0
  refine g_open 0 rfl rfl rfl ?_
  refine (show Go g κ 0 [some (.ref m), some (.int v)] [] [[(m, .inr (12, [.ref ls, .ref lb, .ref lk, .ref lp, .ref lr, .ref le, .ref lm, .ref lo, .int (nI (dTh D)), .int (dZz D), .int (nI (dBn D)), .int (nI (dCm D))]))], v0, v1, v2, v3, v4, v5, v6, v7] 0 0 from ?_)
  obtain ⟨kc1, kc2, kc3, kc4, kc5⟩ := (show capM kcap pcap rcap ecap mcap from hcap)
  refine g_aload_n (q := 1) B dX3_leafOf_0 rfl rfl (rv_r _) ?_
  refine g_iload_n (q := 2) B dX3_leafOf_1 rfl rfl ?_
  refine g_callV (q := 5) (is := [0, 3]) (kc2 := 0) (ks2 := 0) B [.int v] (ct_X3_isInNone g J (m := m) (ls := ls) (lb := lb) (lk := lk) (lp := lp) (lr := lr) (le := le) (lm := lm) (lo := lo) (th := dTh D) (z := dZz D) (bo := dBn D) (cm := dCm D) (mps := mps) (Ps := (dPs D)) (pcap := pcap) (v := v) hv3 (by omega)) dX3_leafOf_2 rfl (rc_at B (ci := 12) rfl (k := 0) rfl) rfl q3346 q3348 qs59 q85 q3349 rfl rfl moX3_isInNone rfl rfl (by decide) (by decide) (Nat.le_of_ble_eq_true rfl) (Nat.le_of_ble_eq_true rfl) (Nat.le_of_ble_eq_true rfl) (fun _ _ hx => noX_x hx) (fun v2 L1 hp2 => ?_)
  obtain ⟨k2, rfl, rfl, hk_2⟩ := hp2
  refine (show Go g κ 5 [some (.ref m), some (.int v)] [.int (nI (if ¬ k2 = 0 then 1 else 0))] [v0, v1, v2, v4, v5, v6, v7, [(m, .inr (12, [.ref ls, .ref lb, .ref lk, .ref lp, .ref lr, .ref le, .ref lm, .ref lo, .int (nI k2), .int (dZz D), .int (nI (dBn D)), .int (nI (dCm D))]))], v3] 0 0 from ?_)
  refine g_if_eq (tgt := 12) (q := 8) B dX3_leafOf_5 rfl (by decide) (bo_eq) (fun c5 => ?_) (fun c5 => ?_)
  · skip
    rcases hk_2 with ⟨rfl, -⟩ | ⟨i, r, rfl, hr, ⟨rfl, -⟩ | ⟨rfl, hin⟩⟩
    · exact absurd c5 (by decide)
    · exact absurd c5 (by decide)
    have hil := get_lt2 hr
    refine (show Go g κ 12 [some (.ref m), some (.int (nI i))] [] [v0, v1, v2, v4, v5, v6, v7, [(m, .inr (12, [.ref ls, .ref lb, .ref lk, .ref lp, .ref lr, .ref le, .ref lm, .ref lo, .int (nI 0), .int (dZz D), .int (nI (dBn D)), .int (nI (dCm D))]))], v3] 0 0 from ?_)
    refine g_aload_n (q := 13) B dX3_leafOf_12 rfl rfl (rv_r _) ?_
    refine g_get (q := 16) B (ci := 12) (k := 7) (j := 3) in_X3 rfl dX3_leafOf_13 rfl rfl (Nat.le_of_ble_eq_true rfl) q3060 rfl rfl ?_
    refine g_iload_n (q := 17) B dX3_leafOf_16 rfl rfl ?_
    obtain ⟨md_1, hli_1, hln_1, hel_1⟩ := LoP.at (Sub.self hv3)
    obtain ⟨x17, hx17⟩ := get_ex (xs := mps) (i := i) (by have := get_lt2 (show (dPs D)[i]? = some r from hr); have := hln_1.1; omega)
    have hE_2 := hel_1 _ _ _ hx17 (show (dPs D)[i]? = some r from hr)
    refine g_callV (q := 20) (is := [8]) (kc2 := 0) (ks2 := 0) B [.int (nI i)] (ct_J2_get_s g J (p := lp) (xs := mps) (md := md_1) (cap := pcap) (i := i) (x := x17) (W0 := v3)  (hli_1) (hx17)) dX3_leafOf_17 rfl (rc_in B (ci := 21) rfl (k := 8) rfl (LoP.hm hv3)) rfl q3231 q1095 q3667 q81 q1097 rfl rfl moJ2_get rfl rfl (by decide) (by decide) (Nat.le_of_ble_eq_true rfl) (Nat.le_of_ble_eq_true rfl) (Nat.le_of_ble_eq_true rfl) (fun _ _ hx => noX_x hx) (fun v17 L1 hp17 => ?_)
    obtain ⟨rfl, rfl⟩ := hp17
    refine (show Go g κ 20 [some (.ref m), some (.int (nI i))] [.ref x17] [v0, v1, v2, v4, v5, v6, v7, [(m, .inr (12, [.ref ls, .ref lb, .ref lk, .ref lp, .ref lr, .ref le, .ref lm, .ref lo, .int (nI 0), .int (dZz D), .int (nI (dBn D)), .int (nI (dCm D))]))], v3] 0 0 from ?_)
    refine g_castRS (ci := 13) (q := 23) B rfl (rc_in B (ci := 13) rfl (k := 8) rfl (Sub.hm (hE_2) fun _ z => MpP.hm z)) dX3_leafOf_20 rfl q3107 ?_
    obtain ⟨nd_3, ch_3, ev_3, cv_3, fn_3, fc_3, hM_3, hfn_3, hoc_3, hcv_3, hc_3_0, hc_3_1, hc_3_2, hs_3_0, hs_3_1⟩ := MpP.at (hE_2)
    refine g_getNM (q := 26) B (ci := 13) (k := 8) (j := 1) in_X5 rfl dX3_leafOf_23 rfl rfl (hc_3_0) (Nat.le_of_ble_eq_true rfl) q3119 rfl rfl ?_
    obtain ⟨wc_4, ewc_4⟩ : ∃ w : va_W, w = ([[(m, .inr (12, [.ref ls, .ref lb, .ref lk, .ref lp, .ref lr, .ref le, .ref lm, .ref lo, .int (nI 0), .int (dZz D), .int (nI (dBn D)), .int (nI (dCm D))]))], v0, v1, v2, v3, v4, v5, v6, v7] : List va_W).flatten := ⟨_, rfl⟩
    have hwc_4 : KdP g m (dT D 0) wc_4 := by
      rw [ewc_4]
      exact ⟨ls, lb, lk, lp, lr, le, lm, lo, kcap, pcap, rcap, ecap, mcap, mks, mps, _, _, _, _, _, _, _, _, hcap, hv0, hv1, hv2, hv3, hv4, hv5, hv6, hv7, rfl⟩
    refine g_close (w := wc_4) [7, 0, 0, 0, 4, 0, 0, 0, 0] rfl ewc_4 rfl ?_
    refine (show Go g κ 26 [some (.ref m), some (.int (nI i))] [.int (nI (mLf r))] [wc_4] 0 0 from ?_)
    exact g_iret B E dX3_leafOf_26 (⟨0, nI (mLf r), _, rfl, rfl, hwc_4, Or.inr ⟨i, r, rfl, hr, Or.inr ⟨rfl, hin, rfl⟩⟩⟩)
  · skip
    have c5 := Classical.not_not.mp c5
    refine g_iconst (v := nI 0) (q := 9) B dX3_leafOf_8 rfl (by decide) ?_
    refine g_goto (tgt := 26) B dX3_leafOf_9 (by decide) ?_
    obtain ⟨wc_5, ewc_5⟩ : ∃ w : va_W, w = ([[(m, .inr (12, [.ref ls, .ref lb, .ref lk, .ref lp, .ref lr, .ref le, .ref lm, .ref lo, .int (nI k2), .int (dZz D), .int (nI (dBn D)), .int (nI (dCm D))]))], v0, v1, v2, v3, v4, v5, v6, v7] : List va_W).flatten := ⟨_, rfl⟩
    have hwc_5 : KdP g m (dT D k2) wc_5 := by
      rw [ewc_5]
      exact ⟨ls, lb, lk, lp, lr, le, lm, lo, kcap, pcap, rcap, ecap, mcap, mks, mps, _, _, _, _, _, _, _, _, hcap, hv0, hv1, hv2, hv3, hv4, hv5, hv6, hv7, rfl⟩
    refine g_close (w := wc_5) [7, 0, 0, 0, 4, 0, 0, 0, 0] rfl ewc_5 rfl ?_
    refine (show Go g κ 26 [some (.ref m), some (.int v)] [.int (nI 0)] [wc_5] 0 0 from ?_)
    exact g_iret B E dX3_leafOf_26 (⟨k2, nI 0, _, rfl, rfl, hwc_5, by rcases hk_2 with h | ⟨i, r, h1, h2, h | h⟩; exact Or.inl h; exact Or.inr ⟨i, r, h1, h2, Or.inl h⟩; exact absurd h.1 c5⟩)
theorem moX3_isEpoch : Mo yX3_isEpoch 1 := by
  refine ⟨by decide, by decide, by decide +kernel⟩
theorem moX3_isIn : Mo yX3_isIn 2 := by
  refine ⟨by decide, by decide, by decide +kernel⟩
theorem ct_X3_isMember (g : Gv) (J : Jd g) {m : Nat} {D : MdS} {v : Int32} {u : Int32} {w0 : va_W} (hw0 : KdP g m D w0) (hD : MdB D) (h16 : ∀ Ep ∈ dEs D, ∀ l, 2 ^ (eTr Ep).1 ≤ l → (eTr Ep).2.2.2 l = none) : Ct g yX3_isMember (ws_ yX3_isMember cX3_isMember 3 (some .boolean)) 7 0 0 [.ref m, .int v, .int u] [w0] (fun (rv_ : Option Value) (rL_ : List va_W) => ∃ (k : Nat) (b : Bool) (u0 : va_W), rv_ = some (.int (nI (if b = true then 1 else 0))) ∧ rL_ = [u0] ∧ KdP g m (dT D k) u0 ∧ ((k = 1 ∧ ¬ (inR v (dPs D).length = true ∧ inR u (dEs D).length = true)) ∨ (k = 0 ∧ ∃ (i j : Nat) (Ep : MeS), v = nI i ∧ i < (dPs D).length ∧ u = nI j ∧ (dEs D)[j]? = some Ep ∧ (b = true ↔ ¬ lof (eTr Ep) i = none)))) noX := by
  refine Ct.of "KeygroveModel" [some (.ref m), some (.int v), some (.int u)] rfl (by decide) rfl (Nat.le_of_ble_eq_true rfl) rfl ?_
  intro κ B E tb
  have hD0 := hD
  obtain ⟨hd1, hd2, hd3, hd4, hd5, hd6, hd7, hd8, hd9⟩ := hD0
  obtain ⟨ls, lb, lk, lp, lr, le, lm, lo, kcap, pcap, rcap, ecap, mcap, mks, mps, v0, v1, v2, v3, v4, v5, v6, v7, hcap, hv0, hv1, hv2, hv3, hv4, hv5, hv6, hv7, rfl⟩ := hw0
  refine g_open 0 rfl rfl rfl ?_
  refine (show Go g κ 0 [some (.ref m), some (.int v), some (.int u)] [] [[(m, .inr (12, [.ref ls, .ref lb, .ref lk, .ref lp, .ref lr, .ref le, .ref lm, .ref lo, .int (nI (dTh D)), .int (dZz D), .int (nI (dBn D)), .int (nI (dCm D))]))], v0, v1, v2, v3, v4, v5, v6, v7] 0 0 from ?_)
  obtain ⟨kc1, kc2, kc3, kc4, kc5⟩ := (show capM kcap pcap rcap ecap mcap from hcap)
  refine g_aload_n (q := 1) B dX3_isMember_0 rfl rfl (rv_r _) ?_
  refine g_aload_n (q := 2) B dX3_isMember_1 rfl rfl (rv_r _) ?_
  refine g_iload_n (q := 3) B dX3_isMember_2 rfl rfl ?_
  refine g_callV (q := 6) (is := [0, 3]) (kc2 := 0) (ks2 := 0) B [.int v] (ct_X3_isPerson g J (m := m) (ls := ls) (lb := lb) (lk := lk) (lp := lp) (lr := lr) (le := le) (lm := lm) (lo := lo) (th := dTh D) (z := dZz D) (bo := dBn D) (cm := dCm D) (mps := mps) (Ps := (dPs D)) (pcap := pcap) (v := v) hv3 (by omega)) dX3_isMember_3 rfl (rc_at B (ci := 12) rfl (k := 0) rfl) rfl q3153 q3155 qs51 q85 q3156 rfl rfl moX3_isPerson rfl rfl (by decide) (by decide) (Nat.le_of_ble_eq_true rfl) (Nat.le_of_ble_eq_true rfl) (Nat.le_of_ble_eq_true rfl) (fun _ _ hx => noX_x hx) (fun v3 L1 hp3 => ?_)
  obtain ⟨rfl, rfl⟩ := hp3
  refine (show Go g κ 6 [some (.ref m), some (.int v), some (.int u)] [.int (nI (if inR v (dPs D).length = true then 1 else 0)), .ref m] [v0, v1, v2, v4, v5, v6, v7, [(m, .inr (12, [.ref ls, .ref lb, .ref lk, .ref lp, .ref lr, .ref le, .ref lm, .ref lo, .int (nI (dTh D)), .int (dZz D), .int (nI (dBn D)), .int (nI (dCm D))]))], v3] 0 0 from ?_)
  refine g_if_eq (tgt := 21) (q := 9) B dX3_isMember_6 rfl (by decide) (bo_eq) (fun c6 => ?_) (fun c6 => ?_)
  · skip
    refine g_iconst (v := nI 1) (q := 22) B dX3_isMember_21 rfl (by decide) ?_
    refine g_callV (q := 25) (is := [7]) (kc2 := 0) (ks2 := 0) B [.int (nI 1)] (ct_X3_isWrong g J (m := m) (ls := ls) (lb := lb) (lk := lk) (lp := lp) (lr := lr) (le := le) (lm := lm) (lo := lo) (th := (dTh D)) (z := (dZz D)) (bo := (dBn D)) (cm := (dCm D)) (k := 1)  (by decide)) dX3_isMember_22 rfl (rc_at B (ci := 12) rfl (k := 7) rfl) rfl q3103 q3105 qs49 q85 q3106 rfl rfl moX3_isWrong rfl rfl (by decide) (by decide) (Nat.le_of_ble_eq_true rfl) (Nat.le_of_ble_eq_true rfl) (Nat.le_of_ble_eq_true rfl) (fun _ _ hx => noX_x hx) (fun v22 L1 hp22 => ?_)
    obtain ⟨rfl, rfl⟩ := hp22
    refine (show Go g κ 25 [some (.ref m), some (.int v), some (.int u)] [.int (nI (if ¬ 1 = 0 then 1 else 0))] [v0, v1, v2, v4, v5, v6, v7, v3, [(m, .inr (12, [.ref ls, .ref lb, .ref lk, .ref lp, .ref lr, .ref le, .ref lm, .ref lo, .int (nI 1), .int (dZz D), .int (nI (dBn D)), .int (nI (dCm D))]))]] 0 0 from ?_)
    refine g_if_ne (tgt := 51) (q := 28) B dX3_isMember_25 rfl (by decide) (iff_true_intro (by decide)) (fun _ => ?_) (fun z => absurd trivial z)
    refine g_iconst (v := nI 0) (q := 52) B dX3_isMember_51 rfl (by decide) ?_
    obtain ⟨wc_1, ewc_1⟩ : ∃ w : va_W, w = ([[(m, .inr (12, [.ref ls, .ref lb, .ref lk, .ref lp, .ref lr, .ref le, .ref lm, .ref lo, .int (nI 1), .int (dZz D), .int (nI (dBn D)), .int (nI (dCm D))]))], v0, v1, v2, v3, v4, v5, v6, v7] : List va_W).flatten := ⟨_, rfl⟩
    have hwc_1 : KdP g m (dT D 1) wc_1 := by
      rw [ewc_1]
      exact ⟨ls, lb, lk, lp, lr, le, lm, lo, kcap, pcap, rcap, ecap, mcap, mks, mps, _, _, _, _, _, _, _, _, hcap, hv0, hv1, hv2, hv3, hv4, hv5, hv6, hv7, rfl⟩
    refine g_close (w := wc_1) [8, 0, 0, 0, 4, 0, 0, 0, 0] rfl ewc_1 rfl ?_
    refine (show Go g κ 52 [some (.ref m), some (.int v), some (.int u)] [.int (nI 0)] [wc_1] 0 0 from ?_)
    exact g_zret B E dX3_isMember_52 (by decide) (⟨1, false, _, rfl, rfl, hwc_1, Or.inl ⟨rfl, by rintro ⟨z1, z2⟩; first | exact c6 z1 | exact c14 z2⟩⟩)
  · skip
    have c6 := Classical.not_not.mp c6
    refine g_aload_n (q := 10) B dX3_isMember_9 rfl rfl (rv_r _) ?_
    refine g_iload_n (q := 11) B dX3_isMember_10 rfl rfl ?_
    refine g_callV (q := 14) (is := [7, 4]) (kc2 := 0) (ks2 := 0) B [.int u] (ct_X3_isEpoch g J (m := m) (ls := ls) (lb := lb) (lk := lk) (lp := lp) (lr := lr) (le := le) (lm := lm) (lo := lo) (th := (dTh D)) (z := (dZz D)) (bo := (dBn D)) (cm := (dCm D)) (Es := (dEs D)) (ecap := ecap) (v := u) hv5 (by omega)) dX3_isMember_11 rfl (rc_at B (ci := 12) rfl (k := 7) rfl) rfl q3358 q3360 qs60 q85 q3361 rfl rfl moX3_isEpoch rfl rfl (by decide) (by decide) (Nat.le_of_ble_eq_true rfl) (Nat.le_of_ble_eq_true rfl) (Nat.le_of_ble_eq_true rfl) (fun _ _ hx => noX_x hx) (fun v11 L1 hp11 => ?_)
    obtain ⟨rfl, rfl⟩ := hp11
    refine (show Go g κ 14 [some (.ref m), some (.int v), some (.int u)] [.int (nI (if inR u (dEs D).length = true then 1 else 0)), .ref m] [v0, v1, v2, v4, v6, v7, v3, [(m, .inr (12, [.ref ls, .ref lb, .ref lk, .ref lp, .ref lr, .ref le, .ref lm, .ref lo, .int (nI (dTh D)), .int (dZz D), .int (nI (dBn D)), .int (nI (dCm D))]))], v5] 0 0 from ?_)
    refine g_if_eq (tgt := 21) (q := 17) B dX3_isMember_14 rfl (by decide) (bo_eq) (fun c14 => ?_) (fun c14 => ?_)
    · skip
      refine g_iconst (v := nI 1) (q := 22) B dX3_isMember_21 rfl (by decide) ?_
      refine g_callV (q := 25) (is := [7]) (kc2 := 0) (ks2 := 0) B [.int (nI 1)] (ct_X3_isWrong g J (m := m) (ls := ls) (lb := lb) (lk := lk) (lp := lp) (lr := lr) (le := le) (lm := lm) (lo := lo) (th := (dTh D)) (z := (dZz D)) (bo := (dBn D)) (cm := (dCm D)) (k := 1)  (by decide)) dX3_isMember_22 rfl (rc_at B (ci := 12) rfl (k := 7) rfl) rfl q3103 q3105 qs49 q85 q3106 rfl rfl moX3_isWrong rfl rfl (by decide) (by decide) (Nat.le_of_ble_eq_true rfl) (Nat.le_of_ble_eq_true rfl) (Nat.le_of_ble_eq_true rfl) (fun _ _ hx => noX_x hx) (fun v22 L1 hp22 => ?_)
      obtain ⟨rfl, rfl⟩ := hp22
      refine (show Go g κ 25 [some (.ref m), some (.int v), some (.int u)] [.int (nI (if ¬ 1 = 0 then 1 else 0))] [v0, v1, v2, v4, v6, v7, v3, v5, [(m, .inr (12, [.ref ls, .ref lb, .ref lk, .ref lp, .ref lr, .ref le, .ref lm, .ref lo, .int (nI 1), .int (dZz D), .int (nI (dBn D)), .int (nI (dCm D))]))]] 0 0 from ?_)
      refine g_if_ne (tgt := 51) (q := 28) B dX3_isMember_25 rfl (by decide) (iff_true_intro (by decide)) (fun _ => ?_) (fun z => absurd trivial z)
      refine g_iconst (v := nI 0) (q := 52) B dX3_isMember_51 rfl (by decide) ?_
      obtain ⟨wc_2, ewc_2⟩ : ∃ w : va_W, w = ([[(m, .inr (12, [.ref ls, .ref lb, .ref lk, .ref lp, .ref lr, .ref le, .ref lm, .ref lo, .int (nI 1), .int (dZz D), .int (nI (dBn D)), .int (nI (dCm D))]))], v0, v1, v2, v3, v4, v5, v6, v7] : List va_W).flatten := ⟨_, rfl⟩
      have hwc_2 : KdP g m (dT D 1) wc_2 := by
        rw [ewc_2]
        exact ⟨ls, lb, lk, lp, lr, le, lm, lo, kcap, pcap, rcap, ecap, mcap, mks, mps, _, _, _, _, _, _, _, _, hcap, hv0, hv1, hv2, hv3, hv4, hv5, hv6, hv7, rfl⟩
      refine g_close (w := wc_2) [8, 0, 0, 0, 3, 0, 2, 0, 0] rfl ewc_2 rfl ?_
      refine (show Go g κ 52 [some (.ref m), some (.int v), some (.int u)] [.int (nI 0)] [wc_2] 0 0 from ?_)
      exact g_zret B E dX3_isMember_52 (by decide) (⟨1, false, _, rfl, rfl, hwc_2, Or.inl ⟨rfl, by rintro ⟨z1, z2⟩; first | exact c6 z1 | exact c14 z2⟩⟩)
    · skip
      have c14 := Classical.not_not.mp c14
      refine g_iconst (v := nI 0) (q := 18) B dX3_isMember_17 rfl (by decide) ?_
      refine g_goto (tgt := 22) B dX3_isMember_18 (by decide) ?_
      refine g_callV (q := 25) (is := [7]) (kc2 := 0) (ks2 := 0) B [.int (nI 0)] (ct_X3_isWrong g J (m := m) (ls := ls) (lb := lb) (lk := lk) (lp := lp) (lr := lr) (le := le) (lm := lm) (lo := lo) (th := (dTh D)) (z := (dZz D)) (bo := (dBn D)) (cm := (dCm D)) (k := 0)  (by decide)) dX3_isMember_22 rfl (rc_at B (ci := 12) rfl (k := 7) rfl) rfl q3103 q3105 qs49 q85 q3106 rfl rfl moX3_isWrong rfl rfl (by decide) (by decide) (Nat.le_of_ble_eq_true rfl) (Nat.le_of_ble_eq_true rfl) (Nat.le_of_ble_eq_true rfl) (fun _ _ hx => noX_x hx) (fun v22 L1 hp22 => ?_)
      obtain ⟨rfl, rfl⟩ := hp22
      refine (show Go g κ 25 [some (.ref m), some (.int v), some (.int u)] [.int (nI (if ¬ 0 = 0 then 1 else 0))] [v0, v1, v2, v4, v6, v7, v3, v5, [(m, .inr (12, [.ref ls, .ref lb, .ref lk, .ref lp, .ref lr, .ref le, .ref lm, .ref lo, .int (nI 0), .int (dZz D), .int (nI (dBn D)), .int (nI (dCm D))]))]] 0 0 from ?_)
      refine g_if_ne (tgt := 51) (q := 28) B dX3_isMember_25 rfl (by decide) (iff_false_intro (by decide)) (fun z => z.elim) (fun _ => ?_)
      obtain ⟨i, hii, rfl⟩ := inR_t c6
      refine (show Go g κ 28 [some (.ref m), some (.int (nI i)), some (.int u)] [] [v0, v1, v2, v4, v6, v7, v3, v5, [(m, .inr (12, [.ref ls, .ref lb, .ref lk, .ref lp, .ref lr, .ref le, .ref lm, .ref lo, .int (nI 0), .int (dZz D), .int (nI (dBn D)), .int (nI (dCm D))]))]] 0 0 from ?_)
      obtain ⟨j, hij, rfl⟩ := inR_t c14
      refine (show Go g κ 28 [some (.ref m), some (.int (nI i)), some (.int (nI j))] [] [v0, v1, v2, v4, v6, v7, v3, v5, [(m, .inr (12, [.ref ls, .ref lb, .ref lk, .ref lp, .ref lr, .ref le, .ref lm, .ref lo, .int (nI 0), .int (dZz D), .int (nI (dBn D)), .int (nI (dCm D))]))]] 0 0 from ?_)
      refine g_aload_n (q := 29) B dX3_isMember_28 rfl rfl (rv_r _) ?_
      refine g_iload_n (q := 30) B dX3_isMember_29 rfl rfl ?_
      refine g_aload_n (q := 31) B dX3_isMember_30 rfl rfl (rv_r _) ?_
      refine g_get (q := 34) B (ci := 12) (k := 8) (j := 5) in_X3 rfl dX3_isMember_31 rfl rfl (Nat.le_of_ble_eq_true rfl) q3062 rfl rfl ?_
      refine g_iload_n (q := 35) B dX3_isMember_34 rfl rfl ?_
      obtain ⟨ps_3, md_3, hli_3, hln_3, hel_3⟩ := LhP.at (Sub.self hv5)
      obtain ⟨r35, hr35⟩ := get_ex (xs := (dEs D)) (i := j) (by omega)
      obtain ⟨x35, hx35⟩ := get_ex (xs := ps_3) (i := j) (by have := get_lt2 hr35; have := hln_3.1; omega)
      have hE_4 := hel_3 _ _ _ hx35 hr35
      refine g_callV (q := 38) (is := [7]) (kc2 := 0) (ks2 := 0) B [.int (nI j)] (ct_J2_get_s g J (p := le) (xs := ps_3) (md := md_3) (cap := ecap) (i := j) (x := x35) (W0 := v5)  (hli_3) (hx35)) dX3_isMember_35 rfl (rc_in B (ci := 21) rfl (k := 7) rfl (LhP.hm hv5)) rfl q3231 q1095 q3667 q81 q1097 rfl rfl moJ2_get rfl rfl (by decide) (by decide) (Nat.le_of_ble_eq_true rfl) (Nat.le_of_ble_eq_true rfl) (Nat.le_of_ble_eq_true rfl) (fun _ _ hx => noX_x hx) (fun v35 L1 hp35 => ?_)
      obtain ⟨rfl, rfl⟩ := hp35
      refine (show Go g κ 38 [some (.ref m), some (.int (nI i)), some (.int (nI j))] [.ref x35, .int (nI i), .ref m] [v0, v1, v2, v4, v6, v7, v3, [(m, .inr (12, [.ref ls, .ref lb, .ref lk, .ref lp, .ref lr, .ref le, .ref lm, .ref lo, .int (nI 0), .int (dZz D), .int (nI (dBn D)), .int (nI (dCm D))]))], v5] 0 0 from ?_)
      refine g_castRS (ci := 16) (q := 41) B rfl (rc_in B (ci := 16) rfl (k := 8) rfl (Sub.hm (hE_4) fun _ z => EpP.hm z)) dX3_isMember_38 rfl q3243 ?_
      have hEm := List.mem_of_getElem? hr35
      refine g_callV (q := 44) (is := [7, 7]) (kc2 := 0) (ks2 := 0) B [.int (nI i), .ref x35] (ct_X3_isIn g J (m := m) (ls := ls) (lb := lb) (lk := lk) (lp := lp) (lr := lr) (le := le) (lm := lm) (lo := lo) (th := 0) (z := (dZz D)) (bo := (dBn D)) (cm := (dCm D)) (p := i) (e := x35) (Ep := r35) (we := v5)  (hE_4) (by first | assumption | omega | rfl) (h16 _ hEm)) dX3_isMember_41 rfl (rc_at B (ci := 12) rfl (k := 7) rfl) rfl q3362 q3364 qs61 q85 q3365 rfl rfl moX3_isIn rfl rfl (by decide) (by decide) (Nat.le_of_ble_eq_true rfl) (Nat.le_of_ble_eq_true rfl) (Nat.le_of_ble_eq_true rfl) (fun _ _ hx => noX_x hx) (fun v41 L1 hp41 => ?_)
      obtain ⟨rfl, rfl⟩ := hp41
      refine (show Go g κ 44 [some (.ref m), some (.int (nI i)), some (.int (nI j))] [.int (nI (if ¬ lof (eTr r35) i = none then 1 else 0))] [v0, v1, v2, v4, v6, v7, v3, [(m, .inr (12, [.ref ls, .ref lb, .ref lk, .ref lp, .ref lr, .ref le, .ref lm, .ref lo, .int (nI 0), .int (dZz D), .int (nI (dBn D)), .int (nI (dCm D))]))], v5] 0 0 from ?_)
      refine g_if_eq (tgt := 51) (q := 47) B dX3_isMember_44 rfl (by decide) (bo_eq) (fun c44 => ?_) (fun c44 => ?_)
      · skip
        refine g_iconst (v := nI 0) (q := 52) B dX3_isMember_51 rfl (by decide) ?_
        obtain ⟨wc_5, ewc_5⟩ : ∃ w : va_W, w = ([[(m, .inr (12, [.ref ls, .ref lb, .ref lk, .ref lp, .ref lr, .ref le, .ref lm, .ref lo, .int (nI 0), .int (dZz D), .int (nI (dBn D)), .int (nI (dCm D))]))], v0, v1, v2, v3, v4, v5, v6, v7] : List va_W).flatten := ⟨_, rfl⟩
        have hwc_5 : KdP g m (dT D 0) wc_5 := by
          rw [ewc_5]
          exact ⟨ls, lb, lk, lp, lr, le, lm, lo, kcap, pcap, rcap, ecap, mcap, mks, mps, _, _, _, _, _, _, _, _, hcap, hv0, hv1, hv2, hv3, hv4, hv5, hv6, hv7, rfl⟩
        refine g_close (w := wc_5) [7, 0, 0, 0, 3, 0, 2, 0, 0] rfl ewc_5 rfl ?_
        refine (show Go g κ 52 [some (.ref m), some (.int (nI i)), some (.int (nI j))] [.int (nI 0)] [wc_5] 0 0 from ?_)
        exact g_zret B E dX3_isMember_52 (by decide) (⟨0, false, _, rfl, rfl, hwc_5, Or.inr ⟨rfl, i, j, r35, rfl, hii, rfl, hr35, ⟨(fun z => by cases z), fun z => absurd z c44⟩⟩⟩)
      · skip
        have c44 := Classical.not_not.mp c44
        refine g_iconst (v := nI 1) (q := 48) B dX3_isMember_47 rfl (by decide) ?_
        refine g_goto (tgt := 52) B dX3_isMember_48 (by decide) ?_
        obtain ⟨wc_6, ewc_6⟩ : ∃ w : va_W, w = ([[(m, .inr (12, [.ref ls, .ref lb, .ref lk, .ref lp, .ref lr, .ref le, .ref lm, .ref lo, .int (nI 0), .int (dZz D), .int (nI (dBn D)), .int (nI (dCm D))]))], v0, v1, v2, v3, v4, v5, v6, v7] : List va_W).flatten := ⟨_, rfl⟩
        have hwc_6 : KdP g m (dT D 0) wc_6 := by
          rw [ewc_6]
          exact ⟨ls, lb, lk, lp, lr, le, lm, lo, kcap, pcap, rcap, ecap, mcap, mks, mps, _, _, _, _, _, _, _, _, hcap, hv0, hv1, hv2, hv3, hv4, hv5, hv6, hv7, rfl⟩
        refine g_close (w := wc_6) [7, 0, 0, 0, 3, 0, 2, 0, 0] rfl ewc_6 rfl ?_
        refine (show Go g κ 52 [some (.ref m), some (.int (nI i)), some (.int (nI j))] [.int (nI 1)] [wc_6] 0 0 from ?_)
        exact g_zret B E dX3_isMember_52 (by decide) (⟨0, true, _, rfl, rfl, hwc_6, Or.inr ⟨rfl, i, j, r35, rfl, hii, rfl, hr35, ⟨fun _ => c44, fun _ => rfl⟩⟩⟩)
theorem nar200 : ∀ k, k < 200 → narrow .char (.int (nI k)) = .int (nI k) := by decide +kernel
theorem ct_X3_proposal (g : Gv) (J : Jd g) {m : Nat} {D : MdS} {v : Int32} {w0 : va_W} (hw0 : KdP g m D w0) (hD : MdB D) (hch : ∀ q ∈ dRs D, q.1 < 200) : Ct g yX3_proposal (ws_ yX3_proposal cX3_proposal 2 (some .char)) 4 0 0 [.ref m, .int v] [w0] (fun (rv_ : Option Value) (rL_ : List va_W) => ∃ (k : Nat) (x : Int32) (u0 : va_W), rv_ = some (.int x) ∧ rL_ = [u0] ∧ KdP g m (dT D k) u0 ∧ ((k = 1 ∧ ¬ inR v (dRs D).length = true) ∨ (k = 0 ∧ ∃ (i : Nat) (r : MrS), v = nI i ∧ (dRs D)[i]? = some r ∧ x = nI r.1))) noX := by
  refine Ct.of "KeygroveModel" [some (.ref m), some (.int v)] rfl (by decide) rfl (Nat.le_of_ble_eq_true rfl) rfl ?_
  intro κ B E tb
  have hD0 := hD
  obtain ⟨hd1, hd2, hd3, hd4, hd5, hd6, hd7, hd8, hd9⟩ := hD0
  obtain ⟨ls, lb, lk, lp, lr, le, lm, lo, kcap, pcap, rcap, ecap, mcap, mks, mps, v0, v1, v2, v3, v4, v5, v6, v7, hcap, hv0, hv1, hv2, hv3, hv4, hv5, hv6, hv7, rfl⟩ := hw0
  refine g_open 0 rfl rfl rfl ?_
  refine (show Go g κ 0 [some (.ref m), some (.int v)] [] [[(m, .inr (12, [.ref ls, .ref lb, .ref lk, .ref lp, .ref lr, .ref le, .ref lm, .ref lo, .int (nI (dTh D)), .int (dZz D), .int (nI (dBn D)), .int (nI (dCm D))]))], v0, v1, v2, v3, v4, v5, v6, v7] 0 0 from ?_)
  obtain ⟨kc1, kc2, kc3, kc4, kc5⟩ := (show capM kcap pcap rcap ecap mcap from hcap)
  refine g_aload_n (q := 1) B dX3_proposal_0 rfl rfl (rv_r _) ?_
  refine g_iload_n (q := 2) B dX3_proposal_1 rfl rfl ?_
  refine g_iconst (v := nI 0) (q := 3) B dX3_proposal_2 rfl (by decide) ?_
  refine g_aload_n (q := 4) B dX3_proposal_3 rfl rfl (rv_r _) ?_
  refine g_get (q := 7) B (ci := 12) (k := 0) (j := 4) in_X3 rfl dX3_proposal_4 rfl rfl (Nat.le_of_ble_eq_true rfl) q3061 rfl rfl ?_
  obtain ⟨ps_1, md_1, hli_1, hln_1, hel_1⟩ := LhP.at (Sub.self hv4)
  refine g_callV (q := 10) (is := [5]) (kc2 := 0) (ks2 := 0) B [] (ct_J2_size_s g J (p := lr) (xs := ps_1) (md := md_1) (cap := rcap) (W0 := v4)  (hli_1)) dX3_proposal_7 rfl (rc_in B (ci := 21) rfl (k := 5) rfl (LhP.hm hv4)) rfl q3102 q321 q3665 q81 q323 rfl rfl moJ2_size rfl rfl (by decide) (by decide) (Nat.le_of_ble_eq_true rfl) (Nat.le_of_ble_eq_true rfl) (Nat.le_of_ble_eq_true rfl) (fun _ _ hx => noX_x hx) (fun v7 L1 hp7 => ?_)
  obtain ⟨rfl, rfl⟩ := hp7
  refine (show Go g κ 10 [some (.ref m), some (.int v)] [.int (nI ps_1.length), .int (nI 0), .int v, .ref m] [[(m, .inr (12, [.ref ls, .ref lb, .ref lk, .ref lp, .ref lr, .ref le, .ref lm, .ref lo, .int (nI (dTh D)), .int (dZz D), .int (nI (dBn D)), .int (nI (dCm D))]))], v0, v1, v2, v3, v5, v6, v7, v4] 0 0 from ?_)
  rw [hln_1.1]
  refine (show Go g κ 10 [some (.ref m), some (.int v)] [.int (nI ((dRs D).length)), .int (nI 0), .int v, .ref m] [[(m, .inr (12, [.ref ls, .ref lb, .ref lk, .ref lp, .ref lr, .ref le, .ref lm, .ref lo, .int (nI (dTh D)), .int (dZz D), .int (nI (dBn D)), .int (nI (dCm D))]))], v0, v1, v2, v3, v5, v6, v7, v4] 0 0 from ?_)
  refine g_iconst (v := nI 1) (q := 11) B dX3_proposal_10 rfl (by decide) ?_
  refine g_isub (v := nI (dRs D).length - nI 1) (q := 12) B dX3_proposal_11 rfl rfl ?_
  refine g_callS (q := 15) (is := []) (kc2 := 0) (ks2 := 0) B [.int v, .int (nI 0), .int (nI (dRs D).length - nI 1)] (ct_X3_isBetween g J (v := v) (n := (dRs D).length)  (by omega)) dX3_proposal_12 rfl q3157 q3158 q85 q3159 rfl rfl moX3_isBetween rfl rfl (by decide) (by decide) (Nat.le_of_ble_eq_true rfl) (Nat.le_of_ble_eq_true rfl) (Nat.le_of_ble_eq_true rfl) (fun _ _ hx => noX_x hx) (fun v12 L1 hp12 => ?_)
  obtain ⟨rfl, rfl⟩ := hp12
  refine (show Go g κ 15 [some (.ref m), some (.int v)] [.int (nI (if inR v ((dRs D).length) = true then 1 else 0)), .ref m] [[(m, .inr (12, [.ref ls, .ref lb, .ref lk, .ref lp, .ref lr, .ref le, .ref lm, .ref lo, .int (nI (dTh D)), .int (dZz D), .int (nI (dBn D)), .int (nI (dCm D))]))], v0, v1, v2, v3, v5, v6, v7, v4] 0 0 from ?_)
  refine g_if_eq (tgt := 22) (q := 18) B dX3_proposal_15 rfl (by decide) (bo_eq) (fun c15 => ?_) (fun c15 => ?_)
  · skip
    refine g_iconst (v := nI 1) (q := 23) B dX3_proposal_22 rfl (by decide) ?_
    refine g_callV (q := 26) (is := [0]) (kc2 := 0) (ks2 := 0) B [.int (nI 1)] (ct_X3_isWrong g J (m := m) (ls := ls) (lb := lb) (lk := lk) (lp := lp) (lr := lr) (le := le) (lm := lm) (lo := lo) (th := dTh D) (z := dZz D) (bo := dBn D) (cm := dCm D) (k := 1)  (by decide)) dX3_proposal_23 rfl (rc_at B (ci := 12) rfl (k := 0) rfl) rfl q3103 q3105 qs49 q85 q3106 rfl rfl moX3_isWrong rfl rfl (by decide) (by decide) (Nat.le_of_ble_eq_true rfl) (Nat.le_of_ble_eq_true rfl) (Nat.le_of_ble_eq_true rfl) (fun _ _ hx => noX_x hx) (fun v23 L1 hp23 => ?_)
    obtain ⟨rfl, rfl⟩ := hp23
    refine (show Go g κ 26 [some (.ref m), some (.int v)] [.int (nI (if ¬ 1 = 0 then 1 else 0))] [v0, v1, v2, v3, v5, v6, v7, v4, [(m, .inr (12, [.ref ls, .ref lb, .ref lk, .ref lp, .ref lr, .ref le, .ref lm, .ref lo, .int (nI 1), .int (dZz D), .int (nI (dBn D)), .int (nI (dCm D))]))]] 0 0 from ?_)
    refine g_if_eq (tgt := 33) (q := 29) B dX3_proposal_26 rfl (by decide) (iff_false_intro (by decide)) (fun z => z.elim) (fun _ => ?_)
    refine g_iconst (v := nI 0) (q := 30) B dX3_proposal_29 rfl (by decide) ?_
    refine g_goto (tgt := 47) B dX3_proposal_30 (by decide) ?_
    obtain ⟨wc_2, ewc_2⟩ : ∃ w : va_W, w = ([[(m, .inr (12, [.ref ls, .ref lb, .ref lk, .ref lp, .ref lr, .ref le, .ref lm, .ref lo, .int (nI 1), .int (dZz D), .int (nI (dBn D)), .int (nI (dCm D))]))], v0, v1, v2, v3, v4, v5, v6, v7] : List va_W).flatten := ⟨_, rfl⟩
    have hwc_2 : KdP g m (dT D 1) wc_2 := by
      rw [ewc_2]
      exact ⟨ls, lb, lk, lp, lr, le, lm, lo, kcap, pcap, rcap, ecap, mcap, mks, mps, _, _, _, _, _, _, _, _, hcap, hv0, hv1, hv2, hv3, hv4, hv5, hv6, hv7, rfl⟩
    refine g_close (w := wc_2) [8, 0, 0, 0, 0, 3, 0, 0, 0] rfl ewc_2 rfl ?_
    refine (show Go g κ 47 [some (.ref m), some (.int v)] [.int (nI 0)] [wc_2] 0 0 from ?_)
    exact g_zret B E dX3_proposal_47 (by first | decide | exact nar200 _ (hch _ (List.mem_of_getElem? hr38))) (⟨1, nI 0, _, rfl, rfl, hwc_2, Or.inl ⟨rfl, c15⟩⟩)
  · skip
    have c15 := Classical.not_not.mp c15
    refine g_iconst (v := nI 0) (q := 19) B dX3_proposal_18 rfl (by decide) ?_
    refine g_goto (tgt := 23) B dX3_proposal_19 (by decide) ?_
    refine g_callV (q := 26) (is := [0]) (kc2 := 0) (ks2 := 0) B [.int (nI 0)] (ct_X3_isWrong g J (m := m) (ls := ls) (lb := lb) (lk := lk) (lp := lp) (lr := lr) (le := le) (lm := lm) (lo := lo) (th := dTh D) (z := dZz D) (bo := dBn D) (cm := dCm D) (k := 0)  (by decide)) dX3_proposal_23 rfl (rc_at B (ci := 12) rfl (k := 0) rfl) rfl q3103 q3105 qs49 q85 q3106 rfl rfl moX3_isWrong rfl rfl (by decide) (by decide) (Nat.le_of_ble_eq_true rfl) (Nat.le_of_ble_eq_true rfl) (Nat.le_of_ble_eq_true rfl) (fun _ _ hx => noX_x hx) (fun v23 L1 hp23 => ?_)
    obtain ⟨rfl, rfl⟩ := hp23
    refine (show Go g κ 26 [some (.ref m), some (.int v)] [.int (nI (if ¬ 0 = 0 then 1 else 0))] [v0, v1, v2, v3, v5, v6, v7, v4, [(m, .inr (12, [.ref ls, .ref lb, .ref lk, .ref lp, .ref lr, .ref le, .ref lm, .ref lo, .int (nI 0), .int (dZz D), .int (nI (dBn D)), .int (nI (dCm D))]))]] 0 0 from ?_)
    refine g_if_eq (tgt := 33) (q := 29) B dX3_proposal_26 rfl (by decide) (iff_true_intro (by decide)) (fun _ => ?_) (fun z => absurd trivial z)
    obtain ⟨i, hii, rfl⟩ := inR_t c15
    refine (show Go g κ 33 [some (.ref m), some (.int (nI i))] [] [v0, v1, v2, v3, v5, v6, v7, v4, [(m, .inr (12, [.ref ls, .ref lb, .ref lk, .ref lp, .ref lr, .ref le, .ref lm, .ref lo, .int (nI 0), .int (dZz D), .int (nI (dBn D)), .int (nI (dCm D))]))]] 0 0 from ?_)
    refine g_aload_n (q := 34) B dX3_proposal_33 rfl rfl (rv_r _) ?_
    refine g_get (q := 37) B (ci := 12) (k := 8) (j := 4) in_X3 rfl dX3_proposal_34 rfl rfl (Nat.le_of_ble_eq_true rfl) q3061 rfl rfl ?_
    refine g_iload_n (q := 38) B dX3_proposal_37 rfl rfl ?_
    obtain ⟨r38, hr38⟩ := get_ex (xs := (dRs D)) (i := i) (by omega)
    obtain ⟨x38, hx38⟩ := get_ex (xs := ps_1) (i := i) (by have := get_lt2 hr38; have := hln_1.1; omega)
    have hE_3 := hel_1 _ _ _ hx38 hr38
    refine g_callV (q := 41) (is := [7]) (kc2 := 0) (ks2 := 0) B [.int (nI i)] (ct_J2_get_s g J (p := lr) (xs := ps_1) (md := md_1) (cap := rcap) (i := i) (x := x38) (W0 := v4)  (hli_1) (hx38)) dX3_proposal_38 rfl (rc_in B (ci := 21) rfl (k := 7) rfl (LhP.hm hv4)) rfl q3231 q1095 q3667 q81 q1097 rfl rfl moJ2_get rfl rfl (by decide) (by decide) (Nat.le_of_ble_eq_true rfl) (Nat.le_of_ble_eq_true rfl) (Nat.le_of_ble_eq_true rfl) (fun _ _ hx => noX_x hx) (fun v38 L1 hp38 => ?_)
    obtain ⟨rfl, rfl⟩ := hp38
    refine (show Go g κ 41 [some (.ref m), some (.int (nI i))] [.ref x38] [v0, v1, v2, v3, v5, v6, v7, [(m, .inr (12, [.ref ls, .ref lb, .ref lk, .ref lp, .ref lr, .ref le, .ref lm, .ref lo, .int (nI 0), .int (dZz D), .int (nI (dBn D)), .int (nI (dCm D))]))], v4] 0 0 from ?_)
    refine g_castRS (ci := 18) (q := 44) B rfl (rc_in B (ci := 18) rfl (k := 8) rfl (Sub.hm (hE_3) fun _ z => MrP.hm z)) dX3_proposal_41 rfl q3382 ?_
    have hc_4_0 := MrP.at (hE_3)
    refine g_getNM (q := 47) B (ci := 18) (k := 8) (j := 0) in_X17 rfl dX3_proposal_44 rfl rfl (hc_4_0) (Nat.le_of_ble_eq_true rfl) q3393 rfl rfl ?_
    obtain ⟨wc_5, ewc_5⟩ : ∃ w : va_W, w = ([[(m, .inr (12, [.ref ls, .ref lb, .ref lk, .ref lp, .ref lr, .ref le, .ref lm, .ref lo, .int (nI 0), .int (dZz D), .int (nI (dBn D)), .int (nI (dCm D))]))], v0, v1, v2, v3, v4, v5, v6, v7] : List va_W).flatten := ⟨_, rfl⟩
    have hwc_5 : KdP g m (dT D 0) wc_5 := by
      rw [ewc_5]
      exact ⟨ls, lb, lk, lp, lr, le, lm, lo, kcap, pcap, rcap, ecap, mcap, mks, mps, _, _, _, _, _, _, _, _, hcap, hv0, hv1, hv2, hv3, hv4, hv5, hv6, hv7, rfl⟩
    refine g_close (w := wc_5) [7, 0, 0, 0, 0, 3, 0, 0, 0] rfl ewc_5 rfl ?_
    refine (show Go g κ 47 [some (.ref m), some (.int (nI i))] [.int (nI r38.1)] [wc_5] 0 0 from ?_)
    exact g_zret B E dX3_proposal_47 (by first | decide | exact nar200 _ (hch _ (List.mem_of_getElem? hr38))) (⟨0, nI r38.1, _, rfl, rfl, hwc_5, Or.inr ⟨rfl, i, r38, rfl, hr38, rfl⟩⟩)
theorem ct_X3_leaves (g : Gv) (J : Jd g) {m : Nat} {D : MdS} {Ep : MeS} {w0 : va_W} (hw0 : KdP g m D w0) (hD : MdB D) (hT : dEs D ≠ [] → (dEs D)[(dEs D).length - 1]? = some Ep) : Ct g yX3_leaves (ws_ yX3_leaves cX3_leaves 1 (some .int)) 6 0 0 [.ref m] [w0] (fun (rv_ : Option Value) (rL_ : List va_W) => ∃ (k : Nat) (x : Int32) (u0 : va_W), rv_ = some (.int x) ∧ rL_ = [u0] ∧ KdP g m (dT D k) u0 ∧ ((k = 1 ∧ dEs D = []) ∨ (k = 0 ∧ dEs D ≠ [] ∧ x = nI (2 ^ (eTr Ep).1)))) noX := by
  refine Ct.of "KeygroveModel" [some (.ref m)] rfl (by decide) rfl (Nat.le_of_ble_eq_true rfl) rfl ?_
  intro κ B E tb
  have hD0 := hD
  obtain ⟨hd1, hd2, hd3, hd4, hd5, hd6, hd7, hd8, hd9⟩ := hD0
  obtain ⟨ls, lb, lk, lp, lr, le, lm, lo, kcap, pcap, rcap, ecap, mcap, mks, mps, v0, v1, v2, v3, v4, v5, v6, v7, hcap, hv0, hv1, hv2, hv3, hv4, hv5, hv6, hv7, rfl⟩ := hw0
  refine g_open 0 rfl rfl rfl ?_
  refine (show Go g κ 0 [some (.ref m)] [] [[(m, .inr (12, [.ref ls, .ref lb, .ref lk, .ref lp, .ref lr, .ref le, .ref lm, .ref lo, .int (nI (dTh D)), .int (dZz D), .int (nI (dBn D)), .int (nI (dCm D))]))], v0, v1, v2, v3, v4, v5, v6, v7] 0 0 from ?_)
  obtain ⟨kc1, kc2, kc3, kc4, kc5⟩ := (show capM kcap pcap rcap ecap mcap from hcap)
  refine g_aload_n (q := 1) B dX3_leaves_0 rfl rfl (rv_r _) ?_
  refine g_aload_n (q := 2) B dX3_leaves_1 rfl rfl (rv_r _) ?_
  refine g_get (q := 5) B (ci := 12) (k := 0) (j := 5) in_X3 rfl dX3_leaves_2 rfl rfl (Nat.le_of_ble_eq_true rfl) q3062 rfl rfl ?_
  obtain ⟨ps_1, md_1, hli_1, hln_1, hel_1⟩ := LhP.at (Sub.self hv5)
  refine g_callV (q := 8) (is := [6]) (kc2 := 0) (ks2 := 0) B [] (ct_J2_isEmpty_s g J (p := le) (xs := ps_1) (md := md_1) (cap := ecap) (W0 := v5)  (hli_1)) dX3_leaves_5 rfl (rc_in B (ci := 21) rfl (k := 6) rfl (LhP.hm hv5)) rfl q3248 q1130 q3669 q81 q1132 rfl rfl moJ2_isEmpty rfl rfl (by decide) (by decide) (Nat.le_of_ble_eq_true rfl) (Nat.le_of_ble_eq_true rfl) (Nat.le_of_ble_eq_true rfl) (fun _ _ hx => noX_x hx) (fun v5 L1 hp5 => ?_)
  obtain ⟨rfl, rfl⟩ := hp5
  refine (show Go g κ 8 [some (.ref m)] [.int (nI (if ps_1.length = 0 then 1 else 0)), .ref m] [[(m, .inr (12, [.ref ls, .ref lb, .ref lk, .ref lp, .ref lr, .ref le, .ref lm, .ref lo, .int (nI (dTh D)), .int (dZz D), .int (nI (dBn D)), .int (nI (dCm D))]))], v0, v1, v2, v3, v4, v6, v7, v5] 0 0 from ?_)
  rw [hln_1.1]
  refine (show Go g κ 8 [some (.ref m)] [.int (nI (if (dEs D).length = 0 then 1 else 0)), .ref m] [[(m, .inr (12, [.ref ls, .ref lb, .ref lk, .ref lp, .ref lr, .ref le, .ref lm, .ref lo, .int (nI (dTh D)), .int (dZz D), .int (nI (dBn D)), .int (nI (dCm D))]))], v0, v1, v2, v3, v4, v6, v7, v5] 0 0 from ?_)
  refine g_if_eq (tgt := 15) (q := 11) B dX3_leaves_8 rfl (by decide) (bo_eq) (fun c8 => ?_) (fun c8 => ?_)
  · skip
    refine g_iconst (v := nI 0) (q := 16) B dX3_leaves_15 rfl (by decide) ?_
    refine g_callV (q := 19) (is := [0]) (kc2 := 0) (ks2 := 0) B [.int (nI 0)] (ct_X3_isWrong g J (m := m) (ls := ls) (lb := lb) (lk := lk) (lp := lp) (lr := lr) (le := le) (lm := lm) (lo := lo) (th := dTh D) (z := dZz D) (bo := dBn D) (cm := dCm D) (k := 0)  (by decide)) dX3_leaves_16 rfl (rc_at B (ci := 12) rfl (k := 0) rfl) rfl q3103 q3105 qs49 q85 q3106 rfl rfl moX3_isWrong rfl rfl (by decide) (by decide) (Nat.le_of_ble_eq_true rfl) (Nat.le_of_ble_eq_true rfl) (Nat.le_of_ble_eq_true rfl) (fun _ _ hx => noX_x hx) (fun v16 L1 hp16 => ?_)
    obtain ⟨rfl, rfl⟩ := hp16
    refine (show Go g κ 19 [some (.ref m)] [.int (nI (if ¬ 0 = 0 then 1 else 0))] [v0, v1, v2, v3, v4, v6, v7, v5, [(m, .inr (12, [.ref ls, .ref lb, .ref lk, .ref lp, .ref lr, .ref le, .ref lm, .ref lo, .int (nI 0), .int (dZz D), .int (nI (dBn D)), .int (nI (dCm D))]))]] 0 0 from ?_)
    refine g_if_eq (tgt := 26) (q := 22) B dX3_leaves_19 rfl (by decide) (iff_true_intro (by decide)) (fun _ => ?_) (fun z => absurd trivial z)
    have hne : dEs D ≠ [] := fun z => c8 (by rw [z]; rfl)
    refine g_aload_n (q := 27) B dX3_leaves_26 rfl rfl (rv_r _) ?_
    refine g_callV (q := 30) (is := [8, 7]) (kc2 := 0) (ks2 := 0) B [] (ct_X3_newest g J (m := m) (ls := ls) (lb := lb) (lk := lk) (lp := lp) (lr := lr) (le := le) (lm := lm) (lo := lo) (th := 0) (z := (dZz D)) (bo := (dBn D)) (cm := (dCm D)) (Es := (dEs D)) (ecap := ecap) (Ep := Ep) hv5 (hT hne) (by omega)) dX3_leaves_27 rfl (rc_at B (ci := 12) rfl (k := 8) rfl) rfl q3374 q3376 qs63 q85 q3377 rfl rfl moX3_newest rfl rfl (by decide) (by decide) (Nat.le_of_ble_eq_true rfl) (Nat.le_of_ble_eq_true rfl) (Nat.le_of_ble_eq_true rfl) (fun _ _ hx => noX_x hx) (fun v27 L1 hp27 => ?_)
    obtain ⟨e27, rfl, rfl, hE_27⟩ := hp27
    refine (show Go g κ 30 [some (.ref m)] [.ref e27] [v0, v1, v2, v3, v4, v6, v7, [(m, .inr (12, [.ref ls, .ref lb, .ref lk, .ref lp, .ref lr, .ref le, .ref lm, .ref lo, .int (nI 0), .int (dZz D), .int (nI (dBn D)), .int (nI (dCm D))]))], v5] 0 0 from ?_)
    have hEB27 := EpP.b2 hE_27
    have hTB27 := hEB27.2.1
    have hp227 := p2_4 hTB27.1
    obtain ⟨ap_2, an_2, al_2, ac_2, aw_2, am_2, ak_2, fp_2, fn_2, fl_2, fc_2, fw_2, fm_2, fk_2, hE_2, hfp_2, hfn_2, hfl_2, hfc_2, hfw_2, hfm_2, hfk_2, hc_2_0, hc_2_1, hc_2_2, hc_2_3, hc_2_4, hc_2_5, hc_2_6, hc_2_7⟩ := EpP.at (hE_27)
    refine g_getNM (q := 33) B (ci := 16) (k := 8) (j := 1) in_X13 rfl dX3_leaves_30 rfl rfl (hc_2_0) (Nat.le_of_ble_eq_true rfl) q3257 rfl rfl ?_
    obtain ⟨wc_3, ewc_3⟩ : ∃ w : va_W, w = ([[(m, .inr (12, [.ref ls, .ref lb, .ref lk, .ref lp, .ref lr, .ref le, .ref lm, .ref lo, .int (nI 0), .int (dZz D), .int (nI (dBn D)), .int (nI (dCm D))]))], v0, v1, v2, v3, v4, v5, v6, v7] : List va_W).flatten := ⟨_, rfl⟩
    have hwc_3 : KdP g m (dT D 0) wc_3 := by
      rw [ewc_3]
      exact ⟨ls, lb, lk, lp, lr, le, lm, lo, kcap, pcap, rcap, ecap, mcap, mks, mps, _, _, _, _, _, _, _, _, hcap, hv0, hv1, hv2, hv3, hv4, hv5, hv6, hv7, rfl⟩
    refine g_close (w := wc_3) [7, 0, 0, 0, 0, 0, 2, 0, 0] rfl ewc_3 rfl ?_
    refine (show Go g κ 33 [some (.ref m)] [.int (nI (2 ^ (eTr Ep).1))] [wc_3] 0 0 from ?_)
    exact g_iret B E dX3_leaves_33 (⟨0, nI (2 ^ (eTr Ep).1), _, rfl, rfl, hwc_3, Or.inr ⟨rfl, hne, rfl⟩⟩)
  · skip
    have c8 := Classical.not_not.mp c8
    refine g_iconst (v := nI 1) (q := 12) B dX3_leaves_11 rfl (by decide) ?_
    refine g_goto (tgt := 16) B dX3_leaves_12 (by decide) ?_
    refine g_callV (q := 19) (is := [0]) (kc2 := 0) (ks2 := 0) B [.int (nI 1)] (ct_X3_isWrong g J (m := m) (ls := ls) (lb := lb) (lk := lk) (lp := lp) (lr := lr) (le := le) (lm := lm) (lo := lo) (th := dTh D) (z := dZz D) (bo := dBn D) (cm := dCm D) (k := 1)  (by decide)) dX3_leaves_16 rfl (rc_at B (ci := 12) rfl (k := 0) rfl) rfl q3103 q3105 qs49 q85 q3106 rfl rfl moX3_isWrong rfl rfl (by decide) (by decide) (Nat.le_of_ble_eq_true rfl) (Nat.le_of_ble_eq_true rfl) (Nat.le_of_ble_eq_true rfl) (fun _ _ hx => noX_x hx) (fun v16 L1 hp16 => ?_)
    obtain ⟨rfl, rfl⟩ := hp16
    refine (show Go g κ 19 [some (.ref m)] [.int (nI (if ¬ 1 = 0 then 1 else 0))] [v0, v1, v2, v3, v4, v6, v7, v5, [(m, .inr (12, [.ref ls, .ref lb, .ref lk, .ref lp, .ref lr, .ref le, .ref lm, .ref lo, .int (nI 1), .int (dZz D), .int (nI (dBn D)), .int (nI (dCm D))]))]] 0 0 from ?_)
    refine g_if_eq (tgt := 26) (q := 22) B dX3_leaves_19 rfl (by decide) (iff_false_intro (by decide)) (fun z => z.elim) (fun _ => ?_)
    refine g_iconst (v := nI 0) (q := 23) B dX3_leaves_22 rfl (by decide) ?_
    refine g_goto (tgt := 33) B dX3_leaves_23 (by decide) ?_
    obtain ⟨wc_4, ewc_4⟩ : ∃ w : va_W, w = ([[(m, .inr (12, [.ref ls, .ref lb, .ref lk, .ref lp, .ref lr, .ref le, .ref lm, .ref lo, .int (nI 1), .int (dZz D), .int (nI (dBn D)), .int (nI (dCm D))]))], v0, v1, v2, v3, v4, v5, v6, v7] : List va_W).flatten := ⟨_, rfl⟩
    have hwc_4 : KdP g m (dT D 1) wc_4 := by
      rw [ewc_4]
      exact ⟨ls, lb, lk, lp, lr, le, lm, lo, kcap, pcap, rcap, ecap, mcap, mks, mps, _, _, _, _, _, _, _, _, hcap, hv0, hv1, hv2, hv3, hv4, hv5, hv6, hv7, rfl⟩
    refine g_close (w := wc_4) [8, 0, 0, 0, 0, 0, 2, 0, 0] rfl ewc_4 rfl ?_
    refine (show Go g κ 33 [some (.ref m)] [.int (nI 0)] [wc_4] 0 0 from ?_)
    exact g_iret B E dX3_leaves_33 (⟨1, nI 0, _, rfl, rfl, hwc_4, Or.inl ⟨rfl, List.length_eq_zero_iff.mp c8⟩⟩)
theorem moX3_isNoNode : Mo yX3_isNoNode 1 := by
  refine ⟨by decide, by decide, by decide +kernel⟩
theorem ct_X3_isBlank (g : Gv) (J : Jd g) {m : Nat} {D : MdS} {Ep : MeS} {v : Int32} {w0 : va_W} (hw0 : KdP g m D w0) (hD : MdB D) (hT : dEs D ≠ [] → (dEs D)[(dEs D).length - 1]? = some Ep) : Ct g yX3_isBlank (ws_ yX3_isBlank cX3_isBlank 2 (some .boolean)) 7 0 0 [.ref m, .int v] [w0] (fun (rv_ : Option Value) (rL_ : List va_W) => ∃ (k : Nat) (b : Bool) (u0 : va_W), rv_ = some (.int (nI (if b = true then 1 else 0))) ∧ rL_ = [u0] ∧ KdP g m (dT D k) u0 ∧ ((k = 1 ∧ ¬ (dEs D ≠ [] ∧ inR v (2 * 2 ^ (eTr Ep).1 - 1) = true)) ∨ (k = 0 ∧ dEs D ≠ [] ∧ ∃ i : Nat, v = nI i ∧ i < 2 * 2 ^ (eTr Ep).1 - 1 ∧ (b = true ↔ (eTr Ep).2.1 i = none)))) noX := by
  refine Ct.of "KeygroveModel" [some (.ref m), some (.int v)] rfl (by decide) rfl (Nat.le_of_ble_eq_true rfl) rfl ?_
  intro κ B E tb
  have hD0 := hD
  obtain ⟨hd1, hd2, hd3, hd4, hd5, hd6, hd7, hd8, hd9⟩ := hD0
  obtain ⟨ls, lb, lk, lp, lr, le, lm, lo, kcap, pcap, rcap, ecap, mcap, mks, mps, v0, v1, v2, v3, v4, v5, v6, v7, hcap, hv0, hv1, hv2, hv3, hv4, hv5, hv6, hv7, rfl⟩ := hw0
  refine g_open 0 rfl rfl rfl ?_
  refine (show Go g κ 0 [some (.ref m), some (.int v)] [] [[(m, .inr (12, [.ref ls, .ref lb, .ref lk, .ref lp, .ref lr, .ref le, .ref lm, .ref lo, .int (nI (dTh D)), .int (dZz D), .int (nI (dBn D)), .int (nI (dCm D))]))], v0, v1, v2, v3, v4, v5, v6, v7] 0 0 from ?_)
  obtain ⟨kc1, kc2, kc3, kc4, kc5⟩ := (show capM kcap pcap rcap ecap mcap from hcap)
  refine g_aload_n (q := 1) B dX3_isBlank_0 rfl rfl (rv_r _) ?_
  refine g_iload_n (q := 2) B dX3_isBlank_1 rfl rfl ?_
  refine g_callV (q := 5) (is := [0, 5]) (kc2 := 0) (ks2 := 0) B [.int v] (ct_X3_isNoNode g J (m := m) (ls := ls) (lb := lb) (lk := lk) (lp := lp) (lr := lr) (le := le) (lm := lm) (lo := lo) (th := dTh D) (z := dZz D) (bo := dBn D) (cm := dCm D) (Es := (dEs D)) (ecap := ecap) (Ep := Ep) (v := v) hv5 (hT) (by omega)) dX3_isBlank_2 rfl (rc_at B (ci := 12) rfl (k := 0) rfl) rfl q3518 q3520 qs71 q85 q3521 rfl rfl moX3_isNoNode rfl rfl (by decide) (by decide) (Nat.le_of_ble_eq_true rfl) (Nat.le_of_ble_eq_true rfl) (Nat.le_of_ble_eq_true rfl) (fun _ _ hx => noX_x hx) (fun v2 L1 hp2 => ?_)
  obtain ⟨k2, rfl, rfl, hk_2⟩ := hp2
  refine (show Go g κ 5 [some (.ref m), some (.int v)] [.int (nI (if ¬ ((dEs D) ≠ [] ∧ inR v (2 * 2 ^ (eTr Ep).1 - 1) = true) then 1 else 0))] [v0, v1, v2, v3, v4, v6, v7, [(m, .inr (12, [.ref ls, .ref lb, .ref lk, .ref lp, .ref lr, .ref le, .ref lm, .ref lo, .int (nI k2), .int (dZz D), .int (nI (dBn D)), .int (nI (dCm D))]))], v5] 0 0 from ?_)
  refine g_if_ne (tgt := 25) (q := 8) B dX3_isBlank_5 rfl (by decide) (bo_ne) (fun c5 => ?_) (fun c5 => ?_)
  · skip
    refine g_iconst (v := nI 0) (q := 26) B dX3_isBlank_25 rfl (by decide) ?_
    obtain ⟨wc_1, ewc_1⟩ : ∃ w : va_W, w = ([[(m, .inr (12, [.ref ls, .ref lb, .ref lk, .ref lp, .ref lr, .ref le, .ref lm, .ref lo, .int (nI k2), .int (dZz D), .int (nI (dBn D)), .int (nI (dCm D))]))], v0, v1, v2, v3, v4, v5, v6, v7] : List va_W).flatten := ⟨_, rfl⟩
    have hwc_1 : KdP g m (dT D k2) wc_1 := by
      rw [ewc_1]
      exact ⟨ls, lb, lk, lp, lr, le, lm, lo, kcap, pcap, rcap, ecap, mcap, mks, mps, _, _, _, _, _, _, _, _, hcap, hv0, hv1, hv2, hv3, hv4, hv5, hv6, hv7, rfl⟩
    refine g_close (w := wc_1) [7, 0, 0, 0, 0, 0, 2, 0, 0] rfl ewc_1 rfl ?_
    refine (show Go g κ 26 [some (.ref m), some (.int v)] [.int (nI 0)] [wc_1] 0 0 from ?_)
    exact g_zret B E dX3_isBlank_26 (by decide) (⟨k2, false, _, rfl, rfl, hwc_1, by rcases hk_2 with ⟨-, h⟩ | ⟨h1, h2⟩; exact absurd h c5; exact Or.inl ⟨h1, h2⟩⟩)
  · skip
    rcases hk_2 with ⟨hk20, hne, hin⟩ | ⟨-, hno⟩
    rotate_left
    · exact absurd hno c5
    subst hk20
    obtain ⟨i, hii, rfl⟩ := inR_t hin
    refine (show Go g κ 8 [some (.ref m), some (.int (nI i))] [] [v0, v1, v2, v3, v4, v6, v7, [(m, .inr (12, [.ref ls, .ref lb, .ref lk, .ref lp, .ref lr, .ref le, .ref lm, .ref lo, .int (nI 0), .int (dZz D), .int (nI (dBn D)), .int (nI (dCm D))]))], v5] 0 0 from ?_)
    refine g_aload_n (q := 9) B dX3_isBlank_8 rfl rfl (rv_r _) ?_
    refine g_callV (q := 12) (is := [7, 7]) (kc2 := 0) (ks2 := 0) B [] (ct_X3_newest g J (m := m) (ls := ls) (lb := lb) (lk := lk) (lp := lp) (lr := lr) (le := le) (lm := lm) (lo := lo) (th := 0) (z := (dZz D)) (bo := (dBn D)) (cm := (dCm D)) (Es := (dEs D)) (ecap := ecap) (Ep := Ep) hv5 (hT hne) (by omega)) dX3_isBlank_9 rfl (rc_at B (ci := 12) rfl (k := 7) rfl) rfl q3374 q3376 qs63 q85 q3377 rfl rfl moX3_newest rfl rfl (by decide) (by decide) (Nat.le_of_ble_eq_true rfl) (Nat.le_of_ble_eq_true rfl) (Nat.le_of_ble_eq_true rfl) (fun _ _ hx => noX_x hx) (fun v9 L1 hp9 => ?_)
    obtain ⟨e9, rfl, rfl, hE_9⟩ := hp9
    refine (show Go g κ 12 [some (.ref m), some (.int (nI i))] [.ref e9] [v0, v1, v2, v3, v4, v6, v7, [(m, .inr (12, [.ref ls, .ref lb, .ref lk, .ref lp, .ref lr, .ref le, .ref lm, .ref lo, .int (nI 0), .int (dZz D), .int (nI (dBn D)), .int (nI (dCm D))]))], v5] 0 0 from ?_)
    have hEB9 := EpP.b2 hE_9
    have hTB9 := hEB9.2.1
    have hp29 := p2_4 hTB9.1
    obtain ⟨ap_2, an_2, al_2, ac_2, aw_2, am_2, ak_2, fp_2, fn_2, fl_2, fc_2, fw_2, fm_2, fk_2, hE_2, hfp_2, hfn_2, hfl_2, hfc_2, hfw_2, hfm_2, hfk_2, hc_2_0, hc_2_1, hc_2_2, hc_2_3, hc_2_4, hc_2_5, hc_2_6, hc_2_7⟩ := EpP.at (hE_9)
    refine g_getNM (q := 15) B (ci := 16) (k := 8) (j := 5) in_X13 rfl dX3_isBlank_12 rfl rfl (hc_2_0) (Nat.le_of_ble_eq_true rfl) q3263 rfl rfl ?_
    refine g_iload_n (q := 16) B dX3_isBlank_15 rfl rfl ?_
    refine g_ialdM (v := oI (((eTr Ep).2.1) i)) (q := 17) B (k := 8) dX3_isBlank_16 rfl rfl (hc_2_2) (vp_in_nI (by omega) (by omega)) (by rw [nI_clamp (by omega)]; exact hfn_2 _ (by omega)) ?_
    refine g_iconst (v := -1) (q := 18) B dX3_isBlank_17 rfl (by decide) ?_
    refine g_icmp_ne (tgt := 25) (q := 21) B dX3_isBlank_18 rfl (by decide) (oI_nn ((fun n h => by have := hE_2.2.1.2.1 _ _ h; omega))) (fun c18 => ?_) (fun c18 => ?_)
    · skip
      obtain ⟨v18, ev18⟩ := Option.ne_none_iff_exists'.mp c18
      refine g_iconst (v := nI 0) (q := 26) B dX3_isBlank_25 rfl (by decide) ?_
      obtain ⟨wc_3, ewc_3⟩ : ∃ w : va_W, w = ([[(m, .inr (12, [.ref ls, .ref lb, .ref lk, .ref lp, .ref lr, .ref le, .ref lm, .ref lo, .int (nI 0), .int (dZz D), .int (nI (dBn D)), .int (nI (dCm D))]))], v0, v1, v2, v3, v4, v5, v6, v7] : List va_W).flatten := ⟨_, rfl⟩
      have hwc_3 : KdP g m (dT D 0) wc_3 := by
        rw [ewc_3]
        exact ⟨ls, lb, lk, lp, lr, le, lm, lo, kcap, pcap, rcap, ecap, mcap, mks, mps, _, _, _, _, _, _, _, _, hcap, hv0, hv1, hv2, hv3, hv4, hv5, hv6, hv7, rfl⟩
      refine g_close (w := wc_3) [7, 0, 0, 0, 0, 0, 2, 0, 0] rfl ewc_3 rfl ?_
      refine (show Go g κ 26 [some (.ref m), some (.int (nI i))] [.int (nI 0)] [wc_3] 0 0 from ?_)
      exact g_zret B E dX3_isBlank_26 (by decide) (⟨0, false, _, rfl, rfl, hwc_3, Or.inr ⟨rfl, hne, i, rfl, hii, ⟨(fun z => by cases z), fun z => absurd z c18⟩⟩⟩)
    · skip
      have c18 := Classical.not_not.mp c18
      refine g_iconst (v := nI 1) (q := 22) B dX3_isBlank_21 rfl (by decide) ?_
      refine g_goto (tgt := 26) B dX3_isBlank_22 (by decide) ?_
      obtain ⟨wc_4, ewc_4⟩ : ∃ w : va_W, w = ([[(m, .inr (12, [.ref ls, .ref lb, .ref lk, .ref lp, .ref lr, .ref le, .ref lm, .ref lo, .int (nI 0), .int (dZz D), .int (nI (dBn D)), .int (nI (dCm D))]))], v0, v1, v2, v3, v4, v5, v6, v7] : List va_W).flatten := ⟨_, rfl⟩
      have hwc_4 : KdP g m (dT D 0) wc_4 := by
        rw [ewc_4]
        exact ⟨ls, lb, lk, lp, lr, le, lm, lo, kcap, pcap, rcap, ecap, mcap, mks, mps, _, _, _, _, _, _, _, _, hcap, hv0, hv1, hv2, hv3, hv4, hv5, hv6, hv7, rfl⟩
      refine g_close (w := wc_4) [7, 0, 0, 0, 0, 0, 2, 0, 0] rfl ewc_4 rfl ?_
      refine (show Go g κ 26 [some (.ref m), some (.int (nI i))] [.int (nI 1)] [wc_4] 0 0 from ?_)
      exact g_zret B E dX3_isBlank_26 (by decide) (⟨0, true, _, rfl, rfl, hwc_4, Or.inr ⟨rfl, hne, i, rfl, hii, ⟨fun _ => c18, fun _ => rfl⟩⟩⟩)
theorem ct_X3_late (g : Gv) (J : Jd g) {m : Nat} {D : MdS} {Ep : MeS} {v : Int32} {w0 : va_W} (hw0 : KdP g m D w0) (hD : MdB D) (hT : dEs D ≠ [] → (dEs D)[(dEs D).length - 1]? = some Ep) : Ct g yX3_late (ws_ yX3_late cX3_late 2 (some .int)) 7 0 0 [.ref m, .int v] [w0] (fun (rv_ : Option Value) (rL_ : List va_W) => ∃ (k : Nat) (x : Int32) (u0 : va_W), rv_ = some (.int x) ∧ rL_ = [u0] ∧ KdP g m (dT D k) u0 ∧ ((k = 1 ∧ ¬ (dEs D ≠ [] ∧ inR v (2 * 2 ^ (eTr Ep).1 - 1) = true)) ∨ (k = 0 ∧ dEs D ≠ [] ∧ ∃ i : Nat, v = nI i ∧ i < 2 * 2 ^ (eTr Ep).1 - 1 ∧ x = nI ((eTr Ep).2.2.1 i)))) noX := by
  refine Ct.of "KeygroveModel" [some (.ref m), some (.int v)] rfl (by decide) rfl (Nat.le_of_ble_eq_true rfl) rfl ?_
  intro κ B E tb
  have hD0 := hD
  obtain ⟨hd1, hd2, hd3, hd4, hd5, hd6, hd7, hd8, hd9⟩ := hD0
  obtain ⟨ls, lb, lk, lp, lr, le, lm, lo, kcap, pcap, rcap, ecap, mcap, mks, mps, v0, v1, v2, v3, v4, v5, v6, v7, hcap, hv0, hv1, hv2, hv3, hv4, hv5, hv6, hv7, rfl⟩ := hw0
  refine g_open 0 rfl rfl rfl ?_
  refine (show Go g κ 0 [some (.ref m), some (.int v)] [] [[(m, .inr (12, [.ref ls, .ref lb, .ref lk, .ref lp, .ref lr, .ref le, .ref lm, .ref lo, .int (nI (dTh D)), .int (dZz D), .int (nI (dBn D)), .int (nI (dCm D))]))], v0, v1, v2, v3, v4, v5, v6, v7] 0 0 from ?_)
  obtain ⟨kc1, kc2, kc3, kc4, kc5⟩ := (show capM kcap pcap rcap ecap mcap from hcap)
  refine g_aload_n (q := 1) B dX3_late_0 rfl rfl (rv_r _) ?_
  refine g_iload_n (q := 2) B dX3_late_1 rfl rfl ?_
  refine g_callV (q := 5) (is := [0, 5]) (kc2 := 0) (ks2 := 0) B [.int v] (ct_X3_isNoNode g J (m := m) (ls := ls) (lb := lb) (lk := lk) (lp := lp) (lr := lr) (le := le) (lm := lm) (lo := lo) (th := dTh D) (z := dZz D) (bo := dBn D) (cm := dCm D) (Es := (dEs D)) (ecap := ecap) (Ep := Ep) (v := v) hv5 (hT) (by omega)) dX3_late_2 rfl (rc_at B (ci := 12) rfl (k := 0) rfl) rfl q3518 q3520 qs71 q85 q3521 rfl rfl moX3_isNoNode rfl rfl (by decide) (by decide) (Nat.le_of_ble_eq_true rfl) (Nat.le_of_ble_eq_true rfl) (Nat.le_of_ble_eq_true rfl) (fun _ _ hx => noX_x hx) (fun v2 L1 hp2 => ?_)
  obtain ⟨k2, rfl, rfl, hk_2⟩ := hp2
  refine (show Go g κ 5 [some (.ref m), some (.int v)] [.int (nI (if ¬ ((dEs D) ≠ [] ∧ inR v (2 * 2 ^ (eTr Ep).1 - 1) = true) then 1 else 0))] [v0, v1, v2, v3, v4, v6, v7, [(m, .inr (12, [.ref ls, .ref lb, .ref lk, .ref lp, .ref lr, .ref le, .ref lm, .ref lo, .int (nI k2), .int (dZz D), .int (nI (dBn D)), .int (nI (dCm D))]))], v5] 0 0 from ?_)
  refine g_if_eq (tgt := 12) (q := 8) B dX3_late_5 rfl (by decide) (bo_eq) (fun c5 => ?_) (fun c5 => ?_)
  · skip
    rcases hk_2 with ⟨hk20, hne, hin⟩ | ⟨-, hno⟩
    rotate_left
    · exact absurd hno c5
    subst hk20
    obtain ⟨i, hii, rfl⟩ := inR_t hin
    refine (show Go g κ 12 [some (.ref m), some (.int (nI i))] [] [v0, v1, v2, v3, v4, v6, v7, [(m, .inr (12, [.ref ls, .ref lb, .ref lk, .ref lp, .ref lr, .ref le, .ref lm, .ref lo, .int (nI 0), .int (dZz D), .int (nI (dBn D)), .int (nI (dCm D))]))], v5] 0 0 from ?_)
    refine g_aload_n (q := 13) B dX3_late_12 rfl rfl (rv_r _) ?_
    refine g_callV (q := 16) (is := [7, 7]) (kc2 := 0) (ks2 := 0) B [] (ct_X3_newest g J (m := m) (ls := ls) (lb := lb) (lk := lk) (lp := lp) (lr := lr) (le := le) (lm := lm) (lo := lo) (th := 0) (z := (dZz D)) (bo := (dBn D)) (cm := (dCm D)) (Es := (dEs D)) (ecap := ecap) (Ep := Ep) hv5 (hT hne) (by omega)) dX3_late_13 rfl (rc_at B (ci := 12) rfl (k := 7) rfl) rfl q3374 q3376 qs63 q85 q3377 rfl rfl moX3_newest rfl rfl (by decide) (by decide) (Nat.le_of_ble_eq_true rfl) (Nat.le_of_ble_eq_true rfl) (Nat.le_of_ble_eq_true rfl) (fun _ _ hx => noX_x hx) (fun v13 L1 hp13 => ?_)
    obtain ⟨e13, rfl, rfl, hE_13⟩ := hp13
    refine (show Go g κ 16 [some (.ref m), some (.int (nI i))] [.ref e13] [v0, v1, v2, v3, v4, v6, v7, [(m, .inr (12, [.ref ls, .ref lb, .ref lk, .ref lp, .ref lr, .ref le, .ref lm, .ref lo, .int (nI 0), .int (dZz D), .int (nI (dBn D)), .int (nI (dCm D))]))], v5] 0 0 from ?_)
    have hEB13 := EpP.b2 hE_13
    have hTB13 := hEB13.2.1
    have hp213 := p2_4 hTB13.1
    obtain ⟨ap_1, an_1, al_1, ac_1, aw_1, am_1, ak_1, fp_1, fn_1, fl_1, fc_1, fw_1, fm_1, fk_1, hE_1, hfp_1, hfn_1, hfl_1, hfc_1, hfw_1, hfm_1, hfk_1, hc_1_0, hc_1_1, hc_1_2, hc_1_3, hc_1_4, hc_1_5, hc_1_6, hc_1_7⟩ := EpP.at (hE_13)
    refine g_getNM (q := 19) B (ci := 16) (k := 8) (j := 6) in_X13 rfl dX3_late_16 rfl rfl (hc_1_0) (Nat.le_of_ble_eq_true rfl) q3265 rfl rfl ?_
    refine g_iload_n (q := 20) B dX3_late_19 rfl rfl ?_
    refine g_ialdM (v := nI (((eTr Ep).2.2.1) i)) (q := 21) B (k := 8) dX3_late_20 rfl rfl (hc_1_3) (vp_in_nI (by omega) (by omega)) (by rw [nI_clamp (by omega)]; exact hfl_1 _ (by omega)) ?_
    obtain ⟨wc_2, ewc_2⟩ : ∃ w : va_W, w = ([[(m, .inr (12, [.ref ls, .ref lb, .ref lk, .ref lp, .ref lr, .ref le, .ref lm, .ref lo, .int (nI 0), .int (dZz D), .int (nI (dBn D)), .int (nI (dCm D))]))], v0, v1, v2, v3, v4, v5, v6, v7] : List va_W).flatten := ⟨_, rfl⟩
    have hwc_2 : KdP g m (dT D 0) wc_2 := by
      rw [ewc_2]
      exact ⟨ls, lb, lk, lp, lr, le, lm, lo, kcap, pcap, rcap, ecap, mcap, mks, mps, _, _, _, _, _, _, _, _, hcap, hv0, hv1, hv2, hv3, hv4, hv5, hv6, hv7, rfl⟩
    refine g_close (w := wc_2) [7, 0, 0, 0, 0, 0, 2, 0, 0] rfl ewc_2 rfl ?_
    refine (show Go g κ 21 [some (.ref m), some (.int (nI i))] [.int (nI (((eTr Ep).2.2.1) i))] [wc_2] 0 0 from ?_)
    exact g_iret B E dX3_late_21 (⟨0, nI ((eTr Ep).2.2.1 i), _, rfl, rfl, hwc_2, Or.inr ⟨rfl, hne, i, rfl, hii, rfl⟩⟩)
  · skip
    have c5 := Classical.not_not.mp c5
    refine g_iconst (v := nI 0) (q := 9) B dX3_late_8 rfl (by decide) ?_
    refine g_goto (tgt := 21) B dX3_late_9 (by decide) ?_
    obtain ⟨wc_3, ewc_3⟩ : ∃ w : va_W, w = ([[(m, .inr (12, [.ref ls, .ref lb, .ref lk, .ref lp, .ref lr, .ref le, .ref lm, .ref lo, .int (nI k2), .int (dZz D), .int (nI (dBn D)), .int (nI (dCm D))]))], v0, v1, v2, v3, v4, v5, v6, v7] : List va_W).flatten := ⟨_, rfl⟩
    have hwc_3 : KdP g m (dT D k2) wc_3 := by
      rw [ewc_3]
      exact ⟨ls, lb, lk, lp, lr, le, lm, lo, kcap, pcap, rcap, ecap, mcap, mks, mps, _, _, _, _, _, _, _, _, hcap, hv0, hv1, hv2, hv3, hv4, hv5, hv6, hv7, rfl⟩
    refine g_close (w := wc_3) [7, 0, 0, 0, 0, 0, 2, 0, 0] rfl ewc_3 rfl ?_
    refine (show Go g κ 21 [some (.ref m), some (.int v)] [.int (nI 0)] [wc_3] 0 0 from ?_)
    exact g_iret B E dX3_late_21 (⟨k2, nI 0, _, rfl, rfl, hwc_3, by rcases hk_2 with ⟨-, h⟩ | ⟨h1, h2⟩; exact absurd h c5; exact Or.inl ⟨h1, h2⟩⟩)
theorem ct_X3_cover (g : Gv) (J : Jd g) {m : Nat} {D : MdS} {Ep : MeS} {v : Int32} {w0 : va_W} (hw0 : KdP g m D w0) (hD : MdB D) (hT : dEs D ≠ [] → (dEs D)[(dEs D).length - 1]? = some Ep) (hLt : dEs D ≠ [] → LtB (eTr Ep)) : Ct g yX3_cover (ws_ yX3_cover cX3_cover 2 (some .int)) 14 273 4100 [.ref m, .int v] [w0] (fun (rv_ : Option Value) (rL_ : List va_W) => ∃ (k : Nat) (x : Int32) (u0 : va_W), rv_ = some (.int x) ∧ rL_ = [u0] ∧ KdP g m (dT D k) u0 ∧ ((k = 1 ∧ ¬ (dEs D ≠ [] ∧ inR v (2 * 2 ^ (eTr Ep).1 - 1) = true)) ∨ (k = 0 ∧ dEs D ≠ [] ∧ ∃ i : Nat, v = nI i ∧ i < 2 * 2 ^ (eTr Ep).1 - 1 ∧ x = nI (cov (eTr Ep) i).length))) noX := by
  refine Ct.of "KeygroveModel" [some (.ref m), some (.int v)] rfl (by decide) rfl (Nat.le_of_ble_eq_true rfl) rfl ?_
  intro κ B E tb
  have hD0 := hD
  obtain ⟨hd1, hd2, hd3, hd4, hd5, hd6, hd7, hd8, hd9⟩ := hD0
  obtain ⟨ls, lb, lk, lp, lr, le, lm, lo, kcap, pcap, rcap, ecap, mcap, mks, mps, v0, v1, v2, v3, v4, v5, v6, v7, hcap, hv0, hv1, hv2, hv3, hv4, hv5, hv6, hv7, rfl⟩ := hw0
  refine g_open 0 rfl rfl rfl ?_
  refine (show Go g κ 0 [some (.ref m), some (.int v)] [] [[(m, .inr (12, [.ref ls, .ref lb, .ref lk, .ref lp, .ref lr, .ref le, .ref lm, .ref lo, .int (nI (dTh D)), .int (dZz D), .int (nI (dBn D)), .int (nI (dCm D))]))], v0, v1, v2, v3, v4, v5, v6, v7] 273 4100 from ?_)
  obtain ⟨kc1, kc2, kc3, kc4, kc5⟩ := (show capM kcap pcap rcap ecap mcap from hcap)
  refine g_aload_n (q := 1) B dX3_cover_0 rfl rfl (rv_r _) ?_
  refine g_iload_n (q := 2) B dX3_cover_1 rfl rfl ?_
  refine g_callV (q := 5) (is := [0, 5]) (kc2 := 273) (ks2 := 4100) B [.int v] (ct_X3_isNoNode g J (m := m) (ls := ls) (lb := lb) (lk := lk) (lp := lp) (lr := lr) (le := le) (lm := lm) (lo := lo) (th := dTh D) (z := dZz D) (bo := dBn D) (cm := dCm D) (Es := (dEs D)) (ecap := ecap) (Ep := Ep) (v := v) hv5 (hT) (by omega)) dX3_cover_2 rfl (rc_at B (ci := 12) rfl (k := 0) rfl) rfl q3518 q3520 qs71 q85 q3521 rfl rfl moX3_isNoNode rfl rfl (by decide) (by decide) (Nat.le_of_ble_eq_true rfl) (Nat.le_of_ble_eq_true rfl) (Nat.le_of_ble_eq_true rfl) (fun _ _ hx => noX_x hx) (fun v2 L1 hp2 => ?_)
  obtain ⟨k2, rfl, rfl, hk_2⟩ := hp2
  refine (show Go g κ 5 [some (.ref m), some (.int v)] [.int (nI (if ¬ ((dEs D) ≠ [] ∧ inR v (2 * 2 ^ (eTr Ep).1 - 1) = true) then 1 else 0))] [v0, v1, v2, v3, v4, v6, v7, [(m, .inr (12, [.ref ls, .ref lb, .ref lk, .ref lp, .ref lr, .ref le, .ref lm, .ref lo, .int (nI k2), .int (dZz D), .int (nI (dBn D)), .int (nI (dCm D))]))], v5] 273 4100 from ?_)
  refine g_if_eq (tgt := 12) (q := 8) B dX3_cover_5 rfl (by decide) (bo_eq) (fun c5 => ?_) (fun c5 => ?_)
  · skip
    rcases hk_2 with ⟨hk20, hne, hin⟩ | ⟨-, hno⟩
    rotate_left
    · exact absurd hno c5
    subst hk20
    obtain ⟨i, hii, rfl⟩ := inR_t hin
    refine (show Go g κ 12 [some (.ref m), some (.int (nI i))] [] [v0, v1, v2, v3, v4, v6, v7, [(m, .inr (12, [.ref ls, .ref lb, .ref lk, .ref lp, .ref lr, .ref le, .ref lm, .ref lo, .int (nI 0), .int (dZz D), .int (nI (dBn D)), .int (nI (dCm D))]))], v5] 273 4100 from ?_)
    refine g_aload_n (q := 13) B dX3_cover_12 rfl rfl (rv_r _) ?_
    refine g_callV (q := 16) (is := [7, 7]) (kc2 := 273) (ks2 := 4100) B [] (ct_X3_newest g J (m := m) (ls := ls) (lb := lb) (lk := lk) (lp := lp) (lr := lr) (le := le) (lm := lm) (lo := lo) (th := 0) (z := (dZz D)) (bo := (dBn D)) (cm := (dCm D)) (Es := (dEs D)) (ecap := ecap) (Ep := Ep) hv5 (hT hne) (by omega)) dX3_cover_13 rfl (rc_at B (ci := 12) rfl (k := 7) rfl) rfl q3374 q3376 qs63 q85 q3377 rfl rfl moX3_newest rfl rfl (by decide) (by decide) (Nat.le_of_ble_eq_true rfl) (Nat.le_of_ble_eq_true rfl) (Nat.le_of_ble_eq_true rfl) (fun _ _ hx => noX_x hx) (fun v13 L1 hp13 => ?_)
    obtain ⟨e13, rfl, rfl, hE_13⟩ := hp13
    refine (show Go g κ 16 [some (.ref m), some (.int (nI i))] [.ref e13] [v0, v1, v2, v3, v4, v6, v7, [(m, .inr (12, [.ref ls, .ref lb, .ref lk, .ref lp, .ref lr, .ref le, .ref lm, .ref lo, .int (nI 0), .int (dZz D), .int (nI (dBn D)), .int (nI (dCm D))]))], v5] 273 4100 from ?_)
    have hEB13 := EpP.b2 hE_13
    have hTB13 := hEB13.2.1
    have hp213 := p2_4 hTB13.1
    refine g_iload_n (q := 17) B dX3_cover_16 rfl rfl ?_
    have hl4 := lev_4 i (by omega)
    have hcl := cov_len hTB13 (n := i) rfl
    have hpl := p2_4 hl4
    have hcl2 : (cov (eTr Ep) i).length ≤ 272 := by omega
    have hcf := capF_le (cov (eTr Ep) i).length
    refine g_callS (q := 20) (is := [8]) (kc2 := 0) (ks2 := 0) B [.ref e13, .int (nI i)] (ct_X3_coverOf_s g J (e := e13) (r := Ep) (n := i) (W0 := v5)  (hE_13) (hLt hne) (by omega)) dX3_cover_17 rfl q3466 q3467 q85 q3468 rfl rfl moX3_coverOf rfl rfl (by decide) (by decide) (Nat.le_of_ble_eq_true rfl) (by omega) (by omega) (fun _ _ hx => noX_x hx) (fun v17 L1 hp17 => ?_)
    obtain ⟨p17, u1_17, rfl, rfl, hu1_17⟩ := hp17
    refine (show Go g κ 20 [some (.ref m), some (.int (nI i))] [.ref p17] [v0, v1, v2, v3, v4, v6, v7, [(m, .inr (12, [.ref ls, .ref lb, .ref lk, .ref lp, .ref lr, .ref le, .ref lm, .ref lo, .int (nI 0), .int (dZz D), .int (nI (dBn D)), .int (nI (dCm D))]))], v5, u1_17] 0 0 from ?_)
    obtain ⟨ps_1, md_1, hli_1, hln_1, hel_1⟩ := LhP.at (Sub.self hu1_17)
    refine g_callV (q := 23) (is := [9]) (kc2 := 0) (ks2 := 0) B [] (ct_J2_size_s g J (p := p17) (xs := ps_1) (md := md_1) (cap := (capF (cov (eTr Ep) i).length)) (W0 := u1_17)  (hli_1)) dX3_cover_20 rfl (rc_in B (ci := 21) rfl (k := 9) rfl (LhP.hm hu1_17)) rfl q3102 q321 q3665 q81 q323 rfl rfl moJ2_size rfl rfl (by decide) (by decide) (Nat.le_of_ble_eq_true rfl) (Nat.le_of_ble_eq_true rfl) (Nat.le_of_ble_eq_true rfl) (fun _ _ hx => noX_x hx) (fun v20 L1 hp20 => ?_)
    obtain ⟨rfl, rfl⟩ := hp20
    refine (show Go g κ 23 [some (.ref m), some (.int (nI i))] [.int (nI ps_1.length)] [v0, v1, v2, v3, v4, v6, v7, [(m, .inr (12, [.ref ls, .ref lb, .ref lk, .ref lp, .ref lr, .ref le, .ref lm, .ref lo, .int (nI 0), .int (dZz D), .int (nI (dBn D)), .int (nI (dCm D))]))], v5, u1_17] 0 0 from ?_)
    rw [hln_1.1]
    refine (show Go g κ 23 [some (.ref m), some (.int (nI i))] [.int (nI ((cov (eTr Ep) i).length))] [v0, v1, v2, v3, v4, v6, v7, [(m, .inr (12, [.ref ls, .ref lb, .ref lk, .ref lp, .ref lr, .ref le, .ref lm, .ref lo, .int (nI 0), .int (dZz D), .int (nI (dBn D)), .int (nI (dCm D))]))], v5, u1_17] 0 0 from ?_)
    obtain ⟨wc_2, ewc_2⟩ : ∃ w : va_W, w = ([[(m, .inr (12, [.ref ls, .ref lb, .ref lk, .ref lp, .ref lr, .ref le, .ref lm, .ref lo, .int (nI 0), .int (dZz D), .int (nI (dBn D)), .int (nI (dCm D))]))], v0, v1, v2, v3, v4, v5, v6, v7] : List va_W).flatten := ⟨_, rfl⟩
    have hwc_2 : KdP g m (dT D 0) wc_2 := by
      rw [ewc_2]
      exact ⟨ls, lb, lk, lp, lr, le, lm, lo, kcap, pcap, rcap, ecap, mcap, mks, mps, _, _, _, _, _, _, _, _, hcap, hv0, hv1, hv2, hv3, hv4, hv5, hv6, hv7, rfl⟩
    refine g_close (w := wc_2) [7, 0, 0, 0, 0, 0, 2, 0, 0] rfl ewc_2 rfl ?_
    refine (show Go g κ 23 [some (.ref m), some (.int (nI i))] [.int (nI ((cov (eTr Ep) i).length))] [u1_17, wc_2] 0 0 from ?_)
    refine g_pk [1] rfl rfl ?_
    refine (show Go g κ 23 [some (.ref m), some (.int (nI i))] [.int (nI ((cov (eTr Ep) i).length))] [wc_2] 0 0 from ?_)
    exact g_iret B E dX3_cover_23 (⟨0, nI (cov (eTr Ep) i).length, _, rfl, rfl, hwc_2, Or.inr ⟨rfl, hne, i, rfl, hii, rfl⟩⟩)
  · skip
    have c5 := Classical.not_not.mp c5
    refine g_iconst (v := nI 0) (q := 9) B dX3_cover_8 rfl (by decide) ?_
    refine g_goto (tgt := 23) B dX3_cover_9 (by decide) ?_
    obtain ⟨wc_3, ewc_3⟩ : ∃ w : va_W, w = ([[(m, .inr (12, [.ref ls, .ref lb, .ref lk, .ref lp, .ref lr, .ref le, .ref lm, .ref lo, .int (nI k2), .int (dZz D), .int (nI (dBn D)), .int (nI (dCm D))]))], v0, v1, v2, v3, v4, v5, v6, v7] : List va_W).flatten := ⟨_, rfl⟩
    have hwc_3 : KdP g m (dT D k2) wc_3 := by
      rw [ewc_3]
      exact ⟨ls, lb, lk, lp, lr, le, lm, lo, kcap, pcap, rcap, ecap, mcap, mks, mps, _, _, _, _, _, _, _, _, hcap, hv0, hv1, hv2, hv3, hv4, hv5, hv6, hv7, rfl⟩
    refine g_close (w := wc_3) [7, 0, 0, 0, 0, 0, 2, 0, 0] rfl ewc_3 rfl ?_
    refine (show Go g κ 23 [some (.ref m), some (.int v)] [.int (nI 0)] [wc_3] 273 4100 from ?_)
    exact g_iret B E dX3_cover_23 (⟨k2, nI 0, _, rfl, rfl, hwc_3, by rcases hk_2 with ⟨-, h⟩ | ⟨h1, h2⟩; exact absurd h c5; exact Or.inl ⟨h1, h2⟩⟩)
theorem ct_X3_coverAt (g : Gv) (J : Jd g) {m : Nat} {D : MdS} {Ep : MeS} {v : Int32} {u : Int32} {w0 : va_W} (hw0 : KdP g m D w0) (hD : MdB D) (hT : dEs D ≠ [] → (dEs D)[(dEs D).length - 1]? = some Ep) (hLt : dEs D ≠ [] → LtB (eTr Ep)) : Ct g yX3_coverAt (ws_ yX3_coverAt cX3_coverAt 4 (some .int)) 14 273 4100 [.ref m, .int v, .int u] [w0] (fun (rv_ : Option Value) (rL_ : List va_W) => ∃ (k : Nat) (x : Int32) (u0 : va_W), rv_ = some (.int x) ∧ rL_ = [u0] ∧ KdP g m (dT D k) u0 ∧ ((k = 1 ∧ ¬ (dEs D ≠ [] ∧ inR v (2 * 2 ^ (eTr Ep).1 - 1) = true)) ∨ (dEs D ≠ [] ∧ ∃ i : Nat, v = nI i ∧ i < 2 * 2 ^ (eTr Ep).1 - 1 ∧ ((k = 2 ∧ ¬ inR u (cov (eTr Ep) i).length = true) ∨ (k = 0 ∧ ∃ j n : Nat, u = nI j ∧ (cov (eTr Ep) i)[j]? = some n ∧ x = nI n))))) noX := by
  refine Ct.of "KeygroveModel" [some (.ref m), some (.int v), some (.int u), none] rfl (by decide) rfl (Nat.le_of_ble_eq_true rfl) rfl ?_
  intro κ B E tb
  have hD0 := hD
  obtain ⟨hd1, hd2, hd3, hd4, hd5, hd6, hd7, hd8, hd9⟩ := hD0
  obtain ⟨ls, lb, lk, lp, lr, le, lm, lo, kcap, pcap, rcap, ecap, mcap, mks, mps, v0, v1, v2, v3, v4, v5, v6, v7, hcap, hv0, hv1, hv2, hv3, hv4, hv5, hv6, hv7, rfl⟩ := hw0
  refine g_open 0 rfl rfl rfl ?_
  refine (show Go g κ 0 [some (.ref m), some (.int v), some (.int u), none] [] [[(m, .inr (12, [.ref ls, .ref lb, .ref lk, .ref lp, .ref lr, .ref le, .ref lm, .ref lo, .int (nI (dTh D)), .int (dZz D), .int (nI (dBn D)), .int (nI (dCm D))]))], v0, v1, v2, v3, v4, v5, v6, v7] 273 4100 from ?_)
  obtain ⟨kc1, kc2, kc3, kc4, kc5⟩ := (show capM kcap pcap rcap ecap mcap from hcap)
  refine g_aload_n (q := 1) B dX3_coverAt_0 rfl rfl (rv_r _) ?_
  refine g_iload_n (q := 2) B dX3_coverAt_1 rfl rfl ?_
  refine g_callV (q := 5) (is := [0, 5]) (kc2 := 273) (ks2 := 4100) B [.int v] (ct_X3_isNoNode g J (m := m) (ls := ls) (lb := lb) (lk := lk) (lp := lp) (lr := lr) (le := le) (lm := lm) (lo := lo) (th := dTh D) (z := dZz D) (bo := dBn D) (cm := dCm D) (Es := (dEs D)) (ecap := ecap) (Ep := Ep) (v := v) hv5 (hT) (by omega)) dX3_coverAt_2 rfl (rc_at B (ci := 12) rfl (k := 0) rfl) rfl q3518 q3520 qs71 q85 q3521 rfl rfl moX3_isNoNode rfl rfl (by decide) (by decide) (Nat.le_of_ble_eq_true rfl) (Nat.le_of_ble_eq_true rfl) (Nat.le_of_ble_eq_true rfl) (fun _ _ hx => noX_x hx) (fun v2 L1 hp2 => ?_)
  obtain ⟨k2, rfl, rfl, hk_2⟩ := hp2
  refine (show Go g κ 5 [some (.ref m), some (.int v), some (.int u), none] [.int (nI (if ¬ ((dEs D) ≠ [] ∧ inR v (2 * 2 ^ (eTr Ep).1 - 1) = true) then 1 else 0))] [v0, v1, v2, v3, v4, v6, v7, [(m, .inr (12, [.ref ls, .ref lb, .ref lk, .ref lp, .ref lr, .ref le, .ref lm, .ref lo, .int (nI k2), .int (dZz D), .int (nI (dBn D)), .int (nI (dCm D))]))], v5] 273 4100 from ?_)
  refine g_if_eq (tgt := 10) (q := 8) B dX3_coverAt_5 rfl (by decide) (bo_eq) (fun c5 => ?_) (fun c5 => ?_)
  · skip
    rcases hk_2 with ⟨hk20, hne, hin⟩ | ⟨-, hno⟩
    rotate_left
    · exact absurd hno c5
    subst hk20
    obtain ⟨i, hii, rfl⟩ := inR_t hin
    refine (show Go g κ 10 [some (.ref m), some (.int (nI i)), some (.int u), none] [] [v0, v1, v2, v3, v4, v6, v7, [(m, .inr (12, [.ref ls, .ref lb, .ref lk, .ref lp, .ref lr, .ref le, .ref lm, .ref lo, .int (nI 0), .int (dZz D), .int (nI (dBn D)), .int (nI (dCm D))]))], v5] 273 4100 from ?_)
    refine g_aload_n (q := 11) B dX3_coverAt_10 rfl rfl (rv_r _) ?_
    refine g_callV (q := 14) (is := [7, 7]) (kc2 := 273) (ks2 := 4100) B [] (ct_X3_newest g J (m := m) (ls := ls) (lb := lb) (lk := lk) (lp := lp) (lr := lr) (le := le) (lm := lm) (lo := lo) (th := 0) (z := (dZz D)) (bo := (dBn D)) (cm := (dCm D)) (Es := (dEs D)) (ecap := ecap) (Ep := Ep) hv5 (hT hne) (by omega)) dX3_coverAt_11 rfl (rc_at B (ci := 12) rfl (k := 7) rfl) rfl q3374 q3376 qs63 q85 q3377 rfl rfl moX3_newest rfl rfl (by decide) (by decide) (Nat.le_of_ble_eq_true rfl) (Nat.le_of_ble_eq_true rfl) (Nat.le_of_ble_eq_true rfl) (fun _ _ hx => noX_x hx) (fun v11 L1 hp11 => ?_)
    obtain ⟨e11, rfl, rfl, hE_11⟩ := hp11
    refine (show Go g κ 14 [some (.ref m), some (.int (nI i)), some (.int u), none] [.ref e11] [v0, v1, v2, v3, v4, v6, v7, [(m, .inr (12, [.ref ls, .ref lb, .ref lk, .ref lp, .ref lr, .ref le, .ref lm, .ref lo, .int (nI 0), .int (dZz D), .int (nI (dBn D)), .int (nI (dCm D))]))], v5] 273 4100 from ?_)
    have hEB11 := EpP.b2 hE_11
    have hTB11 := hEB11.2.1
    have hp211 := p2_4 hTB11.1
    refine g_iload_n (q := 15) B dX3_coverAt_14 rfl rfl ?_
    have hl4 := lev_4 i (by omega)
    have hcl := cov_len hTB11 (n := i) rfl
    have hpl := p2_4 hl4
    have hcl2 : (cov (eTr Ep) i).length ≤ 272 := by omega
    have hcf := capF_le (cov (eTr Ep) i).length
    refine g_callS (q := 18) (is := [8]) (kc2 := 0) (ks2 := 0) B [.ref e11, .int (nI i)] (ct_X3_coverOf_s g J (e := e11) (r := Ep) (n := i) (W0 := v5)  (hE_11) (hLt hne) (by omega)) dX3_coverAt_15 rfl q3466 q3467 q85 q3468 rfl rfl moX3_coverOf rfl rfl (by decide) (by decide) (Nat.le_of_ble_eq_true rfl) (by omega) (by omega) (fun _ _ hx => noX_x hx) (fun v15 L1 hp15 => ?_)
    obtain ⟨p15, u1_15, rfl, rfl, hu1_15⟩ := hp15
    refine (show Go g κ 18 [some (.ref m), some (.int (nI i)), some (.int u), none] [.ref p15] [v0, v1, v2, v3, v4, v6, v7, [(m, .inr (12, [.ref ls, .ref lb, .ref lk, .ref lp, .ref lr, .ref le, .ref lm, .ref lo, .int (nI 0), .int (dZz D), .int (nI (dBn D)), .int (nI (dCm D))]))], v5, u1_15] 0 0 from ?_)
    refine g_astore_n (q := 19) (lv2 := [some (.ref m), some (.int (nI i)), some (.int u), some (.ref p15)]) B dX3_coverAt_18 rfl (Nat.le_of_ble_eq_true rfl) (rv_r _) rfl ?_
    refine g_aload_n (q := 20) B dX3_coverAt_19 rfl rfl (rv_r _) ?_
    refine g_iload_n (q := 21) B dX3_coverAt_20 rfl rfl ?_
    refine g_iconst (v := nI 0) (q := 22) B dX3_coverAt_21 rfl (by decide) ?_
    refine g_aload_n (q := 23) B dX3_coverAt_22 rfl rfl (rv_r _) ?_
    obtain ⟨ps_1, md_1, hli_1, hln_1, hel_1⟩ := LhP.at (Sub.self hu1_15)
    refine g_callV (q := 26) (is := [9]) (kc2 := 0) (ks2 := 0) B [] (ct_J2_size_s g J (p := p15) (xs := ps_1) (md := md_1) (cap := (capF (cov (eTr Ep) i).length)) (W0 := u1_15)  (hli_1)) dX3_coverAt_23 rfl (rc_in B (ci := 21) rfl (k := 9) rfl (LhP.hm hu1_15)) rfl q3102 q321 q3665 q81 q323 rfl rfl moJ2_size rfl rfl (by decide) (by decide) (Nat.le_of_ble_eq_true rfl) (Nat.le_of_ble_eq_true rfl) (Nat.le_of_ble_eq_true rfl) (fun _ _ hx => noX_x hx) (fun v23 L1 hp23 => ?_)
    obtain ⟨rfl, rfl⟩ := hp23
    refine (show Go g κ 26 [some (.ref m), some (.int (nI i)), some (.int u), some (.ref p15)] [.int (nI ps_1.length), .int (nI 0), .int u, .ref m] [v0, v1, v2, v3, v4, v6, v7, [(m, .inr (12, [.ref ls, .ref lb, .ref lk, .ref lp, .ref lr, .ref le, .ref lm, .ref lo, .int (nI 0), .int (dZz D), .int (nI (dBn D)), .int (nI (dCm D))]))], v5, u1_15] 0 0 from ?_)
    rw [hln_1.1]
    refine (show Go g κ 26 [some (.ref m), some (.int (nI i)), some (.int u), some (.ref p15)] [.int (nI ((cov (eTr Ep) i).length)), .int (nI 0), .int u, .ref m] [v0, v1, v2, v3, v4, v6, v7, [(m, .inr (12, [.ref ls, .ref lb, .ref lk, .ref lp, .ref lr, .ref le, .ref lm, .ref lo, .int (nI 0), .int (dZz D), .int (nI (dBn D)), .int (nI (dCm D))]))], v5, u1_15] 0 0 from ?_)
    refine g_iconst (v := nI 1) (q := 27) B dX3_coverAt_26 rfl (by decide) ?_
    refine g_isub (v := nI (cov (eTr Ep) i).length - nI 1) (q := 28) B dX3_coverAt_27 rfl rfl ?_
    refine g_callS (q := 31) (is := []) (kc2 := 0) (ks2 := 0) B [.int u, .int (nI 0), .int (nI (cov (eTr Ep) i).length - nI 1)] (ct_X3_isBetween g J (v := u) (n := (cov (eTr Ep) i).length)  (by omega)) dX3_coverAt_28 rfl q3157 q3158 q85 q3159 rfl rfl moX3_isBetween rfl rfl (by decide) (by decide) (Nat.le_of_ble_eq_true rfl) (Nat.le_of_ble_eq_true rfl) (Nat.le_of_ble_eq_true rfl) (fun _ _ hx => noX_x hx) (fun v28 L1 hp28 => ?_)
    obtain ⟨rfl, rfl⟩ := hp28
    refine (show Go g κ 31 [some (.ref m), some (.int (nI i)), some (.int u), some (.ref p15)] [.int (nI (if inR u ((cov (eTr Ep) i).length) = true then 1 else 0)), .ref m] [v0, v1, v2, v3, v4, v6, v7, [(m, .inr (12, [.ref ls, .ref lb, .ref lk, .ref lp, .ref lr, .ref le, .ref lm, .ref lo, .int (nI 0), .int (dZz D), .int (nI (dBn D)), .int (nI (dCm D))]))], v5, u1_15] 0 0 from ?_)
    refine g_if_eq (tgt := 38) (q := 34) B dX3_coverAt_31 rfl (by decide) (bo_eq) (fun c31 => ?_) (fun c31 => ?_)
    · skip
      refine g_iconst (v := nI 2) (q := 39) B dX3_coverAt_38 rfl (by decide) ?_
      refine g_callV (q := 42) (is := [7]) (kc2 := 0) (ks2 := 0) B [.int (nI 2)] (ct_X3_isWrong g J (m := m) (ls := ls) (lb := lb) (lk := lk) (lp := lp) (lr := lr) (le := le) (lm := lm) (lo := lo) (th := 0) (z := (dZz D)) (bo := (dBn D)) (cm := (dCm D)) (k := 2)  (by decide)) dX3_coverAt_39 rfl (rc_at B (ci := 12) rfl (k := 7) rfl) rfl q3103 q3105 qs49 q85 q3106 rfl rfl moX3_isWrong rfl rfl (by decide) (by decide) (Nat.le_of_ble_eq_true rfl) (Nat.le_of_ble_eq_true rfl) (Nat.le_of_ble_eq_true rfl) (fun _ _ hx => noX_x hx) (fun v39 L1 hp39 => ?_)
      obtain ⟨rfl, rfl⟩ := hp39
      refine (show Go g κ 42 [some (.ref m), some (.int (nI i)), some (.int u), some (.ref p15)] [.int (nI (if ¬ 2 = 0 then 1 else 0))] [v0, v1, v2, v3, v4, v6, v7, v5, u1_15, [(m, .inr (12, [.ref ls, .ref lb, .ref lk, .ref lp, .ref lr, .ref le, .ref lm, .ref lo, .int (nI 2), .int (dZz D), .int (nI (dBn D)), .int (nI (dCm D))]))]] 0 0 from ?_)
      refine g_if_eq (tgt := 49) (q := 45) B dX3_coverAt_42 rfl (by decide) (iff_false_intro (by decide)) (fun z => z.elim) (fun _ => ?_)
      refine g_iconst (v := nI 0) (q := 46) B dX3_coverAt_45 rfl (by decide) ?_
      refine g_goto (tgt := 60) B dX3_coverAt_46 (by decide) ?_
      obtain ⟨wc_2, ewc_2⟩ : ∃ w : va_W, w = ([[(m, .inr (12, [.ref ls, .ref lb, .ref lk, .ref lp, .ref lr, .ref le, .ref lm, .ref lo, .int (nI 2), .int (dZz D), .int (nI (dBn D)), .int (nI (dCm D))]))], v0, v1, v2, v3, v4, v5, v6, v7] : List va_W).flatten := ⟨_, rfl⟩
      have hwc_2 : KdP g m (dT D 2) wc_2 := by
        rw [ewc_2]
        exact ⟨ls, lb, lk, lp, lr, le, lm, lo, kcap, pcap, rcap, ecap, mcap, mks, mps, _, _, _, _, _, _, _, _, hcap, hv0, hv1, hv2, hv3, hv4, hv5, hv6, hv7, rfl⟩
      refine g_close (w := wc_2) [9, 0, 0, 0, 0, 0, 2, 0, 0] rfl ewc_2 rfl ?_
      refine (show Go g κ 60 [some (.ref m), some (.int (nI i)), some (.int u), some (.ref p15)] [.int (nI 0)] [u1_15, wc_2] 0 0 from ?_)
      refine g_pk [1] rfl rfl ?_
      refine (show Go g κ 60 [some (.ref m), some (.int (nI i)), some (.int u), some (.ref p15)] [.int (nI 0)] [wc_2] 0 0 from ?_)
      exact g_iret B E dX3_coverAt_60 (⟨2, nI 0, _, rfl, rfl, hwc_2, Or.inr ⟨hne, i, rfl, hii, Or.inl ⟨rfl, c31⟩⟩⟩)
    · skip
      have c31 := Classical.not_not.mp c31
      refine g_iconst (v := nI 0) (q := 35) B dX3_coverAt_34 rfl (by decide) ?_
      refine g_goto (tgt := 39) B dX3_coverAt_35 (by decide) ?_
      refine g_callV (q := 42) (is := [7]) (kc2 := 0) (ks2 := 0) B [.int (nI 0)] (ct_X3_isWrong g J (m := m) (ls := ls) (lb := lb) (lk := lk) (lp := lp) (lr := lr) (le := le) (lm := lm) (lo := lo) (th := 0) (z := (dZz D)) (bo := (dBn D)) (cm := (dCm D)) (k := 0)  (by decide)) dX3_coverAt_39 rfl (rc_at B (ci := 12) rfl (k := 7) rfl) rfl q3103 q3105 qs49 q85 q3106 rfl rfl moX3_isWrong rfl rfl (by decide) (by decide) (Nat.le_of_ble_eq_true rfl) (Nat.le_of_ble_eq_true rfl) (Nat.le_of_ble_eq_true rfl) (fun _ _ hx => noX_x hx) (fun v39 L1 hp39 => ?_)
      obtain ⟨rfl, rfl⟩ := hp39
      refine (show Go g κ 42 [some (.ref m), some (.int (nI i)), some (.int u), some (.ref p15)] [.int (nI (if ¬ 0 = 0 then 1 else 0))] [v0, v1, v2, v3, v4, v6, v7, v5, u1_15, [(m, .inr (12, [.ref ls, .ref lb, .ref lk, .ref lp, .ref lr, .ref le, .ref lm, .ref lo, .int (nI 0), .int (dZz D), .int (nI (dBn D)), .int (nI (dCm D))]))]] 0 0 from ?_)
      refine g_if_eq (tgt := 49) (q := 45) B dX3_coverAt_42 rfl (by decide) (iff_true_intro (by decide)) (fun _ => ?_) (fun z => absurd trivial z)
      obtain ⟨j, hij, rfl⟩ := inR_t c31
      refine (show Go g κ 49 [some (.ref m), some (.int (nI i)), some (.int (nI j)), some (.ref p15)] [] [v0, v1, v2, v3, v4, v6, v7, v5, u1_15, [(m, .inr (12, [.ref ls, .ref lb, .ref lk, .ref lp, .ref lr, .ref le, .ref lm, .ref lo, .int (nI 0), .int (dZz D), .int (nI (dBn D)), .int (nI (dCm D))]))]] 0 0 from ?_)
      refine g_aload_n (q := 50) B dX3_coverAt_49 rfl rfl (rv_r _) ?_
      refine g_iload_n (q := 51) B dX3_coverAt_50 rfl rfl ?_
      obtain ⟨r51, hr51⟩ := get_ex (xs := (cov (eTr Ep) i)) (i := j) (by omega)
      obtain ⟨x51, hx51⟩ := get_ex (xs := ps_1) (i := j) (by have := get_lt2 hr51; have := hln_1.1; omega)
      have hb_3 := Sub.box (hel_1 _ _ _ hx51 hr51)
      refine g_callV (q := 54) (is := [8]) (kc2 := 0) (ks2 := 0) B [.int (nI j)] (ct_J2_get_s g J (p := p15) (xs := ps_1) (md := md_1) (cap := (capF (cov (eTr Ep) i).length)) (i := j) (x := x51) (W0 := u1_15)  (hli_1) (hx51)) dX3_coverAt_51 rfl (rc_in B (ci := 21) rfl (k := 8) rfl (LhP.hm hu1_15)) rfl q3231 q1095 q3667 q81 q1097 rfl rfl moJ2_get rfl rfl (by decide) (by decide) (Nat.le_of_ble_eq_true rfl) (Nat.le_of_ble_eq_true rfl) (Nat.le_of_ble_eq_true rfl) (fun _ _ hx => noX_x hx) (fun v51 L1 hp51 => ?_)
      obtain ⟨rfl, rfl⟩ := hp51
      refine (show Go g κ 54 [some (.ref m), some (.int (nI i)), some (.int (nI j)), some (.ref p15)] [.ref x51] [v0, v1, v2, v3, v4, v6, v7, v5, [(m, .inr (12, [.ref ls, .ref lb, .ref lk, .ref lp, .ref lr, .ref le, .ref lm, .ref lo, .int (nI 0), .int (dZz D), .int (nI (dBn D)), .int (nI (dCm D))]))], u1_15] 0 0 from ?_)
      refine g_castRS (ci := 35) (q := 57) B rfl (rc_bxat B J (k := 9) rfl hb_3) dX3_coverAt_54 rfl q3240 ?_
      refine g_callV (q := 60) (is := [9]) (kc2 := 0) (ks2 := 0) B [] (ct_J26_intValue_b g J (a := x51) (v := nI r51) (wb := u1_15)  (hb_3)) dX3_coverAt_57 rfl (rc_bxat B J (k := 9) rfl hb_3) rfl q3241 q1052 q1053 q111 q1054 rfl rfl moJ26_intValue rfl rfl (by decide) (by decide) (Nat.le_of_ble_eq_true rfl) (Nat.le_of_ble_eq_true rfl) (Nat.le_of_ble_eq_true rfl) (fun _ _ hx => noX_x hx) (fun v57 L1 hp57 => ?_)
      obtain ⟨rfl, rfl⟩ := hp57
      refine (show Go g κ 60 [some (.ref m), some (.int (nI i)), some (.int (nI j)), some (.ref p15)] [.int (nI r51)] [v0, v1, v2, v3, v4, v6, v7, v5, [(m, .inr (12, [.ref ls, .ref lb, .ref lk, .ref lp, .ref lr, .ref le, .ref lm, .ref lo, .int (nI 0), .int (dZz D), .int (nI (dBn D)), .int (nI (dCm D))]))], u1_15] 0 0 from ?_)
      obtain ⟨wc_4, ewc_4⟩ : ∃ w : va_W, w = ([[(m, .inr (12, [.ref ls, .ref lb, .ref lk, .ref lp, .ref lr, .ref le, .ref lm, .ref lo, .int (nI 0), .int (dZz D), .int (nI (dBn D)), .int (nI (dCm D))]))], v0, v1, v2, v3, v4, v5, v6, v7] : List va_W).flatten := ⟨_, rfl⟩
      have hwc_4 : KdP g m (dT D 0) wc_4 := by
        rw [ewc_4]
        exact ⟨ls, lb, lk, lp, lr, le, lm, lo, kcap, pcap, rcap, ecap, mcap, mks, mps, _, _, _, _, _, _, _, _, hcap, hv0, hv1, hv2, hv3, hv4, hv5, hv6, hv7, rfl⟩
      refine g_close (w := wc_4) [8, 0, 0, 0, 0, 0, 2, 0, 0] rfl ewc_4 rfl ?_
      refine (show Go g κ 60 [some (.ref m), some (.int (nI i)), some (.int (nI j)), some (.ref p15)] [.int (nI r51)] [u1_15, wc_4] 0 0 from ?_)
      refine g_pk [1] rfl rfl ?_
      refine (show Go g κ 60 [some (.ref m), some (.int (nI i)), some (.int (nI j)), some (.ref p15)] [.int (nI r51)] [wc_4] 0 0 from ?_)
      exact g_iret B E dX3_coverAt_60 (⟨0, nI r51, _, rfl, rfl, hwc_4, Or.inr ⟨hne, i, rfl, hii, Or.inr ⟨rfl, j, r51, rfl, hr51, rfl⟩⟩⟩)
  · skip
    have c5 := Classical.not_not.mp c5
    refine g_iconst (v := nI 0) (q := 9) B dX3_coverAt_8 rfl (by decide) ?_
    obtain ⟨wc_5, ewc_5⟩ : ∃ w : va_W, w = ([[(m, .inr (12, [.ref ls, .ref lb, .ref lk, .ref lp, .ref lr, .ref le, .ref lm, .ref lo, .int (nI k2), .int (dZz D), .int (nI (dBn D)), .int (nI (dCm D))]))], v0, v1, v2, v3, v4, v5, v6, v7] : List va_W).flatten := ⟨_, rfl⟩
    have hwc_5 : KdP g m (dT D k2) wc_5 := by
      rw [ewc_5]
      exact ⟨ls, lb, lk, lp, lr, le, lm, lo, kcap, pcap, rcap, ecap, mcap, mks, mps, _, _, _, _, _, _, _, _, hcap, hv0, hv1, hv2, hv3, hv4, hv5, hv6, hv7, rfl⟩
    refine g_close (w := wc_5) [7, 0, 0, 0, 0, 0, 2, 0, 0] rfl ewc_5 rfl ?_
    refine (show Go g κ 9 [some (.ref m), some (.int v), some (.int u), none] [.int (nI 0)] [wc_5] 273 4100 from ?_)
    exact g_iret B E dX3_coverAt_9 (⟨k2, nI 0, _, rfl, rfl, hwc_5, by rcases hk_2 with ⟨-, h⟩ | ⟨h1, h2⟩; exact absurd h c5; exact Or.inl ⟨h1, h2⟩⟩)
theorem ct_X3_personAt (g : Gv) (J : Jd g) {m : Nat} {D : MdS} {Ep : MeS} {v : Int32} {w0 : va_W} (hw0 : KdP g m D w0) (hD : MdB D) (hT : dEs D ≠ [] → (dEs D)[(dEs D).length - 1]? = some Ep) : Ct g yX3_personAt (ws_ yX3_personAt cX3_personAt 2 (some .int)) 6 0 0 [.ref m, .int v] [w0] (fun (rv_ : Option Value) (rL_ : List va_W) => ∃ (k : Nat) (x : Int32) (u0 : va_W), rv_ = some (.int x) ∧ rL_ = [u0] ∧ KdP g m (dT D k) u0 ∧ ((k = 1 ∧ ¬ (dEs D ≠ [] ∧ inR v (2 ^ (eTr Ep).1) = true)) ∨ (dEs D ≠ [] ∧ ∃ i : Nat, v = nI i ∧ i < 2 ^ (eTr Ep).1 ∧ ((k = 2 ∧ (eTr Ep).2.1 (2 * i) = none) ∨ (k = 0 ∧ ¬ (eTr Ep).2.1 (2 * i) = none ∧ x = oI ((eTr Ep).2.2.2 i)))))) noX := by
  refine Ct.of "KeygroveModel" [some (.ref m), some (.int v)] rfl (by decide) rfl (Nat.le_of_ble_eq_true rfl) rfl ?_
  intro κ B E tb
  have hD0 := hD
  obtain ⟨hd1, hd2, hd3, hd4, hd5, hd6, hd7, hd8, hd9⟩ := hD0
  obtain ⟨ls, lb, lk, lp, lr, le, lm, lo, kcap, pcap, rcap, ecap, mcap, mks, mps, v0, v1, v2, v3, v4, v5, v6, v7, hcap, hv0, hv1, hv2, hv3, hv4, hv5, hv6, hv7, rfl⟩ := hw0
  refine g_open 0 rfl rfl rfl ?_
  refine (show Go g κ 0 [some (.ref m), some (.int v)] [] [[(m, .inr (12, [.ref ls, .ref lb, .ref lk, .ref lp, .ref lr, .ref le, .ref lm, .ref lo, .int (nI (dTh D)), .int (dZz D), .int (nI (dBn D)), .int (nI (dCm D))]))], v0, v1, v2, v3, v4, v5, v6, v7] 0 0 from ?_)
  obtain ⟨kc1, kc2, kc3, kc4, kc5⟩ := (show capM kcap pcap rcap ecap mcap from hcap)
  refine g_aload_n (q := 1) B dX3_personAt_0 rfl rfl (rv_r _) ?_
  refine g_aload_n (q := 2) B dX3_personAt_1 rfl rfl (rv_r _) ?_
  refine g_get (q := 5) B (ci := 12) (k := 0) (j := 5) in_X3 rfl dX3_personAt_2 rfl rfl (Nat.le_of_ble_eq_true rfl) q3062 rfl rfl ?_
  obtain ⟨ps_1, md_1, hli_1, hln_1, hel_1⟩ := LhP.at (Sub.self hv5)
  refine g_callV (q := 8) (is := [6]) (kc2 := 0) (ks2 := 0) B [] (ct_J2_isEmpty_s g J (p := le) (xs := ps_1) (md := md_1) (cap := ecap) (W0 := v5)  (hli_1)) dX3_personAt_5 rfl (rc_in B (ci := 21) rfl (k := 6) rfl (LhP.hm hv5)) rfl q3248 q1130 q3669 q81 q1132 rfl rfl moJ2_isEmpty rfl rfl (by decide) (by decide) (Nat.le_of_ble_eq_true rfl) (Nat.le_of_ble_eq_true rfl) (Nat.le_of_ble_eq_true rfl) (fun _ _ hx => noX_x hx) (fun v5 L1 hp5 => ?_)
  obtain ⟨rfl, rfl⟩ := hp5
  refine (show Go g κ 8 [some (.ref m), some (.int v)] [.int (nI (if ps_1.length = 0 then 1 else 0)), .ref m] [[(m, .inr (12, [.ref ls, .ref lb, .ref lk, .ref lp, .ref lr, .ref le, .ref lm, .ref lo, .int (nI (dTh D)), .int (dZz D), .int (nI (dBn D)), .int (nI (dCm D))]))], v0, v1, v2, v3, v4, v6, v7, v5] 0 0 from ?_)
  rw [hln_1.1]
  refine (show Go g κ 8 [some (.ref m), some (.int v)] [.int (nI (if (dEs D).length = 0 then 1 else 0)), .ref m] [[(m, .inr (12, [.ref ls, .ref lb, .ref lk, .ref lp, .ref lr, .ref le, .ref lm, .ref lo, .int (nI (dTh D)), .int (dZz D), .int (nI (dBn D)), .int (nI (dCm D))]))], v0, v1, v2, v3, v4, v6, v7, v5] 0 0 from ?_)
  refine g_if_ne (tgt := 32) (q := 11) B dX3_personAt_8 rfl (by decide) (bo_ne) (fun c8 => ?_) (fun c8 => ?_)
  · skip
    refine g_iconst (v := nI 1) (q := 33) B dX3_personAt_32 rfl (by decide) ?_
    refine g_callV (q := 36) (is := [0]) (kc2 := 0) (ks2 := 0) B [.int (nI 1)] (ct_X3_isWrong g J (m := m) (ls := ls) (lb := lb) (lk := lk) (lp := lp) (lr := lr) (le := le) (lm := lm) (lo := lo) (th := dTh D) (z := dZz D) (bo := dBn D) (cm := dCm D) (k := 1)  (by decide)) dX3_personAt_33 rfl (rc_at B (ci := 12) rfl (k := 0) rfl) rfl q3103 q3105 qs49 q85 q3106 rfl rfl moX3_isWrong rfl rfl (by decide) (by decide) (Nat.le_of_ble_eq_true rfl) (Nat.le_of_ble_eq_true rfl) (Nat.le_of_ble_eq_true rfl) (fun _ _ hx => noX_x hx) (fun v33 L1 hp33 => ?_)
    obtain ⟨rfl, rfl⟩ := hp33
    refine (show Go g κ 36 [some (.ref m), some (.int v)] [.int (nI (if ¬ 1 = 0 then 1 else 0))] [v0, v1, v2, v3, v4, v6, v7, v5, [(m, .inr (12, [.ref ls, .ref lb, .ref lk, .ref lp, .ref lr, .ref le, .ref lm, .ref lo, .int (nI 1), .int (dZz D), .int (nI (dBn D)), .int (nI (dCm D))]))]] 0 0 from ?_)
    refine g_if_eq (tgt := 41) (q := 39) B dX3_personAt_36 rfl (by decide) (iff_false_intro (by decide)) (fun z => z.elim) (fun _ => ?_)
    refine g_iconst (v := nI 0) (q := 40) B dX3_personAt_39 rfl (by decide) ?_
    obtain ⟨wc_2, ewc_2⟩ : ∃ w : va_W, w = ([[(m, .inr (12, [.ref ls, .ref lb, .ref lk, .ref lp, .ref lr, .ref le, .ref lm, .ref lo, .int (nI 1), .int (dZz D), .int (nI (dBn D)), .int (nI (dCm D))]))], v0, v1, v2, v3, v4, v5, v6, v7] : List va_W).flatten := ⟨_, rfl⟩
    have hwc_2 : KdP g m (dT D 1) wc_2 := by
      rw [ewc_2]
      exact ⟨ls, lb, lk, lp, lr, le, lm, lo, kcap, pcap, rcap, ecap, mcap, mks, mps, _, _, _, _, _, _, _, _, hcap, hv0, hv1, hv2, hv3, hv4, hv5, hv6, hv7, rfl⟩
    refine g_close (w := wc_2) [8, 0, 0, 0, 0, 0, 2, 0, 0] rfl ewc_2 rfl ?_
    refine (show Go g κ 40 [some (.ref m), some (.int v)] [.int (nI 0)] [wc_2] 0 0 from ?_)
    exact g_iret B E dX3_personAt_40 (⟨1, nI 0, _, rfl, rfl, hwc_2, Or.inl ⟨rfl, by rintro ⟨z1, z2⟩; first | exact c25 z2 | exact z1 (List.length_eq_zero_iff.mp c8)⟩⟩)
  · skip
    have hne : dEs D ≠ [] := fun z => c8 (by rw [z]; rfl)
    refine g_iload_n (q := 12) B dX3_personAt_11 rfl rfl ?_
    refine g_iconst (v := nI 0) (q := 13) B dX3_personAt_12 rfl (by decide) ?_
    refine g_aload_n (q := 14) B dX3_personAt_13 rfl rfl (rv_r _) ?_
    refine g_callV (q := 17) (is := [0, 7]) (kc2 := 0) (ks2 := 0) B [] (ct_X3_newest g J (m := m) (ls := ls) (lb := lb) (lk := lk) (lp := lp) (lr := lr) (le := le) (lm := lm) (lo := lo) (th := dTh D) (z := dZz D) (bo := dBn D) (cm := dCm D) (Es := (dEs D)) (ecap := ecap) (Ep := Ep) hv5 (hT hne) (by omega)) dX3_personAt_14 rfl (rc_at B (ci := 12) rfl (k := 0) rfl) rfl q3374 q3376 qs63 q85 q3377 rfl rfl moX3_newest rfl rfl (by decide) (by decide) (Nat.le_of_ble_eq_true rfl) (Nat.le_of_ble_eq_true rfl) (Nat.le_of_ble_eq_true rfl) (fun _ _ hx => noX_x hx) (fun v14 L1 hp14 => ?_)
    obtain ⟨e14, rfl, rfl, hE_14⟩ := hp14
    refine (show Go g κ 17 [some (.ref m), some (.int v)] [.ref e14, .int (nI 0), .int v, .ref m] [v0, v1, v2, v3, v4, v6, v7, [(m, .inr (12, [.ref ls, .ref lb, .ref lk, .ref lp, .ref lr, .ref le, .ref lm, .ref lo, .int (nI (dTh D)), .int (dZz D), .int (nI (dBn D)), .int (nI (dCm D))]))], v5] 0 0 from ?_)
    have hEB14 := EpP.b2 hE_14
    have hTB14 := hEB14.2.1
    have hp214 := p2_4 hTB14.1
    obtain ⟨ap_3, an_3, al_3, ac_3, aw_3, am_3, ak_3, fp_3, fn_3, fl_3, fc_3, fw_3, fm_3, fk_3, hE_3, hfp_3, hfn_3, hfl_3, hfc_3, hfw_3, hfm_3, hfk_3, hc_3_0, hc_3_1, hc_3_2, hc_3_3, hc_3_4, hc_3_5, hc_3_6, hc_3_7⟩ := EpP.at (hE_14)
    refine g_getNM (q := 20) B (ci := 16) (k := 8) (j := 1) in_X13 rfl dX3_personAt_17 rfl rfl (hc_3_0) (Nat.le_of_ble_eq_true rfl) q3257 rfl rfl ?_
    refine g_iconst (v := nI 1) (q := 21) B dX3_personAt_20 rfl (by decide) ?_
    refine g_isub (v := nI (2 ^ (eTr Ep).1) - nI 1) (q := 22) B dX3_personAt_21 rfl rfl ?_
    refine g_callS (q := 25) (is := []) (kc2 := 0) (ks2 := 0) B [.int v, .int (nI 0), .int (nI (2 ^ (eTr Ep).1) - nI 1)] (ct_X3_isBetween g J (v := v) (n := 2 ^ (eTr Ep).1)  (by omega)) dX3_personAt_22 rfl q3157 q3158 q85 q3159 rfl rfl moX3_isBetween rfl rfl (by decide) (by decide) (Nat.le_of_ble_eq_true rfl) (Nat.le_of_ble_eq_true rfl) (Nat.le_of_ble_eq_true rfl) (fun _ _ hx => noX_x hx) (fun v22 L1 hp22 => ?_)
    obtain ⟨rfl, rfl⟩ := hp22
    refine (show Go g κ 25 [some (.ref m), some (.int v)] [.int (nI (if inR v (2 ^ (eTr Ep).1) = true then 1 else 0)), .ref m] [v0, v1, v2, v3, v4, v6, v7, [(m, .inr (12, [.ref ls, .ref lb, .ref lk, .ref lp, .ref lr, .ref le, .ref lm, .ref lo, .int (nI (dTh D)), .int (dZz D), .int (nI (dBn D)), .int (nI (dCm D))]))], v5] 0 0 from ?_)
    refine g_if_eq (tgt := 32) (q := 28) B dX3_personAt_25 rfl (by decide) (bo_eq) (fun c25 => ?_) (fun c25 => ?_)
    · skip
      refine g_iconst (v := nI 1) (q := 33) B dX3_personAt_32 rfl (by decide) ?_
      refine g_callV (q := 36) (is := [7]) (kc2 := 0) (ks2 := 0) B [.int (nI 1)] (ct_X3_isWrong g J (m := m) (ls := ls) (lb := lb) (lk := lk) (lp := lp) (lr := lr) (le := le) (lm := lm) (lo := lo) (th := (dTh D)) (z := (dZz D)) (bo := (dBn D)) (cm := (dCm D)) (k := 1)  (by decide)) dX3_personAt_33 rfl (rc_at B (ci := 12) rfl (k := 7) rfl) rfl q3103 q3105 qs49 q85 q3106 rfl rfl moX3_isWrong rfl rfl (by decide) (by decide) (Nat.le_of_ble_eq_true rfl) (Nat.le_of_ble_eq_true rfl) (Nat.le_of_ble_eq_true rfl) (fun _ _ hx => noX_x hx) (fun v33 L1 hp33 => ?_)
      obtain ⟨rfl, rfl⟩ := hp33
      refine (show Go g κ 36 [some (.ref m), some (.int v)] [.int (nI (if ¬ 1 = 0 then 1 else 0))] [v0, v1, v2, v3, v4, v6, v7, v5, [(m, .inr (12, [.ref ls, .ref lb, .ref lk, .ref lp, .ref lr, .ref le, .ref lm, .ref lo, .int (nI 1), .int (dZz D), .int (nI (dBn D)), .int (nI (dCm D))]))]] 0 0 from ?_)
      refine g_if_eq (tgt := 41) (q := 39) B dX3_personAt_36 rfl (by decide) (iff_false_intro (by decide)) (fun z => z.elim) (fun _ => ?_)
      refine g_iconst (v := nI 0) (q := 40) B dX3_personAt_39 rfl (by decide) ?_
      obtain ⟨wc_4, ewc_4⟩ : ∃ w : va_W, w = ([[(m, .inr (12, [.ref ls, .ref lb, .ref lk, .ref lp, .ref lr, .ref le, .ref lm, .ref lo, .int (nI 1), .int (dZz D), .int (nI (dBn D)), .int (nI (dCm D))]))], v0, v1, v2, v3, v4, v5, v6, v7] : List va_W).flatten := ⟨_, rfl⟩
      have hwc_4 : KdP g m (dT D 1) wc_4 := by
        rw [ewc_4]
        exact ⟨ls, lb, lk, lp, lr, le, lm, lo, kcap, pcap, rcap, ecap, mcap, mks, mps, _, _, _, _, _, _, _, _, hcap, hv0, hv1, hv2, hv3, hv4, hv5, hv6, hv7, rfl⟩
      refine g_close (w := wc_4) [8, 0, 0, 0, 0, 0, 2, 0, 0] rfl ewc_4 rfl ?_
      refine (show Go g κ 40 [some (.ref m), some (.int v)] [.int (nI 0)] [wc_4] 0 0 from ?_)
      exact g_iret B E dX3_personAt_40 (⟨1, nI 0, _, rfl, rfl, hwc_4, Or.inl ⟨rfl, by rintro ⟨z1, z2⟩; first | exact c25 z2 | exact z1 (List.length_eq_zero_iff.mp c8)⟩⟩)
    · skip
      have c25 := Classical.not_not.mp c25
      refine g_iconst (v := nI 0) (q := 29) B dX3_personAt_28 rfl (by decide) ?_
      refine g_goto (tgt := 33) B dX3_personAt_29 (by decide) ?_
      refine g_callV (q := 36) (is := [7]) (kc2 := 0) (ks2 := 0) B [.int (nI 0)] (ct_X3_isWrong g J (m := m) (ls := ls) (lb := lb) (lk := lk) (lp := lp) (lr := lr) (le := le) (lm := lm) (lo := lo) (th := (dTh D)) (z := (dZz D)) (bo := (dBn D)) (cm := (dCm D)) (k := 0)  (by decide)) dX3_personAt_33 rfl (rc_at B (ci := 12) rfl (k := 7) rfl) rfl q3103 q3105 qs49 q85 q3106 rfl rfl moX3_isWrong rfl rfl (by decide) (by decide) (Nat.le_of_ble_eq_true rfl) (Nat.le_of_ble_eq_true rfl) (Nat.le_of_ble_eq_true rfl) (fun _ _ hx => noX_x hx) (fun v33 L1 hp33 => ?_)
      obtain ⟨rfl, rfl⟩ := hp33
      refine (show Go g κ 36 [some (.ref m), some (.int v)] [.int (nI (if ¬ 0 = 0 then 1 else 0))] [v0, v1, v2, v3, v4, v6, v7, v5, [(m, .inr (12, [.ref ls, .ref lb, .ref lk, .ref lp, .ref lr, .ref le, .ref lm, .ref lo, .int (nI 0), .int (dZz D), .int (nI (dBn D)), .int (nI (dCm D))]))]] 0 0 from ?_)
      refine g_if_eq (tgt := 41) (q := 39) B dX3_personAt_36 rfl (by decide) (iff_true_intro (by decide)) (fun _ => ?_) (fun z => absurd trivial z)
      obtain ⟨i, hii, rfl⟩ := inR_t c25
      refine (show Go g κ 41 [some (.ref m), some (.int (nI i))] [] [v0, v1, v2, v3, v4, v6, v7, v5, [(m, .inr (12, [.ref ls, .ref lb, .ref lk, .ref lp, .ref lr, .ref le, .ref lm, .ref lo, .int (nI 0), .int (dZz D), .int (nI (dBn D)), .int (nI (dCm D))]))]] 0 0 from ?_)
      refine g_aload_n (q := 42) B dX3_personAt_41 rfl rfl (rv_r _) ?_
      refine g_aload_n (q := 43) B dX3_personAt_42 rfl rfl (rv_r _) ?_
      refine g_callV (q := 46) (is := [8, 7]) (kc2 := 0) (ks2 := 0) B [] (ct_X3_newest g J (m := m) (ls := ls) (lb := lb) (lk := lk) (lp := lp) (lr := lr) (le := le) (lm := lm) (lo := lo) (th := 0) (z := (dZz D)) (bo := (dBn D)) (cm := (dCm D)) (Es := (dEs D)) (ecap := ecap) (Ep := Ep) hv5 (hT hne) (by omega)) dX3_personAt_43 rfl (rc_at B (ci := 12) rfl (k := 8) rfl) rfl q3374 q3376 qs63 q85 q3377 rfl rfl moX3_newest rfl rfl (by decide) (by decide) (Nat.le_of_ble_eq_true rfl) (Nat.le_of_ble_eq_true rfl) (Nat.le_of_ble_eq_true rfl) (fun _ _ hx => noX_x hx) (fun v43 L1 hp43 => ?_)
      obtain ⟨e43, rfl, rfl, hE_43⟩ := hp43
      refine (show Go g κ 46 [some (.ref m), some (.int (nI i))] [.ref e43, .ref m] [v0, v1, v2, v3, v4, v6, v7, [(m, .inr (12, [.ref ls, .ref lb, .ref lk, .ref lp, .ref lr, .ref le, .ref lm, .ref lo, .int (nI 0), .int (dZz D), .int (nI (dBn D)), .int (nI (dCm D))]))], v5] 0 0 from ?_)
      have hEB43 := EpP.b2 hE_43
      have hTB43 := hEB43.2.1
      have hp243 := p2_4 hTB43.1
      obtain ⟨ap_5, an_5, al_5, ac_5, aw_5, am_5, ak_5, fp_5, fn_5, fl_5, fc_5, fw_5, fm_5, fk_5, hE_5, hfp_5, hfn_5, hfl_5, hfc_5, hfw_5, hfm_5, hfk_5, hc_5_0, hc_5_1, hc_5_2, hc_5_3, hc_5_4, hc_5_5, hc_5_6, hc_5_7⟩ := EpP.at (hE_43)
      refine g_getNM (q := 49) B (ci := 16) (k := 8) (j := 5) in_X13 rfl dX3_personAt_46 rfl rfl (hc_5_0) (Nat.le_of_ble_eq_true rfl) q3263 rfl rfl ?_
      refine g_iconst (v := nI 2) (q := 50) B dX3_personAt_49 rfl (by decide) ?_
      refine g_iload_n (q := 51) B dX3_personAt_50 rfl rfl ?_
      refine g_imul (v := nI (2 * i)) (q := 52) B dX3_personAt_51 rfl (pk_mul _ _) ?_
      refine g_ialdM (v := oI (((eTr Ep).2.1) (2 * i))) (q := 53) B (k := 8) dX3_personAt_52 rfl rfl (hc_5_2) (vp_in_nI (by omega) (by omega)) (by rw [nI_clamp (by omega)]; exact hfn_5 _ (by omega)) ?_
      refine g_iconst (v := -1) (q := 54) B dX3_personAt_53 rfl (by decide) ?_
      refine g_icmp_ne (tgt := 61) (q := 57) B dX3_personAt_54 rfl (by decide) (oI_nn ((fun n h => by have := hE_5.2.1.2.1 _ _ h; omega))) (fun c54 => ?_) (fun c54 => ?_)
      · skip
        obtain ⟨v54, ev54⟩ := Option.ne_none_iff_exists'.mp c54
        refine g_iconst (v := nI 0) (q := 62) B dX3_personAt_61 rfl (by decide) ?_
        refine g_callV (q := 65) (is := [7]) (kc2 := 0) (ks2 := 0) B [.int (nI 0)] (ct_X3_isWrong g J (m := m) (ls := ls) (lb := lb) (lk := lk) (lp := lp) (lr := lr) (le := le) (lm := lm) (lo := lo) (th := 0) (z := (dZz D)) (bo := (dBn D)) (cm := (dCm D)) (k := 0)  (by decide)) dX3_personAt_62 rfl (rc_at B (ci := 12) rfl (k := 7) rfl) rfl q3103 q3105 qs49 q85 q3106 rfl rfl moX3_isWrong rfl rfl (by decide) (by decide) (Nat.le_of_ble_eq_true rfl) (Nat.le_of_ble_eq_true rfl) (Nat.le_of_ble_eq_true rfl) (fun _ _ hx => noX_x hx) (fun v62 L1 hp62 => ?_)
        obtain ⟨rfl, rfl⟩ := hp62
        refine (show Go g κ 65 [some (.ref m), some (.int (nI i))] [.int (nI (if ¬ 0 = 0 then 1 else 0))] [v0, v1, v2, v3, v4, v6, v7, v5, [(m, .inr (12, [.ref ls, .ref lb, .ref lk, .ref lp, .ref lr, .ref le, .ref lm, .ref lo, .int (nI 0), .int (dZz D), .int (nI (dBn D)), .int (nI (dCm D))]))]] 0 0 from ?_)
        refine g_if_eq (tgt := 72) (q := 68) B dX3_personAt_65 rfl (by decide) (iff_true_intro (by decide)) (fun _ => ?_) (fun z => absurd trivial z)
        refine g_aload_n (q := 73) B dX3_personAt_72 rfl rfl (rv_r _) ?_
        refine g_callV (q := 76) (is := [8, 7]) (kc2 := 0) (ks2 := 0) B [] (ct_X3_newest g J (m := m) (ls := ls) (lb := lb) (lk := lk) (lp := lp) (lr := lr) (le := le) (lm := lm) (lo := lo) (th := 0) (z := (dZz D)) (bo := (dBn D)) (cm := (dCm D)) (Es := (dEs D)) (ecap := ecap) (Ep := Ep) hv5 (hT hne) (by omega)) dX3_personAt_73 rfl (rc_at B (ci := 12) rfl (k := 8) rfl) rfl q3374 q3376 qs63 q85 q3377 rfl rfl moX3_newest rfl rfl (by decide) (by decide) (Nat.le_of_ble_eq_true rfl) (Nat.le_of_ble_eq_true rfl) (Nat.le_of_ble_eq_true rfl) (fun _ _ hx => noX_x hx) (fun v73 L1 hp73 => ?_)
        obtain ⟨e73, rfl, rfl, hE_73⟩ := hp73
        refine (show Go g κ 76 [some (.ref m), some (.int (nI i))] [.ref e73] [v0, v1, v2, v3, v4, v6, v7, [(m, .inr (12, [.ref ls, .ref lb, .ref lk, .ref lp, .ref lr, .ref le, .ref lm, .ref lo, .int (nI 0), .int (dZz D), .int (nI (dBn D)), .int (nI (dCm D))]))], v5] 0 0 from ?_)
        have hEB73 := EpP.b2 hE_73
        have hTB73 := hEB73.2.1
        have hp273 := p2_4 hTB73.1
        obtain ⟨ap_6, an_6, al_6, ac_6, aw_6, am_6, ak_6, fp_6, fn_6, fl_6, fc_6, fw_6, fm_6, fk_6, hE_6, hfp_6, hfn_6, hfl_6, hfc_6, hfw_6, hfm_6, hfk_6, hc_6_0, hc_6_1, hc_6_2, hc_6_3, hc_6_4, hc_6_5, hc_6_6, hc_6_7⟩ := EpP.at (hE_73)
        refine g_getNM (q := 79) B (ci := 16) (k := 8) (j := 4) in_X13 rfl dX3_personAt_76 rfl rfl (hc_6_0) (Nat.le_of_ble_eq_true rfl) q3261 rfl rfl ?_
        refine g_iload_n (q := 80) B dX3_personAt_79 rfl rfl ?_
        refine g_ialdM (v := oI (((eTr Ep).2.2.2) i)) (q := 81) B (k := 8) dX3_personAt_80 rfl rfl (hc_6_1) (vp_in_nI (by omega) (by omega)) (by rw [nI_clamp (by omega)]; exact hfp_6 _ (by omega)) ?_
        obtain ⟨wc_7, ewc_7⟩ : ∃ w : va_W, w = ([[(m, .inr (12, [.ref ls, .ref lb, .ref lk, .ref lp, .ref lr, .ref le, .ref lm, .ref lo, .int (nI 0), .int (dZz D), .int (nI (dBn D)), .int (nI (dCm D))]))], v0, v1, v2, v3, v4, v5, v6, v7] : List va_W).flatten := ⟨_, rfl⟩
        have hwc_7 : KdP g m (dT D 0) wc_7 := by
          rw [ewc_7]
          exact ⟨ls, lb, lk, lp, lr, le, lm, lo, kcap, pcap, rcap, ecap, mcap, mks, mps, _, _, _, _, _, _, _, _, hcap, hv0, hv1, hv2, hv3, hv4, hv5, hv6, hv7, rfl⟩
        refine g_close (w := wc_7) [7, 0, 0, 0, 0, 0, 2, 0, 0] rfl ewc_7 rfl ?_
        refine (show Go g κ 81 [some (.ref m), some (.int (nI i))] [.int (oI (((eTr Ep).2.2.2) i))] [wc_7] 0 0 from ?_)
        exact g_iret B E dX3_personAt_81 (⟨0, oI (((eTr Ep).2.2.2) i), _, rfl, rfl, hwc_7, Or.inr ⟨hne, i, rfl, hii, Or.inr ⟨rfl, c54, rfl⟩⟩⟩)
      · skip
        have c54 := Classical.not_not.mp c54
        refine g_iconst (v := nI 2) (q := 58) B dX3_personAt_57 rfl (by decide) ?_
        refine g_goto (tgt := 62) B dX3_personAt_58 (by decide) ?_
        refine g_callV (q := 65) (is := [7]) (kc2 := 0) (ks2 := 0) B [.int (nI 2)] (ct_X3_isWrong g J (m := m) (ls := ls) (lb := lb) (lk := lk) (lp := lp) (lr := lr) (le := le) (lm := lm) (lo := lo) (th := 0) (z := (dZz D)) (bo := (dBn D)) (cm := (dCm D)) (k := 2)  (by decide)) dX3_personAt_62 rfl (rc_at B (ci := 12) rfl (k := 7) rfl) rfl q3103 q3105 qs49 q85 q3106 rfl rfl moX3_isWrong rfl rfl (by decide) (by decide) (Nat.le_of_ble_eq_true rfl) (Nat.le_of_ble_eq_true rfl) (Nat.le_of_ble_eq_true rfl) (fun _ _ hx => noX_x hx) (fun v62 L1 hp62 => ?_)
        obtain ⟨rfl, rfl⟩ := hp62
        refine (show Go g κ 65 [some (.ref m), some (.int (nI i))] [.int (nI (if ¬ 2 = 0 then 1 else 0))] [v0, v1, v2, v3, v4, v6, v7, v5, [(m, .inr (12, [.ref ls, .ref lb, .ref lk, .ref lp, .ref lr, .ref le, .ref lm, .ref lo, .int (nI 2), .int (dZz D), .int (nI (dBn D)), .int (nI (dCm D))]))]] 0 0 from ?_)
        refine g_if_eq (tgt := 72) (q := 68) B dX3_personAt_65 rfl (by decide) (iff_false_intro (by decide)) (fun z => z.elim) (fun _ => ?_)
        refine g_iconst (v := nI 0) (q := 69) B dX3_personAt_68 rfl (by decide) ?_
        refine g_goto (tgt := 81) B dX3_personAt_69 (by decide) ?_
        obtain ⟨wc_8, ewc_8⟩ : ∃ w : va_W, w = ([[(m, .inr (12, [.ref ls, .ref lb, .ref lk, .ref lp, .ref lr, .ref le, .ref lm, .ref lo, .int (nI 2), .int (dZz D), .int (nI (dBn D)), .int (nI (dCm D))]))], v0, v1, v2, v3, v4, v5, v6, v7] : List va_W).flatten := ⟨_, rfl⟩
        have hwc_8 : KdP g m (dT D 2) wc_8 := by
          rw [ewc_8]
          exact ⟨ls, lb, lk, lp, lr, le, lm, lo, kcap, pcap, rcap, ecap, mcap, mks, mps, _, _, _, _, _, _, _, _, hcap, hv0, hv1, hv2, hv3, hv4, hv5, hv6, hv7, rfl⟩
        refine g_close (w := wc_8) [8, 0, 0, 0, 0, 0, 2, 0, 0] rfl ewc_8 rfl ?_
        refine (show Go g κ 81 [some (.ref m), some (.int (nI i))] [.int (nI 0)] [wc_8] 0 0 from ?_)
        exact g_iret B E dX3_personAt_81 (⟨2, nI 0, _, rfl, rfl, hwc_8, Or.inr ⟨hne, i, rfl, hii, Or.inl ⟨rfl, c54⟩⟩⟩)
theorem ct_X3_key (g : Gv) (J : Jd g) {m : Nat} {D : MdS} {v : Int32} {w0 : va_W} (hw0 : KdP g m D w0) (hD : MdB D) (hky : ∀ (i : Nat) (r : MpS) (e : Nat), (dPs D)[i]? = some r → mEp r = some e → ∃ Ep, (dEs D)[e]? = some Ep ∧ eKy Ep < (dSs D).length) : Ct g yX3_key (ws_ yX3_key cX3_key 2 (some .int)) 7 0 0 [.ref m, .int v] [w0] (fun (rv_ : Option Value) (rL_ : List va_W) => ∃ (k : Nat) (x : Int32) (u0 : va_W), rv_ = some (.int x) ∧ rL_ = [u0] ∧ KdP g m (dT D k) u0 ∧ ((k = 1 ∧ ¬ inR v (dPs D).length = true) ∨ ∃ (i : Nat) (r : MpS), v = nI i ∧ (dPs D)[i]? = some r ∧ ((k = 2 ∧ mEp r = none) ∨ (k = 0 ∧ ∃ e Ep, mEp r = some e ∧ (dEs D)[e]? = some Ep ∧ x = vl (dSs D) (eKy Ep))))) noX := by
  refine Ct.of "KeygroveModel" [some (.ref m), some (.int v)] rfl (by decide) rfl (Nat.le_of_ble_eq_true rfl) rfl ?_
  intro κ B E tb
  have hD0 := hD
  obtain ⟨hd1, hd2, hd3, hd4, hd5, hd6, hd7, hd8, hd9⟩ := hD0
  obtain ⟨ls, lb, lk, lp, lr, le, lm, lo, kcap, pcap, rcap, ecap, mcap, mks, mps, v0, v1, v2, v3, v4, v5, v6, v7, hcap, hv0, hv1, hv2, hv3, hv4, hv5, hv6, hv7, rfl⟩ := hw0
  refine g_open 0 rfl rfl rfl ?_
  refine (show Go g κ 0 [some (.ref m), some (.int v)] [] [[(m, .inr (12, [.ref ls, .ref lb, .ref lk, .ref lp, .ref lr, .ref le, .ref lm, .ref lo, .int (nI (dTh D)), .int (dZz D), .int (nI (dBn D)), .int (nI (dCm D))]))], v0, v1, v2, v3, v4, v5, v6, v7] 0 0 from ?_)
  obtain ⟨kc1, kc2, kc3, kc4, kc5⟩ := (show capM kcap pcap rcap ecap mcap from hcap)
  refine g_aload_n (q := 1) B dX3_key_0 rfl rfl (rv_r _) ?_
  refine g_iload_n (q := 2) B dX3_key_1 rfl rfl ?_
  refine g_callV (q := 5) (is := [0, 3]) (kc2 := 0) (ks2 := 0) B [.int v] (ct_X3_isInNone g J (m := m) (ls := ls) (lb := lb) (lk := lk) (lp := lp) (lr := lr) (le := le) (lm := lm) (lo := lo) (th := dTh D) (z := dZz D) (bo := dBn D) (cm := dCm D) (mps := mps) (Ps := (dPs D)) (pcap := pcap) (v := v) hv3 (by omega)) dX3_key_2 rfl (rc_at B (ci := 12) rfl (k := 0) rfl) rfl q3346 q3348 qs59 q85 q3349 rfl rfl moX3_isInNone rfl rfl (by decide) (by decide) (Nat.le_of_ble_eq_true rfl) (Nat.le_of_ble_eq_true rfl) (Nat.le_of_ble_eq_true rfl) (fun _ _ hx => noX_x hx) (fun v2 L1 hp2 => ?_)
  obtain ⟨k2, rfl, rfl, hk_2⟩ := hp2
  refine (show Go g κ 5 [some (.ref m), some (.int v)] [.int (nI (if ¬ k2 = 0 then 1 else 0))] [v0, v1, v2, v4, v5, v6, v7, [(m, .inr (12, [.ref ls, .ref lb, .ref lk, .ref lp, .ref lr, .ref le, .ref lm, .ref lo, .int (nI k2), .int (dZz D), .int (nI (dBn D)), .int (nI (dCm D))]))], v3] 0 0 from ?_)
  refine g_if_eq (tgt := 12) (q := 8) B dX3_key_5 rfl (by decide) (bo_eq) (fun c5 => ?_) (fun c5 => ?_)
  · skip
    rcases hk_2 with ⟨rfl, -⟩ | ⟨i, r, rfl, hr, ⟨rfl, -⟩ | ⟨rfl, hin⟩⟩
    · exact absurd c5 (by decide)
    · exact absurd c5 (by decide)
    obtain ⟨e, he⟩ := Option.ne_none_iff_exists'.mp hin
    obtain ⟨Ep, hE, hkl⟩ := hky i r e hr he
    obtain ⟨sx, hsx⟩ := get_ex (xs := dSs D) (i := eKy Ep) hkl
    have hil := get_lt2 hr
    have hel := get_lt2 hE
    refine (show Go g κ 12 [some (.ref m), some (.int (nI i))] [] [v0, v1, v2, v4, v5, v6, v7, [(m, .inr (12, [.ref ls, .ref lb, .ref lk, .ref lp, .ref lr, .ref le, .ref lm, .ref lo, .int (nI 0), .int (dZz D), .int (nI (dBn D)), .int (nI (dCm D))]))], v3] 0 0 from ?_)
    refine g_aload_n (q := 13) B dX3_key_12 rfl rfl (rv_r _) ?_
    refine g_get (q := 16) B (ci := 12) (k := 7) (j := 0) in_X3 rfl dX3_key_13 rfl rfl (Nat.le_of_ble_eq_true rfl) q3057 rfl rfl ?_
    refine g_aload_n (q := 17) B dX3_key_16 rfl rfl (rv_r _) ?_
    refine g_get (q := 20) B (ci := 12) (k := 7) (j := 5) in_X3 rfl dX3_key_17 rfl rfl (Nat.le_of_ble_eq_true rfl) q3062 rfl rfl ?_
    refine g_aload_n (q := 21) B dX3_key_20 rfl rfl (rv_r _) ?_
    refine g_get (q := 24) B (ci := 12) (k := 7) (j := 3) in_X3 rfl dX3_key_21 rfl rfl (Nat.le_of_ble_eq_true rfl) q3060 rfl rfl ?_
    refine g_iload_n (q := 25) B dX3_key_24 rfl rfl ?_
    obtain ⟨md_1, hli_1, hln_1, hel_1⟩ := LoP.at (Sub.self hv3)
    obtain ⟨x25, hx25⟩ := get_ex (xs := mps) (i := i) (by have := get_lt2 (show (dPs D)[i]? = some r from hr); have := hln_1.1; omega)
    have hE_2 := hel_1 _ _ _ hx25 (show (dPs D)[i]? = some r from hr)
    refine g_callV (q := 28) (is := [8]) (kc2 := 0) (ks2 := 0) B [.int (nI i)] (ct_J2_get_s g J (p := lp) (xs := mps) (md := md_1) (cap := pcap) (i := i) (x := x25) (W0 := v3)  (hli_1) (hx25)) dX3_key_25 rfl (rc_in B (ci := 21) rfl (k := 8) rfl (LoP.hm hv3)) rfl q3231 q1095 q3667 q81 q1097 rfl rfl moJ2_get rfl rfl (by decide) (by decide) (Nat.le_of_ble_eq_true rfl) (Nat.le_of_ble_eq_true rfl) (Nat.le_of_ble_eq_true rfl) (fun _ _ hx => noX_x hx) (fun v25 L1 hp25 => ?_)
    obtain ⟨rfl, rfl⟩ := hp25
    refine (show Go g κ 28 [some (.ref m), some (.int (nI i))] [.ref x25, .ref le, .ref ls] [v0, v1, v2, v4, v5, v6, v7, [(m, .inr (12, [.ref ls, .ref lb, .ref lk, .ref lp, .ref lr, .ref le, .ref lm, .ref lo, .int (nI 0), .int (dZz D), .int (nI (dBn D)), .int (nI (dCm D))]))], v3] 0 0 from ?_)
    refine g_castRS (ci := 13) (q := 31) B rfl (rc_in B (ci := 13) rfl (k := 8) rfl (Sub.hm (hE_2) fun _ z => MpP.hm z)) dX3_key_28 rfl q3107 ?_
    obtain ⟨nd_3, ch_3, ev_3, cv_3, fn_3, fc_3, hM_3, hfn_3, hoc_3, hcv_3, hc_3_0, hc_3_1, hc_3_2, hs_3_0, hs_3_1⟩ := MpP.at (hE_2)
    refine g_getNM (q := 34) B (ci := 13) (k := 8) (j := 0) in_X5 rfl dX3_key_31 rfl rfl (hc_3_0) (Nat.le_of_ble_eq_true rfl) q3118 rfl rfl ?_
    refine g_stk (y := .int (nI e)) (by rw [he]; rfl) ?_
    obtain ⟨ps_4, md_4, hli_4, hln_4, hel_4⟩ := LhP.at (Sub.self hv5)
    obtain ⟨x34, hx34⟩ := get_ex (xs := ps_4) (i := e) (by have := get_lt2 (show (dEs D)[e]? = some Ep from hE); have := hln_4.1; omega)
    have hE_5 := hel_4 _ _ _ hx34 (show (dEs D)[e]? = some Ep from hE)
    refine g_callV (q := 37) (is := [4]) (kc2 := 0) (ks2 := 0) B [.int (nI e)] (ct_J2_get_s g J (p := le) (xs := ps_4) (md := md_4) (cap := ecap) (i := e) (x := x34) (W0 := v5)  (hli_4) (hx34)) dX3_key_34 rfl (rc_in B (ci := 21) rfl (k := 4) rfl (LhP.hm hv5)) rfl q3231 q1095 q3667 q81 q1097 rfl rfl moJ2_get rfl rfl (by decide) (by decide) (Nat.le_of_ble_eq_true rfl) (Nat.le_of_ble_eq_true rfl) (Nat.le_of_ble_eq_true rfl) (fun _ _ hx => noX_x hx) (fun v34 L1 hp34 => ?_)
    obtain ⟨rfl, rfl⟩ := hp34
    refine (show Go g κ 37 [some (.ref m), some (.int (nI i))] [.ref x34, .ref ls] [v0, v1, v2, v4, v6, v7, [(m, .inr (12, [.ref ls, .ref lb, .ref lk, .ref lp, .ref lr, .ref le, .ref lm, .ref lo, .int (nI 0), .int (dZz D), .int (nI (dBn D)), .int (nI (dCm D))]))], v3, v5] 0 0 from ?_)
    refine g_castRS (ci := 16) (q := 40) B rfl (rc_in B (ci := 16) rfl (k := 8) rfl (Sub.hm (hE_5) fun _ z => EpP.hm z)) dX3_key_37 rfl q3243 ?_
    obtain ⟨ap_6, an_6, al_6, ac_6, aw_6, am_6, ak_6, fp_6, fn_6, fl_6, fc_6, fw_6, fm_6, fk_6, hE_6, hfp_6, hfn_6, hfl_6, hfc_6, hfw_6, hfm_6, hfk_6, hc_6_0, hc_6_1, hc_6_2, hc_6_3, hc_6_4, hc_6_5, hc_6_6, hc_6_7⟩ := EpP.at (hE_5)
    refine g_getNM (q := 43) B (ci := 16) (k := 8) (j := 3) in_X13 rfl dX3_key_40 rfl rfl (hc_6_0) (Nat.le_of_ble_eq_true rfl) q3259 rfl rfl ?_
    obtain ⟨ps_7, md_7, hli_7, hln_7, hel_7⟩ := LhP.at (Sub.self hv0)
    obtain ⟨x43, hx43⟩ := get_ex (xs := ps_7) (i := eKy Ep) (by have := get_lt2 (show (dSs D)[eKy Ep]? = some sx from hsx); have := hln_7.1; omega)
    have hE_8 := hel_7 _ _ _ hx43 (show (dSs D)[eKy Ep]? = some sx from hsx)
    refine g_callV (q := 46) (is := [0]) (kc2 := 0) (ks2 := 0) B [.int (nI (eKy Ep))] (ct_J2_get_s g J (p := ls) (xs := ps_7) (md := md_7) (cap := (capF (dSs D).length)) (i := eKy Ep) (x := x43) (W0 := v0)  (hli_7) (hx43)) dX3_key_43 rfl (rc_in B (ci := 21) rfl (k := 0) rfl (LhP.hm hv0)) rfl q3231 q1095 q3667 q81 q1097 rfl rfl moJ2_get rfl rfl (by decide) (by decide) (Nat.le_of_ble_eq_true rfl) (Nat.le_of_ble_eq_true rfl) (Nat.le_of_ble_eq_true rfl) (fun _ _ hx => noX_x hx) (fun v43 L1 hp43 => ?_)
    obtain ⟨rfl, rfl⟩ := hp43
    refine (show Go g κ 46 [some (.ref m), some (.int (nI i))] [.ref x43] [v1, v2, v4, v6, v7, [(m, .inr (12, [.ref ls, .ref lb, .ref lk, .ref lp, .ref lr, .ref le, .ref lm, .ref lo, .int (nI 0), .int (dZz D), .int (nI (dBn D)), .int (nI (dCm D))]))], v3, v5, v0] 0 0 from ?_)
    refine g_castRS (ci := 14) (q := 49) B rfl (rc_in B (ci := 14) rfl (k := 8) rfl (Sub.hm (hE_8) fun _ z => SecP.hm z)) dX3_key_46 rfl q3175 ?_
    obtain ⟨hS_9, hc_9_0⟩ := SecP.at (hE_8)
    refine g_getNM (q := 52) B (ci := 14) (k := 8) (j := 0) in_X8 rfl dX3_key_49 rfl rfl (hc_9_0) (Nat.le_of_ble_eq_true rfl) q3182 rfl rfl ?_
    obtain ⟨wc_10, ewc_10⟩ : ∃ w : va_W, w = ([[(m, .inr (12, [.ref ls, .ref lb, .ref lk, .ref lp, .ref lr, .ref le, .ref lm, .ref lo, .int (nI 0), .int (dZz D), .int (nI (dBn D)), .int (nI (dCm D))]))], v0, v1, v2, v3, v4, v5, v6, v7] : List va_W).flatten := ⟨_, rfl⟩
    have hwc_10 : KdP g m (dT D 0) wc_10 := by
      rw [ewc_10]
      exact ⟨ls, lb, lk, lp, lr, le, lm, lo, kcap, pcap, rcap, ecap, mcap, mks, mps, _, _, _, _, _, _, _, _, hcap, hv0, hv1, hv2, hv3, hv4, hv5, hv6, hv7, rfl⟩
    refine g_close (w := wc_10) [5, 7, 0, 0, 3, 0, 2, 0, 0] rfl ewc_10 rfl ?_
    refine (show Go g κ 52 [some (.ref m), some (.int (nI i))] [.int sx.1] [wc_10] 0 0 from ?_)
    exact g_iret B E dX3_key_52 (⟨0, vl (dSs D) (eKy Ep), _, by rw [vl_eq hsx], rfl, hwc_10, Or.inr ⟨i, r, rfl, hr, Or.inr ⟨rfl, e, Ep, he, hE, rfl⟩⟩⟩)
  · skip
    have c5 := Classical.not_not.mp c5
    refine g_iconst (v := nI 0) (q := 9) B dX3_key_8 rfl (by decide) ?_
    refine g_goto (tgt := 52) B dX3_key_9 (by decide) ?_
    obtain ⟨wc_11, ewc_11⟩ : ∃ w : va_W, w = ([[(m, .inr (12, [.ref ls, .ref lb, .ref lk, .ref lp, .ref lr, .ref le, .ref lm, .ref lo, .int (nI k2), .int (dZz D), .int (nI (dBn D)), .int (nI (dCm D))]))], v0, v1, v2, v3, v4, v5, v6, v7] : List va_W).flatten := ⟨_, rfl⟩
    have hwc_11 : KdP g m (dT D k2) wc_11 := by
      rw [ewc_11]
      exact ⟨ls, lb, lk, lp, lr, le, lm, lo, kcap, pcap, rcap, ecap, mcap, mks, mps, _, _, _, _, _, _, _, _, hcap, hv0, hv1, hv2, hv3, hv4, hv5, hv6, hv7, rfl⟩
    refine g_close (w := wc_11) [7, 0, 0, 0, 4, 0, 0, 0, 0] rfl ewc_11 rfl ?_
    refine (show Go g κ 52 [some (.ref m), some (.int v)] [.int (nI 0)] [wc_11] 0 0 from ?_)
    exact g_iret B E dX3_key_52 (⟨k2, nI 0, _, rfl, rfl, hwc_11, by rcases hk_2 with h | ⟨i, r, h1, h2, h | h⟩; exact Or.inl h; exact Or.inr ⟨i, r, h1, h2, Or.inl h⟩; exact absurd h.1 c5⟩)
theorem moX3_isMessage : Mo yX3_isMessage 1 := by
  refine ⟨by decide, by decide, by decide +kernel⟩
theorem ct_X3_messageOf (g : Gv) (J : Jd g) {m : Nat} {D : MdS} {v : Int32} {c : Nat} {w0 : va_W} (hw0 : KdP g m D w0) (hD : MdB D) (hc : c < 65536) : Ct g yX3_messageOf (ws_ yX3_messageOf cX3_messageOf 4 (some .int)) 7 0 0 [.ref m, .int v, .int (nI c)] [w0] (fun (rv_ : Option Value) (rL_ : List va_W) => ∃ (k : Nat) (x : Int32) (u0 : va_W), rv_ = some (.int x) ∧ rL_ = [u0] ∧ KdP g m (dT D k) u0 ∧ ((k = 1 ∧ ¬ inR v (dMs D).length = true) ∨ (inR v (dMs D).length = true ∧ k = 2 ∧ elpI c = none) ∨ (k = 0 ∧ ¬ elpI c = none ∧ ∃ (i : Nat) (r : MmS), v = nI i ∧ (dMs D)[i]? = some r ∧ x = nI (if c = 101 then r.1 else if c = 108 then r.2.1 else r.2.2.1)))) noX := by
  refine Ct.of "KeygroveModel" [some (.ref m), some (.int v), some (.int (nI c)), none] rfl (by decide) rfl (Nat.le_of_ble_eq_true rfl) rfl ?_
  intro κ B E tb
  have hD0 := hD
  obtain ⟨hd1, hd2, hd3, hd4, hd5, hd6, hd7, hd8, hd9⟩ := hD0
  obtain ⟨ls, lb, lk, lp, lr, le, lm, lo, kcap, pcap, rcap, ecap, mcap, mks, mps, v0, v1, v2, v3, v4, v5, v6, v7, hcap, hv0, hv1, hv2, hv3, hv4, hv5, hv6, hv7, rfl⟩ := hw0
  refine g_open 0 rfl rfl rfl ?_
  refine (show Go g κ 0 [some (.ref m), some (.int v), some (.int (nI c)), none] [] [[(m, .inr (12, [.ref ls, .ref lb, .ref lk, .ref lp, .ref lr, .ref le, .ref lm, .ref lo, .int (nI (dTh D)), .int (dZz D), .int (nI (dBn D)), .int (nI (dCm D))]))], v0, v1, v2, v3, v4, v5, v6, v7] 0 0 from ?_)
  obtain ⟨kc1, kc2, kc3, kc4, kc5⟩ := (show capM kcap pcap rcap ecap mcap from hcap)
  refine g_aload_n (q := 1) B dX3_messageOf_0 rfl rfl (rv_r _) ?_
  refine g_aload_n (q := 2) B dX3_messageOf_1 rfl rfl (rv_r _) ?_
  refine g_iload_n (q := 3) B dX3_messageOf_2 rfl rfl ?_
  refine g_callV (q := 6) (is := [0, 6]) (kc2 := 0) (ks2 := 0) B [.int v] (ct_X3_isMessage g J (m := m) (ls := ls) (lb := lb) (lk := lk) (lp := lp) (lr := lr) (le := le) (lm := lm) (lo := lo) (th := dTh D) (z := dZz D) (bo := dBn D) (cm := dCm D) (Ms := (dMs D)) (mcap := mcap) (v := v) hv6 (by omega)) dX3_messageOf_3 rfl (rc_at B (ci := 12) rfl (k := 0) rfl) rfl q3592 q3594 qs73 q85 q3595 rfl rfl moX3_isMessage rfl rfl (by decide) (by decide) (Nat.le_of_ble_eq_true rfl) (Nat.le_of_ble_eq_true rfl) (Nat.le_of_ble_eq_true rfl) (fun _ _ hx => noX_x hx) (fun v3 L1 hp3 => ?_)
  obtain ⟨rfl, rfl⟩ := hp3
  refine (show Go g κ 6 [some (.ref m), some (.int v), some (.int (nI c)), none] [.int (nI (if inR v (dMs D).length = true then 1 else 0)), .ref m] [v0, v1, v2, v3, v4, v5, v7, [(m, .inr (12, [.ref ls, .ref lb, .ref lk, .ref lp, .ref lr, .ref le, .ref lm, .ref lo, .int (nI (dTh D)), .int (dZz D), .int (nI (dBn D)), .int (nI (dCm D))]))], v6] 0 0 from ?_)
  refine g_if_ne (tgt := 13) (q := 9) B dX3_messageOf_6 rfl (by decide) (bo_ne) (fun c6 => ?_) (fun c6 => ?_)
  · skip
    refine g_ldcSw (q := 16) B J.2.2.2.2.2.2.1.2.1 dX3_messageOf_13 rfl ?_
    refine g_iload_n (q := 17) B dX3_messageOf_16 rfl rfl ?_
    refine g_callV (q := 20) (is := []) (kc2 := 0) (ks2 := 0) B [.int (nI c)] (ct_J16_indexOf g J (k := c)  (by first | assumption | omega | rfl)) dX3_messageOf_17 rfl (rc_O B J.2.2.2.2.2.2.1.2.2.1) rfl q3602 q2921 q2922 q99 q2923 rfl rfl moJ16_indexOf rfl rfl (by decide) (by decide) (Nat.le_of_ble_eq_true rfl) (Nat.le_of_ble_eq_true rfl) (Nat.le_of_ble_eq_true rfl) (fun _ _ hx => noX_x hx) (fun v17 L1 hp17 => ?_)
    obtain ⟨rfl, rfl⟩ := hp17
    refine (show Go g κ 20 [some (.ref m), some (.int v), some (.int (nI c)), none] [.int (oI (elpI c)), .ref m] [v0, v1, v2, v3, v4, v5, v7, [(m, .inr (12, [.ref ls, .ref lb, .ref lk, .ref lp, .ref lr, .ref le, .ref lm, .ref lo, .int (nI (dTh D)), .int (dZz D), .int (nI (dBn D)), .int (nI (dCm D))]))], v6] 0 0 from ?_)
    refine g_if_ge (tgt := 27) (q := 23) B dX3_messageOf_20 rfl (by decide) (oI_ge ((fun n h => by have := elpI_b h; omega))) (fun c20 => ?_) (fun c20 => ?_)
    · skip
      obtain ⟨v20, ev20⟩ := Option.ne_none_iff_exists'.mp c20
      refine g_iconst (v := nI 0) (q := 28) B dX3_messageOf_27 rfl (by decide) ?_
      refine g_callV (q := 31) (is := [7]) (kc2 := 0) (ks2 := 0) B [.int (nI 0)] (ct_X3_isWrong g J (m := m) (ls := ls) (lb := lb) (lk := lk) (lp := lp) (lr := lr) (le := le) (lm := lm) (lo := lo) (th := (dTh D)) (z := (dZz D)) (bo := (dBn D)) (cm := (dCm D)) (k := 0)  (by decide)) dX3_messageOf_28 rfl (rc_at B (ci := 12) rfl (k := 7) rfl) rfl q3103 q3105 qs49 q85 q3106 rfl rfl moX3_isWrong rfl rfl (by decide) (by decide) (Nat.le_of_ble_eq_true rfl) (Nat.le_of_ble_eq_true rfl) (Nat.le_of_ble_eq_true rfl) (fun _ _ hx => noX_x hx) (fun v28 L1 hp28 => ?_)
      obtain ⟨rfl, rfl⟩ := hp28
      refine (show Go g κ 31 [some (.ref m), some (.int v), some (.int (nI c)), none] [.int (nI (if ¬ 0 = 0 then 1 else 0))] [v0, v1, v2, v3, v4, v5, v7, v6, [(m, .inr (12, [.ref ls, .ref lb, .ref lk, .ref lp, .ref lr, .ref le, .ref lm, .ref lo, .int (nI 0), .int (dZz D), .int (nI (dBn D)), .int (nI (dCm D))]))]] 0 0 from ?_)
      refine g_if_eq (tgt := 36) (q := 34) B dX3_messageOf_31 rfl (by decide) (iff_true_intro (by decide)) (fun _ => ?_) (fun z => absurd trivial z)
      obtain ⟨i, hii, rfl⟩ := inR_t c6
      refine (show Go g κ 36 [some (.ref m), some (.int (nI i)), some (.int (nI c)), none] [] [v0, v1, v2, v3, v4, v5, v7, v6, [(m, .inr (12, [.ref ls, .ref lb, .ref lk, .ref lp, .ref lr, .ref le, .ref lm, .ref lo, .int (nI 0), .int (dZz D), .int (nI (dBn D)), .int (nI (dCm D))]))]] 0 0 from ?_)
      refine g_aload_n (q := 37) B dX3_messageOf_36 rfl rfl (rv_r _) ?_
      refine g_get (q := 40) B (ci := 12) (k := 8) (j := 6) in_X3 rfl dX3_messageOf_37 rfl rfl (Nat.le_of_ble_eq_true rfl) q3063 rfl rfl ?_
      refine g_iload_n (q := 41) B dX3_messageOf_40 rfl rfl ?_
      obtain ⟨ps_1, md_1, hli_1, hln_1, hel_1⟩ := LhP.at (Sub.self hv6)
      obtain ⟨r41, hr41⟩ := get_ex (xs := (dMs D)) (i := i) (by omega)
      obtain ⟨x41, hx41⟩ := get_ex (xs := ps_1) (i := i) (by have := get_lt2 hr41; have := hln_1.1; omega)
      have hE_2 := hel_1 _ _ _ hx41 hr41
      refine g_callV (q := 44) (is := [7]) (kc2 := 0) (ks2 := 0) B [.int (nI i)] (ct_J2_get_s g J (p := lm) (xs := ps_1) (md := md_1) (cap := mcap) (i := i) (x := x41) (W0 := v6)  (hli_1) (hx41)) dX3_messageOf_41 rfl (rc_in B (ci := 21) rfl (k := 7) rfl (LhP.hm hv6)) rfl q3231 q1095 q3667 q81 q1097 rfl rfl moJ2_get rfl rfl (by decide) (by decide) (Nat.le_of_ble_eq_true rfl) (Nat.le_of_ble_eq_true rfl) (Nat.le_of_ble_eq_true rfl) (fun _ _ hx => noX_x hx) (fun v41 L1 hp41 => ?_)
      obtain ⟨rfl, rfl⟩ := hp41
      refine (show Go g κ 44 [some (.ref m), some (.int (nI i)), some (.int (nI c)), none] [.ref x41] [v0, v1, v2, v3, v4, v5, v7, [(m, .inr (12, [.ref ls, .ref lb, .ref lk, .ref lp, .ref lr, .ref le, .ref lm, .ref lo, .int (nI 0), .int (dZz D), .int (nI (dBn D)), .int (nI (dCm D))]))], v6] 0 0 from ?_)
      refine g_castRS (ci := 20) (q := 47) B rfl (rc_in B (ci := 20) rfl (k := 8) rfl (Sub.hm (hE_2) fun _ z => MmP.hm z)) dX3_messageOf_44 rfl q3562 ?_
      refine g_astore_n (q := 48) (lv2 := [some (.ref m), some (.int (nI i)), some (.int (nI c)), some (.ref x41)]) B dX3_messageOf_47 rfl (Nat.le_of_ble_eq_true rfl) (rv_r _) rfl ?_
      refine g_iload_n (q := 49) B dX3_messageOf_48 rfl rfl ?_
      refine g_bipush (v := nI 101) (q := 51) B dX3_messageOf_49 rfl (by decide) ?_
      refine g_icmp_ne (tgt := 61) (q := 54) B dX3_messageOf_51 rfl (by decide) (not_congr (nI_eq (by omega) (by omega))) (fun c51 => ?_) (fun c51 => ?_)
      · skip
        refine g_iload_n (q := 62) B dX3_messageOf_61 rfl rfl ?_
        refine g_bipush (v := nI 108) (q := 64) B dX3_messageOf_62 rfl (by decide) ?_
        refine g_icmp_ne (tgt := 74) (q := 67) B dX3_messageOf_64 rfl (by decide) (not_congr (nI_eq (by omega) (by omega))) (fun c64 => ?_) (fun c64 => ?_)
        · skip
          refine g_aload_n (q := 75) B dX3_messageOf_74 rfl rfl (rv_r _) ?_
          have hc_3_0 := MmP.at (hE_2)
          refine g_getNM (q := 78) B (ci := 20) (k := 8) (j := 2) in_X22 rfl dX3_messageOf_75 rfl rfl (hc_3_0) (Nat.le_of_ble_eq_true rfl) q3573 rfl rfl ?_
          obtain ⟨wc_4, ewc_4⟩ : ∃ w : va_W, w = ([[(m, .inr (12, [.ref ls, .ref lb, .ref lk, .ref lp, .ref lr, .ref le, .ref lm, .ref lo, .int (nI 0), .int (dZz D), .int (nI (dBn D)), .int (nI (dCm D))]))], v0, v1, v2, v3, v4, v5, v6, v7] : List va_W).flatten := ⟨_, rfl⟩
          have hwc_4 : KdP g m (dT D 0) wc_4 := by
            rw [ewc_4]
            exact ⟨ls, lb, lk, lp, lr, le, lm, lo, kcap, pcap, rcap, ecap, mcap, mks, mps, _, _, _, _, _, _, _, _, hcap, hv0, hv1, hv2, hv3, hv4, hv5, hv6, hv7, rfl⟩
          refine g_close (w := wc_4) [7, 0, 0, 0, 0, 0, 0, 1, 0] rfl ewc_4 rfl ?_
          refine (show Go g κ 78 [some (.ref m), some (.int (nI i)), some (.int (nI c)), some (.ref x41)] [.int (nI r41.2.2.1)] [wc_4] 0 0 from ?_)
          exact g_iret B E dX3_messageOf_78 (⟨0, _, _, rfl, rfl, hwc_4, Or.inr (Or.inr ⟨rfl, by rw [ev20]; simp, i, r41, rfl, hr41, by rw [if_neg c51, if_neg c64]⟩)⟩)
        · skip
          have c64 := Classical.not_not.mp c64
          refine g_aload_n (q := 68) B dX3_messageOf_67 rfl rfl (rv_r _) ?_
          have hc_5_0 := MmP.at (hE_2)
          refine g_getNM (q := 71) B (ci := 20) (k := 8) (j := 1) in_X22 rfl dX3_messageOf_68 rfl rfl (hc_5_0) (Nat.le_of_ble_eq_true rfl) q3571 rfl rfl ?_
          refine g_goto (tgt := 78) B dX3_messageOf_71 (by decide) ?_
          obtain ⟨wc_6, ewc_6⟩ : ∃ w : va_W, w = ([[(m, .inr (12, [.ref ls, .ref lb, .ref lk, .ref lp, .ref lr, .ref le, .ref lm, .ref lo, .int (nI 0), .int (dZz D), .int (nI (dBn D)), .int (nI (dCm D))]))], v0, v1, v2, v3, v4, v5, v6, v7] : List va_W).flatten := ⟨_, rfl⟩
          have hwc_6 : KdP g m (dT D 0) wc_6 := by
            rw [ewc_6]
            exact ⟨ls, lb, lk, lp, lr, le, lm, lo, kcap, pcap, rcap, ecap, mcap, mks, mps, _, _, _, _, _, _, _, _, hcap, hv0, hv1, hv2, hv3, hv4, hv5, hv6, hv7, rfl⟩
          refine g_close (w := wc_6) [7, 0, 0, 0, 0, 0, 0, 1, 0] rfl ewc_6 rfl ?_
          refine (show Go g κ 78 [some (.ref m), some (.int (nI i)), some (.int (nI c)), some (.ref x41)] [.int (nI r41.2.1)] [wc_6] 0 0 from ?_)
          exact g_iret B E dX3_messageOf_78 (⟨0, _, _, rfl, rfl, hwc_6, Or.inr (Or.inr ⟨rfl, by rw [ev20]; simp, i, r41, rfl, hr41, by rw [if_neg c51, if_pos c64]⟩)⟩)
      · skip
        have c51 := Classical.not_not.mp c51
        refine g_aload_n (q := 55) B dX3_messageOf_54 rfl rfl (rv_r _) ?_
        have hc_7_0 := MmP.at (hE_2)
        refine g_getNM (q := 58) B (ci := 20) (k := 8) (j := 0) in_X22 rfl dX3_messageOf_55 rfl rfl (hc_7_0) (Nat.le_of_ble_eq_true rfl) q3569 rfl rfl ?_
        refine g_goto (tgt := 78) B dX3_messageOf_58 (by decide) ?_
        obtain ⟨wc_8, ewc_8⟩ : ∃ w : va_W, w = ([[(m, .inr (12, [.ref ls, .ref lb, .ref lk, .ref lp, .ref lr, .ref le, .ref lm, .ref lo, .int (nI 0), .int (dZz D), .int (nI (dBn D)), .int (nI (dCm D))]))], v0, v1, v2, v3, v4, v5, v6, v7] : List va_W).flatten := ⟨_, rfl⟩
        have hwc_8 : KdP g m (dT D 0) wc_8 := by
          rw [ewc_8]
          exact ⟨ls, lb, lk, lp, lr, le, lm, lo, kcap, pcap, rcap, ecap, mcap, mks, mps, _, _, _, _, _, _, _, _, hcap, hv0, hv1, hv2, hv3, hv4, hv5, hv6, hv7, rfl⟩
        refine g_close (w := wc_8) [7, 0, 0, 0, 0, 0, 0, 1, 0] rfl ewc_8 rfl ?_
        refine (show Go g κ 78 [some (.ref m), some (.int (nI i)), some (.int (nI c)), some (.ref x41)] [.int (nI r41.1)] [wc_8] 0 0 from ?_)
        exact g_iret B E dX3_messageOf_78 (⟨0, _, _, rfl, rfl, hwc_8, Or.inr (Or.inr ⟨rfl, by rw [ev20]; simp, i, r41, rfl, hr41, by rw [if_pos c51]⟩)⟩)
    · skip
      have c20 := Classical.not_not.mp c20
      refine g_iconst (v := nI 2) (q := 24) B dX3_messageOf_23 rfl (by decide) ?_
      refine g_goto (tgt := 28) B dX3_messageOf_24 (by decide) ?_
      refine g_callV (q := 31) (is := [7]) (kc2 := 0) (ks2 := 0) B [.int (nI 2)] (ct_X3_isWrong g J (m := m) (ls := ls) (lb := lb) (lk := lk) (lp := lp) (lr := lr) (le := le) (lm := lm) (lo := lo) (th := (dTh D)) (z := (dZz D)) (bo := (dBn D)) (cm := (dCm D)) (k := 2)  (by decide)) dX3_messageOf_28 rfl (rc_at B (ci := 12) rfl (k := 7) rfl) rfl q3103 q3105 qs49 q85 q3106 rfl rfl moX3_isWrong rfl rfl (by decide) (by decide) (Nat.le_of_ble_eq_true rfl) (Nat.le_of_ble_eq_true rfl) (Nat.le_of_ble_eq_true rfl) (fun _ _ hx => noX_x hx) (fun v28 L1 hp28 => ?_)
      obtain ⟨rfl, rfl⟩ := hp28
      refine (show Go g κ 31 [some (.ref m), some (.int v), some (.int (nI c)), none] [.int (nI (if ¬ 2 = 0 then 1 else 0))] [v0, v1, v2, v3, v4, v5, v7, v6, [(m, .inr (12, [.ref ls, .ref lb, .ref lk, .ref lp, .ref lr, .ref le, .ref lm, .ref lo, .int (nI 2), .int (dZz D), .int (nI (dBn D)), .int (nI (dCm D))]))]] 0 0 from ?_)
      refine g_if_eq (tgt := 36) (q := 34) B dX3_messageOf_31 rfl (by decide) (iff_false_intro (by decide)) (fun z => z.elim) (fun _ => ?_)
      refine g_iconst (v := nI 0) (q := 35) B dX3_messageOf_34 rfl (by decide) ?_
      obtain ⟨wc_9, ewc_9⟩ : ∃ w : va_W, w = ([[(m, .inr (12, [.ref ls, .ref lb, .ref lk, .ref lp, .ref lr, .ref le, .ref lm, .ref lo, .int (nI 2), .int (dZz D), .int (nI (dBn D)), .int (nI (dCm D))]))], v0, v1, v2, v3, v4, v5, v6, v7] : List va_W).flatten := ⟨_, rfl⟩
      have hwc_9 : KdP g m (dT D 2) wc_9 := by
        rw [ewc_9]
        exact ⟨ls, lb, lk, lp, lr, le, lm, lo, kcap, pcap, rcap, ecap, mcap, mks, mps, _, _, _, _, _, _, _, _, hcap, hv0, hv1, hv2, hv3, hv4, hv5, hv6, hv7, rfl⟩
      refine g_close (w := wc_9) [8, 0, 0, 0, 0, 0, 0, 1, 0] rfl ewc_9 rfl ?_
      refine (show Go g κ 35 [some (.ref m), some (.int v), some (.int (nI c)), none] [.int (nI 0)] [wc_9] 0 0 from ?_)
      exact g_iret B E dX3_messageOf_35 (⟨2, nI 0, _, rfl, rfl, hwc_9, Or.inr (Or.inl ⟨c6, rfl, c20⟩)⟩)
  · skip
    refine g_iconst (v := nI 1) (q := 10) B dX3_messageOf_9 rfl (by decide) ?_
    refine g_goto (tgt := 28) B dX3_messageOf_10 (by decide) ?_
    refine g_callV (q := 31) (is := [7]) (kc2 := 0) (ks2 := 0) B [.int (nI 1)] (ct_X3_isWrong g J (m := m) (ls := ls) (lb := lb) (lk := lk) (lp := lp) (lr := lr) (le := le) (lm := lm) (lo := lo) (th := (dTh D)) (z := (dZz D)) (bo := (dBn D)) (cm := (dCm D)) (k := 1)  (by decide)) dX3_messageOf_28 rfl (rc_at B (ci := 12) rfl (k := 7) rfl) rfl q3103 q3105 qs49 q85 q3106 rfl rfl moX3_isWrong rfl rfl (by decide) (by decide) (Nat.le_of_ble_eq_true rfl) (Nat.le_of_ble_eq_true rfl) (Nat.le_of_ble_eq_true rfl) (fun _ _ hx => noX_x hx) (fun v28 L1 hp28 => ?_)
    obtain ⟨rfl, rfl⟩ := hp28
    refine (show Go g κ 31 [some (.ref m), some (.int v), some (.int (nI c)), none] [.int (nI (if ¬ 1 = 0 then 1 else 0))] [v0, v1, v2, v3, v4, v5, v7, v6, [(m, .inr (12, [.ref ls, .ref lb, .ref lk, .ref lp, .ref lr, .ref le, .ref lm, .ref lo, .int (nI 1), .int (dZz D), .int (nI (dBn D)), .int (nI (dCm D))]))]] 0 0 from ?_)
    refine g_if_eq (tgt := 36) (q := 34) B dX3_messageOf_31 rfl (by decide) (iff_false_intro (by decide)) (fun z => z.elim) (fun _ => ?_)
    refine g_iconst (v := nI 0) (q := 35) B dX3_messageOf_34 rfl (by decide) ?_
    obtain ⟨wc_10, ewc_10⟩ : ∃ w : va_W, w = ([[(m, .inr (12, [.ref ls, .ref lb, .ref lk, .ref lp, .ref lr, .ref le, .ref lm, .ref lo, .int (nI 1), .int (dZz D), .int (nI (dBn D)), .int (nI (dCm D))]))], v0, v1, v2, v3, v4, v5, v6, v7] : List va_W).flatten := ⟨_, rfl⟩
    have hwc_10 : KdP g m (dT D 1) wc_10 := by
      rw [ewc_10]
      exact ⟨ls, lb, lk, lp, lr, le, lm, lo, kcap, pcap, rcap, ecap, mcap, mks, mps, _, _, _, _, _, _, _, _, hcap, hv0, hv1, hv2, hv3, hv4, hv5, hv6, hv7, rfl⟩
    refine g_close (w := wc_10) [8, 0, 0, 0, 0, 0, 0, 1, 0] rfl ewc_10 rfl ?_
    refine (show Go g κ 35 [some (.ref m), some (.int v), some (.int (nI c)), none] [.int (nI 0)] [wc_10] 0 0 from ?_)
    exact g_iret B E dX3_messageOf_35 (⟨1, nI 0, _, rfl, rfl, hwc_10, Or.inl ⟨rfl, c6⟩⟩)
