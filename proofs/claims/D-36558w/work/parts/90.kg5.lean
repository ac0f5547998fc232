set_option maxRecDepth 100000
theorem ct_X1_listOf_s (g : Gv) (J : Jd g) {so : Nat} {S : Nat → Bool} {cap : Nat} {n : Nat} {W0 : va_W} (hS0 : Sub (SetP g so S cap) W0) (hSn : ∀ x, S x = true → x < n) (hn : n ≤ 1000) : Ct g yX1_listOf (ws_ yX1_listOf cX1_listOf 3 (some (.object "java/util/List"))) 8 (1 + n + capF n / 5) (3 + n + 4 * capF n) [.ref so] [W0] (fun (rv_ : Option Value) (rL_ : List va_W) => ∃ (p : Nat) (vs : List Nat) (u1 : va_W), rv_ = some (.ref p) ∧ rL_ = [W0, u1] ∧ LhP g (BxE g) p vs (capF vs.length) u1 ∧ (∀ v, v ∈ vs ↔ S v = true) ∧ (vs.length ≤ n)) noX := by
  obtain ⟨w_, R_, hp_, hw_⟩ := hS0
  refine Ct.lift (ct_X1_listOf g J (so := so) (S := S) (cap := cap) (n := n) hw_ hSn hn) [R_] ?_ ?_
  · refine sub_in 0 rfl hp_ rfl
  · rintro v L ⟨p, vs, u1, e1, rfl, hu1, hvs, hvl⟩
    exact ⟨_, [], sub_out 0 rfl hp_ rfl, ⟨p, vs, u1, e1, rfl, hu1, hvs, hvl⟩⟩
theorem ct_X1_canFind (g : Gv) (J : Jd g) {x : Nat} {C : KsS} {v : Int32} {u : Int32} {ev : Bool} {w0 : va_W} (hw0 : KgP g x C w0) (hC : KsB C) (hky : ∀ (e : Nat) (s : StS), (zSt C)[e]? = some s → s.2.2.1 < (zSs C).length ∧ ∃ ky, fnd (zSs C) (s.2.2.1, none, 6) = some ky) : Ct g yX1_canFind (ws_ yX1_canFind cX1_canFind 5 (some .boolean)) 14 1600 7400 [.ref x, .int v, .int u, .int (nI (if ev = true then 1 else 0))] [w0] (fun (rv_ : Option Value) (rL_ : List va_W) => ∃ (i : Nat) (r : PeS) (j : Nat) (sx : StS) (ky : Nat) (K : Nat → Bool) (u0 : va_W), rv_ = some (.int (nI (if K ky = true then 1 else 0))) ∧ rL_ = [u0] ∧ KgP g x C u0 ∧ (v = nI i) ∧ ((zPs C)[i]? = some r) ∧ (u = nI j) ∧ (j < (zTs C).length) ∧ ((zSt C)[j]? = some sx) ∧ (fnd (zSs C) (sx.2.2.1, none, 6) = some ky) ∧ (∀ x, K x = true ↔ ClQ (zSs C) (zBx C) (fun y => if ev = true then pEv r y = true else helP (zKs C) r y) x)) (fun (rE_ : String) (rL_ : List va_W) => rL_ = [w0] ∧ ((rE_ = "java/lang/IndexOutOfBoundsException" ∧ (¬ (inR v (zPs C).length = true ∧ inR u (zTs C).length = true))))) := by
  refine Ct.of "Keygrove" [some (.ref x), some (.int v), some (.int u), some (.int (nI (if ev = true then 1 else 0))), none] rfl (by decide) rfl (Nat.le_of_ble_eq_true rfl) rfl ?_
  intro κ B E tb
  have hC0 := hC
  obtain ⟨hc1, hc2, hc3, hc4, hc5, hc6, hc7, hc8, hc9, hc10, hc11⟩ := hC0
  obtain ⟨b, lp, lk, lr, lt, ls, lm, so, pcap, kcap, rcap, tcap, scap, mcap, socap, ps, pks, pmd, v0, v1, v2, v3, v4, v5, v6, v7, hcap, hv0, hv1, hv2, hv3, hv4, hv5, hv6, hv7, rfl⟩ := hw0
  refine g_open 0 rfl rfl rfl ?_
  refine (show Go g κ 0 [some (.ref x), some (.int v), some (.int u), some (.int (nI (if ev = true then 1 else 0))), none] [] [[(x, .inr (0, [.ref b, .ref lp, .ref lk, .ref lr, .ref lt, .ref ls, .ref lm, .ref so, .int (nI (zBn C))]))], v0, v1, v2, v3, v4, v5, v6, v7] 1600 7400 from ?_)
  have hcf := capF_le (zSs C).length
  refine g_aload_n (q := 1) B dX1_canFind_0 rfl rfl (rv_r _) ?_
  refine g_iload_n (q := 2) B dX1_canFind_1 rfl rfl ?_
  refine g_callV (q := 5) (is := [0, 1]) (kc2 := 1599) (ks2 := 7394) B [.int v] (ct_X1_personWith g J (x := x) (lk := lk) (b := b) (lp := lp) (lr := lr) (lt := lt) (ls := ls) (lm := lm) (so := so) (bxs := zBn C) (ps := ps) (Ps := (zPs C)) (pcap := pcap) (pks := pks) (pmd := pmd) (v := v) hv1 (by first | assumption | omega | rfl)) dX1_canFind_2 rfl (rc_at B (ci := 0) rfl (k := 0) rfl) rfl q1961 q1963 qs15 q77 q1964 rfl rfl moX1_personWith rfl rfl (by decide) (by decide) (Nat.le_of_ble_eq_true rfl) (Nat.le_of_ble_eq_true rfl) (Nat.le_of_ble_eq_true rfl) (fun E2 L1 hx2 => ?_) (fun v2 L1 hp2 => ?_)
  · skip
    obtain ⟨rfl, hx2⟩ := hx2
    obtain ⟨rfl, hx2⟩ := hx2
    refine gx_cl [7, 0, 6, 0, 0, 0, 0, 0, 0] rfl ?_
    exact g_out B E tb (by first | exact ⟨rfl, ⟨rfl, hx2⟩⟩ | exact ⟨rfl, ⟨rfl, fun z => hx2 z.1⟩⟩ | exact ⟨rfl, ⟨rfl, by simp_all⟩⟩)
  obtain ⟨i2, a2, r2, rfl, rfl, hv_2, ha_2, hr_2⟩ := hp2
  refine (show Go g κ 5 [some (.ref x), some (.int v), some (.int u), some (.int (nI (if ev = true then 1 else 0))), none] [.ref a2] [v0, v2, v3, v4, v5, v6, v7, [(x, .inr (0, [.ref b, .ref lp, .ref lk, .ref lr, .ref lt, .ref ls, .ref lm, .ref so, .int (nI (zBn C))]))], v1] 1599 7394 from ?_)
  refine g_astore (q := 7) (lv2 := [some (.ref x), some (.int v), some (.int u), some (.int (nI (if ev = true then 1 else 0))), some (.ref a2)]) B dX1_canFind_5 rfl (Nat.le_of_ble_eq_true rfl) (rv_r _) rfl ?_
  subst hv_2
  obtain ⟨hli_1, hln_1, hel_1⟩ := PersL.at (Sub.self hv1)
  have hE_2 := hel_1 _ _ _ ha_2 hr_2
  refine (show Go g κ 7 [some (.ref x), some (.int (nI i2)), some (.int u), some (.int (nI (if ev = true then 1 else 0))), some (.ref a2)] [] [v0, v2, v3, v4, v5, v6, v7, [(x, .inr (0, [.ref b, .ref lp, .ref lk, .ref lr, .ref lt, .ref ls, .ref lm, .ref so, .int (nI (zBn C))]))], v1] 1599 7394 from ?_)
  refine g_aload_n (q := 8) B dX1_canFind_7 rfl rfl (rv_r _) ?_
  refine g_iload_n (q := 9) B dX1_canFind_8 rfl rfl ?_
  refine g_callV (q := 12) (is := [7, 3]) (kc2 := 1598) (ks2 := 7388) B [.int u] (ct_X1_hasEpoch g J (x := x) (lk := lk) (b := b) (lp := lp) (lr := lr) (lt := lt) (ls := ls) (lm := lm) (so := so) (bxs := (zBn C)) (Ts := (zTs C)) (tcap := tcap) (v := u) hv4 (by first | assumption | omega | rfl)) dX1_canFind_9 rfl (rc_at B (ci := 0) rfl (k := 7) rfl) rfl q2376 q2378 qs28 q77 q2379 rfl rfl moX1_hasEpoch rfl rfl (by decide) (by decide) (Nat.le_of_ble_eq_true rfl) (Nat.le_of_ble_eq_true rfl) (Nat.le_of_ble_eq_true rfl) (fun E9 L1 hx9 => ?_) (fun v9 L1 hp9 => ?_)
  · skip
    obtain ⟨rfl, hx9⟩ := hx9
    obtain ⟨rfl, hx9⟩ := hx9
    refine gx_cl [7, 0, 5, 0, 0, 3, 0, 0, 0] rfl ?_
    exact g_out B E tb (by first | exact ⟨rfl, ⟨rfl, hx9⟩⟩ | exact ⟨rfl, ⟨rfl, fun z => hx9 z.2⟩⟩ | exact ⟨rfl, ⟨rfl, by simp_all⟩⟩)
  obtain ⟨i9, rfl, rfl, hv_9, hi_9⟩ := hp9
  refine (show Go g κ 12 [some (.ref x), some (.int (nI i2)), some (.int u), some (.int (nI (if ev = true then 1 else 0))), some (.ref a2)] [] [v0, v2, v3, v5, v6, v7, v1, [(x, .inr (0, [.ref b, .ref lp, .ref lk, .ref lr, .ref lt, .ref ls, .ref lm, .ref so, .int (nI (zBn C))]))], v4] 1598 7388 from ?_)
  subst hv_9
  refine (show Go g κ 12 [some (.ref x), some (.int (nI i2)), some (.int (nI i9)), some (.int (nI (if ev = true then 1 else 0))), some (.ref a2)] [] [v0, v2, v3, v5, v6, v7, v1, [(x, .inr (0, [.ref b, .ref lp, .ref lk, .ref lr, .ref lt, .ref ls, .ref lm, .ref so, .int (nI (zBn C))]))], v4] 1598 7388 from ?_)
  refine g_aload_n (q := 13) B dX1_canFind_12 rfl rfl (rv_r _) ?_
  refine g_get (q := 16) B (ci := 0) (k := 7) (j := 0) in_X1 rfl dX1_canFind_13 rfl rfl (Nat.le_of_ble_eq_true rfl) q277 rfl rfl ?_
  refine g_iload_n (q := 17) B dX1_canFind_16 rfl rfl ?_
  refine g_if_eq (tgt := 28) (q := 20) B dX1_canFind_17 rfl (by decide) (bo_eq) (fun c17 => ?_) (fun c17 => ?_)
  · skip
    have hev := c17
    refine g_aload (q := 30) B dX1_canFind_28 rfl rfl (rv_r _) ?_
    refine g_callV (q := 33) (is := [6, 1]) (kc2 := 1522) (ks2 := 7178) B [] (ct_X4_held_L g J (lp := lp) (pps := ps) (Ps := (zPs C)) (pcp := pcap) (ix := i2) (pmd := pmd) (a := a2) (x := x) (pks := pks) (r := r2) (lk := lk) (Ks := (zKs C)) (kcap := kcap) hv1 hv2 (by first | assumption | omega | rfl) (by first | assumption | omega | rfl) ((hc11 _ _ hr_2).2.1)) dX1_canFind_30 rfl (rc_in B (ci := 2) rfl (k := 6) rfl (Sub.hm (hE_2) fun _ z => PersP.hm z)) rfl q1162 q1163 q1164 q90 q1165 rfl rfl moX4_held rfl rfl (by decide) (by decide) (Nat.le_of_ble_eq_true rfl) (Nat.le_of_ble_eq_true rfl) (Nat.le_of_ble_eq_true rfl) (fun _ _ hx => noX_x hx) (fun v30 L1 hp30 => ?_)
    obtain ⟨b30, S30, cap30, u0_30, u2_30, rfl, rfl, hu0_30, hu2_30, hS_30, hcap_30⟩ := hp30
    refine (show Go g κ 33 [some (.ref x), some (.int (nI i2)), some (.int (nI i9)), some (.int (nI (if ev = true then 1 else 0))), some (.ref a2)] [.ref b30, .ref b] [v0, v3, v5, v6, v7, [(x, .inr (0, [.ref b, .ref lp, .ref lk, .ref lr, .ref lt, .ref ls, .ref lm, .ref so, .int (nI (zBn C))]))], v4, u0_30, v2, u2_30] 1522 7178 from ?_)
    have hSn := fun x h => (hc11 _ _ hr_2).2.2.1 x ((hS_30 x).mp h)
    refine g_callS (q := 36) (is := [9]) (kc2 := 300) (ks2 := 600) B [.ref b30] (ct_X1_listOf g J (so := b30) (S := S30) (cap := cap30) (n := (zSs C).length) hu2_30 (hSn) (by omega)) dX1_canFind_33 rfl q332 q333 q77 q334 rfl rfl moX1_listOf rfl rfl (by decide) (by decide) (Nat.le_of_ble_eq_true rfl) (by omega) (by omega) (fun _ _ hx => noX_x hx) (fun v33 L1 hp33 => ?_)
    obtain ⟨p33, vs33, u1_33, rfl, rfl, hu1_33, hvs_33, hvl_33⟩ := hp33
    refine (show Go g κ 36 [some (.ref x), some (.int (nI i2)), some (.int (nI i9)), some (.int (nI (if ev = true then 1 else 0))), some (.ref a2)] [.ref p33, .ref b] [v0, v3, v5, v6, v7, [(x, .inr (0, [.ref b, .ref lp, .ref lk, .ref lr, .ref lt, .ref ls, .ref lm, .ref so, .int (nI (zBn C))]))], v4, u0_30, v2, u2_30, u1_33] 300 600 from ?_)
    refine g_callV (q := 39) (is := [0, 9]) (kc2 := 266) (ks2 := 520) B [.ref p33] (ct_X2_finds g J (b := b) (ss := (zSs C)) (bx := (zBx C)) (z := (zZz C)) (p := p33) (vs := vs33) (capv := (capF vs33.length)) hv0 hu1_33 (by first | assumption | omega | rfl) (by first | assumption | omega | rfl) (fun v h => hSn v ((hvs_33 v).mp h))) dX1_canFind_36 rfl (rc_in B (ci := 1) rfl (k := 0) rfl (BookP.hm hv0)) rfl q792 q793 q794 q78 q795 rfl rfl moX2_finds rfl rfl (by decide) (by decide) (Nat.le_of_ble_eq_true rfl) (Nat.le_of_ble_eq_true rfl) (Nat.le_of_ble_eq_true rfl) (fun _ _ hx => noX_x hx) (fun v36 L1 hp36 => ?_)
    obtain ⟨r36, K36, cap36, u2_36, rfl, rfl, hu2_36, hK_36, hcap_36, hlt_36⟩ := hp36
    refine (show Go g κ 39 [some (.ref x), some (.int (nI i2)), some (.int (nI i9)), some (.int (nI (if ev = true then 1 else 0))), some (.ref a2)] [.ref r36] [v3, v5, v6, v7, [(x, .inr (0, [.ref b, .ref lp, .ref lk, .ref lr, .ref lt, .ref ls, .ref lm, .ref so, .int (nI (zBn C))]))], v4, u0_30, v2, u2_30, v0, u1_33, u2_36] 266 520 from ?_)
    have hQ := fun x => (hK_36 x).trans (ClQ.of (Q := (fun y => if ev = true then pEv r2 y = true else helP (zKs C) r2 y)) (fun y => ((hvs_33 y).trans (hS_30 y)).trans (by rw [if_neg hev])) x)
    obtain ⟨st41, hst41⟩ := get_ex (xs := zSt C) (i := i9) (by omega)
    obtain ⟨hsl41, ky41, hky41⟩ := hky _ _ hst41
    have hkl41 := fnd_lt hky41
    refine g_aload_n (q := 40) B dX1_canFind_39 rfl rfl (rv_r _) ?_
    refine g_iload_n (q := 41) B dX1_canFind_40 rfl rfl ?_
    refine g_callV (q := 44) (is := [4, 8, 1]) (kc2 := 246) (ks2 := 350) B [.int (nI i9)] (ct_X1_keyOf g J (x := x) (lk := lk) (b := b) (lp := lp) (lr := lr) (lt := lt) (ls := ls) (lm := lm) (so := so) (bxs := (zBn C)) (ss := (zSs C)) (bx := (zBx C)) (z := (zZz C)) (Ss := (zSt C)) (scap := scap) (e := i9) (s := st41) (ky := ky41) hv0 hv5 (hst41) (by omega) (hsl41) (hky41)) dX1_canFind_41 rfl (rc_at B (ci := 0) rfl (k := 4) rfl) rfl q1224 q1226 qs11 q77 q1227 rfl rfl moX1_keyOf rfl rfl (by decide) (by decide) (Nat.le_of_ble_eq_true rfl) (Nat.le_of_ble_eq_true rfl) (Nat.le_of_ble_eq_true rfl) (fun _ _ hx => noX_x hx) (fun v41 L1 hp41 => ?_)
    obtain ⟨u1_41, rfl, rfl, hu1_41⟩ := hp41
    refine (show Go g κ 44 [some (.ref x), some (.int (nI i2)), some (.int (nI i9)), some (.int (nI (if ev = true then 1 else 0))), some (.ref a2)] [.int (nI ky41), .ref r36] [v3, v6, v7, v4, u0_30, v2, u2_30, u1_33, u2_36, [(x, .inr (0, [.ref b, .ref lp, .ref lk, .ref lr, .ref lt, .ref ls, .ref lm, .ref so, .int (nI (zBn C))]))], u1_41, v5] 246 350 from ?_)
    refine g_callV (q := 47) (is := [8]) (kc2 := 246) (ks2 := 350) B [.int (nI ky41)] (ct_J5_get g J (b := r36) (S := K36) (cap := cap36) (i := ky41) hu2_36 (by omega)) dX1_canFind_44 rfl (rc_in B (ci := 26) rfl (k := 8) rfl (SetP.hm hu2_36)) rfl q1784 q1110 q1111 q84 q1112 rfl rfl moJ5_get rfl rfl (by decide) (by decide) (Nat.le_of_ble_eq_true rfl) (Nat.le_of_ble_eq_true rfl) (Nat.le_of_ble_eq_true rfl) (fun _ _ hx => noX_x hx) (fun v44 L1 hp44 => ?_)
    obtain ⟨rfl, rfl⟩ := hp44
    refine (show Go g κ 47 [some (.ref x), some (.int (nI i2)), some (.int (nI i9)), some (.int (nI (if ev = true then 1 else 0))), some (.ref a2)] [.int (nI (if K36 ky41 = true then 1 else 0))] [v3, v6, v7, v4, u0_30, v2, u2_30, u1_33, [(x, .inr (0, [.ref b, .ref lp, .ref lk, .ref lr, .ref lt, .ref ls, .ref lm, .ref so, .int (nI (zBn C))]))], u1_41, v5, u2_36] 246 350 from ?_)
    obtain ⟨wc_3, ewc_3⟩ : ∃ w : va_W, w = ([[(x, .inr (0, [.ref b, .ref lp, .ref lk, .ref lr, .ref lt, .ref ls, .ref lm, .ref so, .int (nI (zBn C))]))], u1_41, u0_30, v2, v3, v4, v5, v6, v7] : List va_W).flatten := ⟨_, rfl⟩
    have hwc_3 : KgP g x C wc_3 := by
      rw [ewc_3]
      exact ⟨b, lp, lk, lr, lt, ls, lm, so, pcap, kcap, rcap, tcap, scap, mcap, socap, ps, pks, pmd, _, _, _, _, _, _, _, _, hcap, hu1_41, hu0_30, hv2, hv3, hv4, hv5, hv6, hv7, rfl⟩
    refine g_close (w := wc_3) [8, 8, 4, 4, 0, 2, 4, 0, 0] rfl ewc_3 rfl ?_
    refine (show Go g κ 47 [some (.ref x), some (.int (nI i2)), some (.int (nI i9)), some (.int (nI (if ev = true then 1 else 0))), some (.ref a2)] [.int (nI (if K36 ky41 = true then 1 else 0))] [u2_30, u1_33, u2_36, wc_3] 246 350 from ?_)
    refine g_pk [3] rfl rfl ?_
    refine (show Go g κ 47 [some (.ref x), some (.int (nI i2)), some (.int (nI i9)), some (.int (nI (if ev = true then 1 else 0))), some (.ref a2)] [.int (nI (if K36 ky41 = true then 1 else 0))] [wc_3] 246 350 from ?_)
    exact g_zret B E dX1_canFind_47 (by split <;> decide) (⟨i2, r2, i9, st41, ky41, K36, _, rfl, rfl, hwc_3, rfl, hr_2, rfl, hi_9, hst41, hky41, hQ⟩)
  · skip
    have c17 := Classical.not_not.mp c17
    have hev := c17
    refine g_aload (q := 22) B dX1_canFind_20 rfl rfl (rv_r _) ?_
    obtain ⟨ev_4, pl_4, nd_4, ch_4, ecap_4, pcap_4, nn_4, nc_4, plc_4, md_4, hP_4, hpl_4, hec_4, hpc_4, hc_4_0, hs_4_0, hs_4_1, hs_4_2, hs_4_3⟩ := PersP.at (hE_2)
    refine g_getNM (q := 25) B (ci := 2) (k := 6) (j := 1) in_X4 rfl dX1_canFind_22 rfl rfl (hc_4_0) (Nat.le_of_ble_eq_true rfl) q1897 rfl rfl ?_
    refine g_goto (tgt := 33) B dX1_canFind_25 (by decide) ?_
    have hSn := fun x h => (hc11 _ _ hr_2).2.2.2 x h
    refine g_callS (q := 36) (is := [6]) (kc2 := 300) (ks2 := 600) B [.ref ev_4] (ct_X1_listOf_s g J (so := ev_4) (S := (pEv r2)) (cap := ecap_4) (n := (zSs C).length) (W0 := v1)  (hs_4_0) (hSn) (by omega)) dX1_canFind_33 rfl q332 q333 q77 q334 rfl rfl moX1_listOf rfl rfl (by decide) (by decide) (Nat.le_of_ble_eq_true rfl) (by omega) (by omega) (fun _ _ hx => noX_x hx) (fun v33 L1 hp33 => ?_)
    obtain ⟨p33, vs33, u1_33, rfl, rfl, hu1_33, hvs_33, hvl_33⟩ := hp33
    refine (show Go g κ 36 [some (.ref x), some (.int (nI i2)), some (.int (nI i9)), some (.int (nI (if ev = true then 1 else 0))), some (.ref a2)] [.ref p33, .ref b] [v0, v2, v3, v5, v6, v7, [(x, .inr (0, [.ref b, .ref lp, .ref lk, .ref lr, .ref lt, .ref ls, .ref lm, .ref so, .int (nI (zBn C))]))], v4, v1, u1_33] 300 600 from ?_)
    refine g_callV (q := 39) (is := [0, 8]) (kc2 := 266) (ks2 := 520) B [.ref p33] (ct_X2_finds g J (b := b) (ss := (zSs C)) (bx := (zBx C)) (z := (zZz C)) (p := p33) (vs := vs33) (capv := (capF vs33.length)) hv0 hu1_33 (by first | assumption | omega | rfl) (by first | assumption | omega | rfl) (fun v h => hSn v ((hvs_33 v).mp h))) dX1_canFind_36 rfl (rc_in B (ci := 1) rfl (k := 0) rfl (BookP.hm hv0)) rfl q792 q793 q794 q78 q795 rfl rfl moX2_finds rfl rfl (by decide) (by decide) (Nat.le_of_ble_eq_true rfl) (Nat.le_of_ble_eq_true rfl) (Nat.le_of_ble_eq_true rfl) (fun _ _ hx => noX_x hx) (fun v36 L1 hp36 => ?_)
    obtain ⟨r36, K36, cap36, u2_36, rfl, rfl, hu2_36, hK_36, hcap_36, hlt_36⟩ := hp36
    refine (show Go g κ 39 [some (.ref x), some (.int (nI i2)), some (.int (nI i9)), some (.int (nI (if ev = true then 1 else 0))), some (.ref a2)] [.ref r36] [v2, v3, v5, v6, v7, [(x, .inr (0, [.ref b, .ref lp, .ref lk, .ref lr, .ref lt, .ref ls, .ref lm, .ref so, .int (nI (zBn C))]))], v4, v1, v0, u1_33, u2_36] 266 520 from ?_)
    have hQ := fun x => (hK_36 x).trans (ClQ.of (Q := (fun y => if ev = true then pEv r2 y = true else helP (zKs C) r2 y)) (fun y => (hvs_33 y).trans (by rw [if_pos hev])) x)
    obtain ⟨st41, hst41⟩ := get_ex (xs := zSt C) (i := i9) (by omega)
    obtain ⟨hsl41, ky41, hky41⟩ := hky _ _ hst41
    have hkl41 := fnd_lt hky41
    refine g_aload_n (q := 40) B dX1_canFind_39 rfl rfl (rv_r _) ?_
    refine g_iload_n (q := 41) B dX1_canFind_40 rfl rfl ?_
    refine g_callV (q := 44) (is := [5, 7, 2]) (kc2 := 246) (ks2 := 350) B [.int (nI i9)] (ct_X1_keyOf g J (x := x) (lk := lk) (b := b) (lp := lp) (lr := lr) (lt := lt) (ls := ls) (lm := lm) (so := so) (bxs := (zBn C)) (ss := (zSs C)) (bx := (zBx C)) (z := (zZz C)) (Ss := (zSt C)) (scap := scap) (e := i9) (s := st41) (ky := ky41) hv0 hv5 (hst41) (by omega) (hsl41) (hky41)) dX1_canFind_41 rfl (rc_at B (ci := 0) rfl (k := 5) rfl) rfl q1224 q1226 qs11 q77 q1227 rfl rfl moX1_keyOf rfl rfl (by decide) (by decide) (Nat.le_of_ble_eq_true rfl) (Nat.le_of_ble_eq_true rfl) (Nat.le_of_ble_eq_true rfl) (fun _ _ hx => noX_x hx) (fun v41 L1 hp41 => ?_)
    obtain ⟨u1_41, rfl, rfl, hu1_41⟩ := hp41
    refine (show Go g κ 44 [some (.ref x), some (.int (nI i2)), some (.int (nI i9)), some (.int (nI (if ev = true then 1 else 0))), some (.ref a2)] [.int (nI ky41), .ref r36] [v2, v3, v6, v7, v4, v1, u1_33, u2_36, [(x, .inr (0, [.ref b, .ref lp, .ref lk, .ref lr, .ref lt, .ref ls, .ref lm, .ref so, .int (nI (zBn C))]))], u1_41, v5] 246 350 from ?_)
    refine g_callV (q := 47) (is := [7]) (kc2 := 246) (ks2 := 350) B [.int (nI ky41)] (ct_J5_get g J (b := r36) (S := K36) (cap := cap36) (i := ky41) hu2_36 (by omega)) dX1_canFind_44 rfl (rc_in B (ci := 26) rfl (k := 7) rfl (SetP.hm hu2_36)) rfl q1784 q1110 q1111 q84 q1112 rfl rfl moJ5_get rfl rfl (by decide) (by decide) (Nat.le_of_ble_eq_true rfl) (Nat.le_of_ble_eq_true rfl) (Nat.le_of_ble_eq_true rfl) (fun _ _ hx => noX_x hx) (fun v44 L1 hp44 => ?_)
    obtain ⟨rfl, rfl⟩ := hp44
    refine (show Go g κ 47 [some (.ref x), some (.int (nI i2)), some (.int (nI i9)), some (.int (nI (if ev = true then 1 else 0))), some (.ref a2)] [.int (nI (if K36 ky41 = true then 1 else 0))] [v2, v3, v6, v7, v4, v1, u1_33, [(x, .inr (0, [.ref b, .ref lp, .ref lk, .ref lr, .ref lt, .ref ls, .ref lm, .ref so, .int (nI (zBn C))]))], u1_41, v5, u2_36] 246 350 from ?_)
    obtain ⟨wc_5, ewc_5⟩ : ∃ w : va_W, w = ([[(x, .inr (0, [.ref b, .ref lp, .ref lk, .ref lr, .ref lt, .ref ls, .ref lm, .ref so, .int (nI (zBn C))]))], u1_41, v1, v2, v3, v4, v5, v6, v7] : List va_W).flatten := ⟨_, rfl⟩
    have hwc_5 : KgP g x C wc_5 := by
      rw [ewc_5]
      exact ⟨b, lp, lk, lr, lt, ls, lm, so, pcap, kcap, rcap, tcap, scap, mcap, socap, ps, pks, pmd, _, _, _, _, _, _, _, _, hcap, hu1_41, hv1, hv2, hv3, hv4, hv5, hv6, hv7, rfl⟩
    refine g_close (w := wc_5) [7, 7, 5, 0, 0, 2, 3, 0, 0] rfl ewc_5 rfl ?_
    refine (show Go g κ 47 [some (.ref x), some (.int (nI i2)), some (.int (nI i9)), some (.int (nI (if ev = true then 1 else 0))), some (.ref a2)] [.int (nI (if K36 ky41 = true then 1 else 0))] [u1_33, u2_36, wc_5] 246 350 from ?_)
    refine g_pk [2] rfl rfl ?_
    refine (show Go g κ 47 [some (.ref x), some (.int (nI i2)), some (.int (nI i9)), some (.int (nI (if ev = true then 1 else 0))), some (.ref a2)] [.int (nI (if K36 ky41 = true then 1 else 0))] [wc_5] 246 350 from ?_)
    exact g_zret B E dX1_canFind_47 (by split <;> decide) (⟨i2, r2, i9, st41, ky41, K36, _, rfl, rfl, hwc_5, rfl, hr_2, rfl, hi_9, hst41, hky41, hQ⟩)
theorem moJ5_andNot : Mo yJ5_andNot 1 := by
  refine ⟨by decide, by decide, by decide +kernel⟩
theorem ct_X1_steal (g : Gv) (J : Jd g) {x : Nat} {C : KsS} {v : Int32} {w0 : va_W} (hw0 : KgP g x C w0) (hC : KsB C) : Ct g yX1_steal (ws_ yX1_steal cX1_steal 4 (some .int)) 10 1700 8000 [.ref x, .int v] [w0] (fun (rv_ : Option Value) (rL_ : List va_W) => ∃ (i : Nat) (r : PeS) (H : Nat → Bool) (K : Nat → Bool) (S2 : Nat → Bool) (u0 : va_W), rv_ = some (.int (nI (ctK (fun j => H j && !K j)))) ∧ rL_ = [u0] ∧ KgP g x ((zSs C, zBx C, zZz C, zPs C, zKs C, zRs C, zTs C, zSt C, zMs C, S2, zBn C) : KsS) u0 ∧ (v = nI i) ∧ ((zPs C)[i]? = some r) ∧ (∀ x, H x = true ↔ helP (zKs C) r x) ∧ (∀ x, K x = true ↔ ClQ (zSs C) (zBx C) (fun v => zSo C v = true) x) ∧ (∀ x, S2 x = true ↔ zSo C x = true ∨ helP (zKs C) r x)) (fun (rE_ : String) (rL_ : List va_W) => rL_ = [w0] ∧ ((rE_ = "java/lang/IndexOutOfBoundsException" ∧ (¬ inR v (zPs C).length = true)))) := by
  refine Ct.of "Keygrove" [some (.ref x), some (.int v), none, none] rfl (by decide) rfl (Nat.le_of_ble_eq_true rfl) rfl ?_
  intro κ B E tb
  have hC0 := hC
  obtain ⟨hc1, hc2, hc3, hc4, hc5, hc6, hc7, hc8, hc9, hc10, hc11⟩ := hC0
  obtain ⟨b, lp, lk, lr, lt, ls, lm, so, pcap, kcap, rcap, tcap, scap, mcap, socap, ps, pks, pmd, v0, v1, v2, v3, v4, v5, v6, v7, hcap, hv0, hv1, hv2, hv3, hv4, hv5, hv6, hv7, rfl⟩ := hw0
  refine g_open 0 rfl rfl rfl ?_
  refine (show Go g κ 0 [some (.ref x), some (.int v), none, none] [] [[(x, .inr (0, [.ref b, .ref lp, .ref lk, .ref lr, .ref lt, .ref ls, .ref lm, .ref so, .int (nI (zBn C))]))], v0, v1, v2, v3, v4, v5, v6, v7] 1700 8000 from ?_)
  have hcf := capF_le (zSs C).length
  refine g_aload_n (q := 1) B dX1_steal_0 rfl rfl (rv_r _) ?_
  refine g_iload_n (q := 2) B dX1_steal_1 rfl rfl ?_
  refine g_callV (q := 5) (is := [0, 1]) (kc2 := 1699) (ks2 := 7994) B [.int v] (ct_X1_personWith g J (x := x) (lk := lk) (b := b) (lp := lp) (lr := lr) (lt := lt) (ls := ls) (lm := lm) (so := so) (bxs := zBn C) (ps := ps) (Ps := (zPs C)) (pcap := pcap) (pks := pks) (pmd := pmd) (v := v) hv1 (by first | assumption | omega | rfl)) dX1_steal_2 rfl (rc_at B (ci := 0) rfl (k := 0) rfl) rfl q1961 q1963 qs15 q77 q1964 rfl rfl moX1_personWith rfl rfl (by decide) (by decide) (Nat.le_of_ble_eq_true rfl) (Nat.le_of_ble_eq_true rfl) (Nat.le_of_ble_eq_true rfl) (fun E2 L1 hx2 => ?_) (fun v2 L1 hp2 => ?_)
  · skip
    obtain ⟨rfl, hx2⟩ := hx2
    obtain ⟨rfl, hx2⟩ := hx2
    refine gx_cl [7, 0, 6, 0, 0, 0, 0, 0, 0] rfl ?_
    exact g_out B E tb (by first | exact ⟨rfl, ⟨rfl, hx2⟩⟩ | exact ⟨rfl, ⟨rfl, by simp_all⟩⟩)
  obtain ⟨i2, a2, r2, rfl, rfl, hv_2, ha_2, hr_2⟩ := hp2
  refine (show Go g κ 5 [some (.ref x), some (.int v), none, none] [.ref a2] [v0, v2, v3, v4, v5, v6, v7, [(x, .inr (0, [.ref b, .ref lp, .ref lk, .ref lr, .ref lt, .ref ls, .ref lm, .ref so, .int (nI (zBn C))]))], v1] 1699 7994 from ?_)
  subst hv_2
  obtain ⟨hli_1, hln_1, hel_1⟩ := PersL.at (Sub.self hv1)
  have hE_2 := hel_1 _ _ _ ha_2 hr_2
  refine (show Go g κ 5 [some (.ref x), some (.int (nI i2)), none, none] [.ref a2] [v0, v2, v3, v4, v5, v6, v7, [(x, .inr (0, [.ref b, .ref lp, .ref lk, .ref lr, .ref lt, .ref ls, .ref lm, .ref so, .int (nI (zBn C))]))], v1] 1699 7994 from ?_)
  refine g_astore_n (q := 6) (lv2 := [some (.ref x), some (.int (nI i2)), some (.ref a2), none]) B dX1_steal_5 rfl (Nat.le_of_ble_eq_true rfl) (rv_r _) rfl ?_
  refine g_aload_n (q := 7) B dX1_steal_6 rfl rfl (rv_r _) ?_
  refine g_callV (q := 10) (is := [8, 1]) (kc2 := 1623) (ks2 := 7784) B [] (ct_X4_held_L g J (lp := lp) (pps := ps) (Ps := (zPs C)) (pcp := pcap) (ix := i2) (pmd := pmd) (a := a2) (x := x) (pks := pks) (r := r2) (lk := lk) (Ks := (zKs C)) (kcap := kcap) hv1 hv2 (by first | assumption | omega | rfl) (by first | assumption | omega | rfl) ((hc11 _ _ hr_2).2.1)) dX1_steal_7 rfl (rc_in B (ci := 2) rfl (k := 8) rfl (Sub.hm (hE_2) fun _ z => PersP.hm z)) rfl q1162 q1163 q1164 q90 q1165 rfl rfl moX4_held rfl rfl (by decide) (by decide) (Nat.le_of_ble_eq_true rfl) (Nat.le_of_ble_eq_true rfl) (Nat.le_of_ble_eq_true rfl) (fun _ _ hx => noX_x hx) (fun v7 L1 hp7 => ?_)
  obtain ⟨b7, S7, cap7, u0_7, u2_7, rfl, rfl, hu0_7, hu2_7, hS_7, hcap_7⟩ := hp7
  refine (show Go g κ 10 [some (.ref x), some (.int (nI i2)), some (.ref a2), none] [.ref b7] [v0, v3, v4, v5, v6, v7, [(x, .inr (0, [.ref b, .ref lp, .ref lk, .ref lr, .ref lt, .ref ls, .ref lm, .ref so, .int (nI (zBn C))]))], u0_7, v2, u2_7] 1623 7784 from ?_)
  refine g_astore_n (q := 11) (lv2 := [some (.ref x), some (.int (nI i2)), some (.ref a2), some (.ref b7)]) B dX1_steal_10 rfl (Nat.le_of_ble_eq_true rfl) (rv_r _) rfl ?_
  refine g_aload_n (q := 12) B dX1_steal_11 rfl rfl (rv_r _) ?_
  refine g_aload_n (q := 13) B dX1_steal_12 rfl rfl (rv_r _) ?_
  refine g_get (q := 16) B (ci := 0) (k := 6) (j := 0) in_X1 rfl dX1_steal_13 rfl rfl (Nat.le_of_ble_eq_true rfl) q277 rfl rfl ?_
  refine g_aload_n (q := 17) B dX1_steal_16 rfl rfl (rv_r _) ?_
  refine g_get (q := 20) B (ci := 0) (k := 6) (j := 7) in_X1 rfl dX1_steal_17 rfl rfl (Nat.le_of_ble_eq_true rfl) q285 rfl rfl ?_
  refine g_callS (q := 23) (is := [5]) (kc2 := 400) (ks2 := 1200) B [.ref so] (ct_X1_listOf g J (so := so) (S := (zSo C)) (cap := socap) (n := (zSs C).length) hv7 (hc10) (by omega)) dX1_steal_20 rfl q332 q333 q77 q334 rfl rfl moX1_listOf rfl rfl (by decide) (by decide) (Nat.le_of_ble_eq_true rfl) (by omega) (by omega) (fun _ _ hx => noX_x hx) (fun v20 L1 hp20 => ?_)
  obtain ⟨p20, vs20, u1_20, rfl, rfl, hu1_20, hvs_20, hvl_20⟩ := hp20
  refine (show Go g κ 23 [some (.ref x), some (.int (nI i2)), some (.ref a2), some (.ref b7)] [.ref p20, .ref b, .ref b7] [v0, v3, v4, v5, v6, [(x, .inr (0, [.ref b, .ref lp, .ref lk, .ref lr, .ref lt, .ref ls, .ref lm, .ref so, .int (nI (zBn C))]))], u0_7, v2, u2_7, v7, u1_20] 400 1200 from ?_)
  refine g_callV (q := 26) (is := [0, 9]) (kc2 := 366) (ks2 := 1120) B [.ref p20] (ct_X2_finds g J (b := b) (ss := (zSs C)) (bx := (zBx C)) (z := (zZz C)) (p := p20) (vs := vs20) (capv := (capF vs20.length)) hv0 hu1_20 (by first | assumption | omega | rfl) (by first | assumption | omega | rfl) (fun v h => hc10 v ((hvs_20 v).mp h))) dX1_steal_23 rfl (rc_in B (ci := 1) rfl (k := 0) rfl (BookP.hm hv0)) rfl q792 q793 q794 q78 q795 rfl rfl moX2_finds rfl rfl (by decide) (by decide) (Nat.le_of_ble_eq_true rfl) (Nat.le_of_ble_eq_true rfl) (Nat.le_of_ble_eq_true rfl) (fun _ _ hx => noX_x hx) (fun v23 L1 hp23 => ?_)
  obtain ⟨r23, K23, cap23, u2_23, rfl, rfl, hu2_23, hK_23, hcap_23, hlt_23⟩ := hp23
  refine (show Go g κ 26 [some (.ref x), some (.int (nI i2)), some (.ref a2), some (.ref b7)] [.ref r23, .ref b7] [v3, v4, v5, v6, [(x, .inr (0, [.ref b, .ref lp, .ref lk, .ref lr, .ref lt, .ref ls, .ref lm, .ref so, .int (nI (zBn C))]))], u0_7, v2, u2_7, v7, v0, u1_20, u2_23] 366 1120 from ?_)
  have hQ := fun x => (hK_23 x).trans (ClQ.of hvs_20 x)
  refine g_callV (q := 29) (is := [7, 10]) (kc2 := 366) (ks2 := 1120) B [.ref r23] (ct_J5_andNot g J (b := b7) (S := S7) (cap := cap7) (c := r23) (T := K23) (cap2 := cap23) hu2_7 hu2_23 ) dX1_steal_26 rfl (rc_in B (ci := 26) rfl (k := 7) rfl (SetP.hm hu2_7)) rfl q2979 q2980 q2981 q84 q2982 rfl rfl moJ5_andNot rfl rfl (by decide) (by decide) (Nat.le_of_ble_eq_true rfl) (Nat.le_of_ble_eq_true rfl) (Nat.le_of_ble_eq_true rfl) (fun _ _ hx => noX_x hx) (fun v26 L1 hp26 => ?_)
  obtain ⟨u0_26, rfl, rfl, hu0_26⟩ := hp26
  refine (show Go g κ 29 [some (.ref x), some (.int (nI i2)), some (.ref a2), some (.ref b7)] [] [v3, v4, v5, v6, [(x, .inr (0, [.ref b, .ref lp, .ref lk, .ref lr, .ref lt, .ref ls, .ref lm, .ref so, .int (nI (zBn C))]))], u0_7, v2, v7, v0, u1_20, u0_26, u2_23] 366 1120 from ?_)
  refine g_aload_n (q := 30) B dX1_steal_29 rfl rfl (rv_r _) ?_
  refine g_get (q := 33) B (ci := 0) (k := 4) (j := 7) in_X1 rfl dX1_steal_30 rfl rfl (Nat.le_of_ble_eq_true rfl) q285 rfl rfl ?_
  obtain ⟨hli_3, hln_3, hel_3⟩ := PersL.at (Sub.self hu0_7)
  have hE_4 := hel_3 _ _ _ ha_2 hr_2
  refine g_aload_n (q := 34) B dX1_steal_33 rfl rfl (rv_r _) ?_
  refine g_callV (q := 37) (is := [5, 5]) (kc2 := 290) (ks2 := 910) B [] (ct_X4_held_L g J (lp := lp) (pps := ps) (Ps := (zPs C)) (pcp := pcap) (ix := i2) (pmd := pmd) (a := a2) (x := x) (pks := pks) (r := r2) (lk := lk) (Ks := (zKs C)) (kcap := kcap) hu0_7 hv2 (by first | assumption | omega | rfl) (by first | assumption | omega | rfl) ((hc11 _ _ hr_2).2.1)) dX1_steal_34 rfl (rc_in B (ci := 2) rfl (k := 5) rfl (Sub.hm (hE_4) fun _ z => PersP.hm z)) rfl q1162 q1163 q1164 q90 q1165 rfl rfl moX4_held rfl rfl (by decide) (by decide) (Nat.le_of_ble_eq_true rfl) (Nat.le_of_ble_eq_true rfl) (Nat.le_of_ble_eq_true rfl) (fun _ _ hx => noX_x hx) (fun v34 L1 hp34 => ?_)
  obtain ⟨b34, S34, cap34, u0_34, u2_34, rfl, rfl, hu0_34, hu2_34, hS_34, hcap_34⟩ := hp34
  refine (show Go g κ 37 [some (.ref x), some (.int (nI i2)), some (.ref a2), some (.ref b7)] [.ref b34, .ref so] [v3, v4, v5, v6, [(x, .inr (0, [.ref b, .ref lp, .ref lk, .ref lr, .ref lt, .ref ls, .ref lm, .ref so, .int (nI (zBn C))]))], v7, v0, u1_20, u0_26, u2_23, u0_34, v2, u2_34] 290 910 from ?_)
  obtain ⟨hk1, hk2, hk3, hk4, hk5, hk6, hk7⟩ := hcap
  refine g_callV (q := 40) (is := [5, 11]) (kc2 := 289) (ks2 := 850) B [.ref b34] (ct_J5_or g J (b := so) (S := (zSo C)) (cap := socap) (c := b34) (T := S34) (cap2 := cap34) (mc := 1) (ms := 60) hv7 hu2_34 (by omega) (by omega) (by omega)) dX1_steal_37 rfl (rc_in B (ci := 26) rfl (k := 5) rfl (SetP.hm hv7)) rfl q2987 q2018 q2019 q84 q2020 rfl rfl moJ5_or rfl rfl (by decide) (by decide) (Nat.le_of_ble_eq_true rfl) (Nat.le_of_ble_eq_true rfl) (Nat.le_of_ble_eq_true rfl) (fun _ _ hx => noX_x hx) (fun v37 L1 hp37 => ?_)
  obtain ⟨cap337, u0_37, rfl, rfl, hu0_37, hcap_37⟩ := hp37
  refine (show Go g κ 40 [some (.ref x), some (.int (nI i2)), some (.ref a2), some (.ref b7)] [] [v3, v4, v5, v6, [(x, .inr (0, [.ref b, .ref lp, .ref lk, .ref lr, .ref lt, .ref ls, .ref lm, .ref so, .int (nI (zBn C))]))], v0, u1_20, u0_26, u2_23, u0_34, v2, u0_37, u2_34] 289 850 from ?_)
  refine g_aload_n (q := 41) B dX1_steal_40 rfl rfl (rv_r _) ?_
  refine g_callV (q := 44) (is := [7]) (kc2 := 289) (ks2 := 850) B [] (ct_J5_cardinality g J (b := b7) (S := fun j => S7 j && !K23 j) (cap := cap7) hu0_26 ) dX1_steal_41 rfl (rc_in B (ci := 26) rfl (k := 7) rfl (SetP.hm hu0_26)) rfl q1113 q1078 q1079 q84 q1080 rfl rfl moJ5_cardinality rfl rfl (by decide) (by decide) (Nat.le_of_ble_eq_true rfl) (Nat.le_of_ble_eq_true rfl) (Nat.le_of_ble_eq_true rfl) (fun _ _ hx => noX_x hx) (fun v41 L1 hp41 => ?_)
  obtain ⟨rfl, rfl⟩ := hp41
  refine (show Go g κ 44 [some (.ref x), some (.int (nI i2)), some (.ref a2), some (.ref b7)] [.int (nI (fb_ct (fun j => S7 j && !K23 j) (64 * cap7)))] [v3, v4, v5, v6, [(x, .inr (0, [.ref b, .ref lp, .ref lk, .ref lr, .ref lt, .ref ls, .ref lm, .ref so, .int (nI (zBn C))]))], v0, u1_20, u2_23, u0_34, v2, u0_37, u2_34, u0_26] 289 850 from ?_)
  rw [(show fb_ct (fun j => S7 j && !K23 j) (64 * cap7) = ctK (fun j => S7 j && !K23 j) from hu0_26.ct (by omega))]
  refine (show Go g κ 44 [some (.ref x), some (.int (nI i2)), some (.ref a2), some (.ref b7)] [.int (nI (ctK (fun j => S7 j && !K23 j)))] [v3, v4, v5, v6, [(x, .inr (0, [.ref b, .ref lp, .ref lk, .ref lr, .ref lt, .ref ls, .ref lm, .ref so, .int (nI (zBn C))]))], v0, u1_20, u2_23, u0_34, v2, u0_37, u2_34, u0_26] 289 850 from ?_)
  obtain ⟨wc_5, ewc_5⟩ : ∃ w : va_W, w = ([[(x, .inr (0, [.ref b, .ref lp, .ref lk, .ref lr, .ref lt, .ref ls, .ref lm, .ref so, .int (nI (zBn C))]))], v0, u0_34, v2, v3, v4, v5, v6, u0_37] : List va_W).flatten := ⟨_, rfl⟩
  have hwc_5 : KgP g x ((zSs C, zBx C, zZz C, zPs C, zKs C, zRs C, zTs C, zSt C, zMs C, (fun j => zSo C j || S34 j), zBn C) : KsS) wc_5 := by
    rw [ewc_5]
    exact ⟨b, lp, lk, lr, lt, ls, lm, so, pcap, kcap, rcap, tcap, scap, mcap, cap337, ps, pks, pmd, _, _, _, _, _, _, _, _, ⟨hk1, hk2, hk3, hk4, hk5, hk6, by omega⟩, hv0, hu0_34, hv2, hv3, hv4, hv5, hv6, hu0_37, rfl⟩
  refine g_close (w := wc_5) [4, 4, 6, 6, 0, 0, 0, 0, 2] rfl ewc_5 rfl ?_
  refine (show Go g κ 44 [some (.ref x), some (.int (nI i2)), some (.ref a2), some (.ref b7)] [.int (nI (ctK (fun j => S7 j && !K23 j)))] [u1_20, u2_23, u2_34, u0_26, wc_5] 289 850 from ?_)
  refine g_pk [4] rfl rfl ?_
  refine (show Go g κ 44 [some (.ref x), some (.int (nI i2)), some (.ref a2), some (.ref b7)] [.int (nI (ctK (fun j => S7 j && !K23 j)))] [wc_5] 289 850 from ?_)
  exact g_iret B E dX1_steal_44 (⟨i2, r2, S7, K23, (fun j => zSo C j || S34 j), _, rfl, rfl, hwc_5, rfl, hr_2, hS_7, hQ, fun x => by show (zSo C x || S34 x) = true ↔ _; rw [Bool.or_eq_true, hS_34 x]⟩)
