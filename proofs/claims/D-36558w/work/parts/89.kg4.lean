set_option maxRecDepth 100000
theorem ct_X1_coverAt (g : Gv) (J : Jd g) {x : Nat} {C : KsS} {T : TrS} {v : Int32} {u : Int32} {w0 : va_W} (hw0 : KgP g x C w0) (hC : KsB C) (hT : zTs C ≠ [] → (zTs C)[(zTs C).length - 1]? = some T) : Ct g yX1_coverAt (ws_ yX1_coverAt cX1_coverAt 4 (some .int)) 14 (10 + 272) (60 + 4 * 1000) [.ref x, .int v, .int u] [w0] (fun (rv_ : Option Value) (rL_ : List va_W) => ∃ (i : Nat) (j : Nat) (n : Nat) (u0 : va_W), rv_ = some (.int (nI n)) ∧ rL_ = [u0] ∧ KgP g x C u0 ∧ (v = nI i) ∧ (i < 2 * 2 ^ T.1 - 1) ∧ (zTs C ≠ []) ∧ (u = nI j) ∧ ((cov T i)[j]? = some n)) (fun (rE_ : String) (rL_ : List va_W) => rL_ = [w0] ∧ ((rE_ = "java/lang/IndexOutOfBoundsException" ∧ (¬ (zTs C ≠ [] ∧ inR v (2 * 2 ^ T.1 - 1) = true))) ∨ (rE_ = "java/util/NoSuchElementException" ∧ (∃ i : Nat, v = nI i ∧ i < 2 * 2 ^ T.1 - 1 ∧ zTs C ≠ [] ∧ ¬ inR u (cov T i).length = true)))) := by
  refine Ct.of "Keygrove" [some (.ref x), some (.int v), some (.int u), none] rfl (by decide) rfl (Nat.le_of_ble_eq_true rfl) rfl ?_
  intro κ B E tb
  have hC0 := hC
  obtain ⟨hc1, hc2, hc3, hc4, hc5, hc6, hc7, hc8, hc9, hc10, hc11⟩ := hC0
  obtain ⟨b, lp, lk, lr, lt, ls, lm, so, pcap, kcap, rcap, tcap, scap, mcap, socap, ps, pks, pmd, v0, v1, v2, v3, v4, v5, v6, v7, hcap, hv0, hv1, hv2, hv3, hv4, hv5, hv6, hv7, rfl⟩ := hw0
  refine g_open 0 rfl rfl rfl ?_
  refine (show Go g κ 0 [some (.ref x), some (.int v), some (.int u), none] [] [[(x, .inr (0, [.ref b, .ref lp, .ref lk, .ref lr, .ref lt, .ref ls, .ref lm, .ref so, .int (nI (zBn C))]))], v0, v1, v2, v3, v4, v5, v6, v7] (10 + 272) (60 + 4 * 1000) from ?_)
  refine g_aload_n (q := 1) B dX1_coverAt_0 rfl rfl (rv_r _) ?_
  refine g_iload_n (q := 2) B dX1_coverAt_1 rfl rfl ?_
  refine g_callV (q := 5) (is := [0, 4]) (kc2 := (10 + 272) - 1) (ks2 := (60 + 4 * 1000) - 6) B [.int v] (ct_X1_hasNode g J (x := x) (lk := lk) (b := b) (lp := lp) (lr := lr) (lt := lt) (ls := ls) (lm := lm) (so := so) (bxs := zBn C) (Ts := (zTs C)) (tcap := tcap) (T := T) (v := v) hv4 (by first | assumption | omega | rfl) (hT)) dX1_coverAt_2 rfl (rc_at B (ci := 0) rfl (k := 0) rfl) rfl q2807 q2809 qs45 q77 q2810 rfl rfl moX1_hasNode rfl rfl (by decide) (by decide) (Nat.le_of_ble_eq_true rfl) (by omega) (by omega) (fun E2 L1 hx2 => ?_) (fun v2 L1 hp2 => ?_)
  · skip
    obtain ⟨rfl, hx2⟩ := hx2
    obtain ⟨rfl, hx2⟩ := hx2
    refine gx_cl [7, 0, 0, 0, 0, 3, 0, 0, 0] rfl ?_
    exact g_out B E tb (by first | exact ⟨rfl, Or.inl ⟨rfl, hx2⟩⟩ | exact ⟨rfl, Or.inl ⟨rfl, by simp_all⟩⟩)
  obtain ⟨i2, rfl, rfl, hv_2, hne_2, hi_2⟩ := hp2
  refine (show Go g κ 5 [some (.ref x), some (.int v), some (.int u), none] [] [v0, v1, v2, v3, v5, v6, v7, [(x, .inr (0, [.ref b, .ref lp, .ref lk, .ref lr, .ref lt, .ref ls, .ref lm, .ref so, .int (nI (zBn C))]))], v4] ((10 + 272) - 1) ((60 + 4 * 1000) - 6) from ?_)
  subst hv_2
  refine (show Go g κ 5 [some (.ref x), some (.int (nI i2)), some (.int u), none] [] [v0, v1, v2, v3, v5, v6, v7, [(x, .inr (0, [.ref b, .ref lp, .ref lk, .ref lr, .ref lt, .ref ls, .ref lm, .ref so, .int (nI (zBn C))]))], v4] ((10 + 272) - 1) ((60 + 4 * 1000) - 6) from ?_)
  refine g_aload_n (q := 6) B dX1_coverAt_5 rfl rfl (rv_r _) ?_
  refine g_callV (q := 9) (is := [7, 7]) (kc2 := (10 + 272) - 1) (ks2 := (60 + 4 * 1000) - 6) B [] (ct_X1_tree g J (x := x) (lk := lk) (b := b) (lp := lp) (lr := lr) (lt := lt) (ls := ls) (lm := lm) (so := so) (bxs := (zBn C)) (Ts := (zTs C)) (tcap := tcap) (T := T) hv4 (hT hne_2)) dX1_coverAt_6 rfl (rc_at B (ci := 0) rfl (k := 7) rfl) rfl q1133 q1135 qs9 q77 q1136 rfl rfl moX1_tree rfl rfl (by decide) (by decide) (Nat.le_of_ble_eq_true rfl) (by omega) (by omega) (fun _ _ hx => noX_x hx) (fun v6 L1 hp6 => ?_)
  obtain ⟨t6, rfl, rfl, hE_6⟩ := hp6
  refine (show Go g κ 9 [some (.ref x), some (.int (nI i2)), some (.int u), none] [.ref t6] [v0, v1, v2, v3, v5, v6, v7, [(x, .inr (0, [.ref b, .ref lp, .ref lk, .ref lr, .ref lt, .ref ls, .ref lm, .ref so, .int (nI (zBn C))]))], v4] ((10 + 272) - 1) ((60 + 4 * 1000) - 6) from ?_)
  have hTB6 := TreeP.b2 hE_6
  have hp26 := p2_4 hTB6.1
  refine g_iload_n (q := 10) B dX1_coverAt_9 rfl rfl ?_
  have hl4 := lev_4 i2 (by omega)
  have hcl := cov_len hTB6 (n := i2) rfl
  have hpl := p2_4 hl4
  have hcl2 : (cov T i2).length ≤ 272 := by omega
  have hcf := capF_le (cov T i2).length
  refine g_callV (q := 13) (is := [8]) (kc2 := 5) (ks2 := 20) B [.int (nI i2)] (ct_X10_cover_s g J (t := t6) (T := T) (n := i2) (W0 := v4)  (hE_6) (by first | assumption | omega | rfl)) dX1_coverAt_10 rfl (rc_in B (ci := 5) rfl (k := 8) rfl (Sub.hm (hE_6) fun _ z => TreeP.hm z)) rfl q2567 q2568 q2569 q123 q2570 rfl rfl moX10_cover rfl rfl (by decide) (by decide) (Nat.le_of_ble_eq_true rfl) (by omega) (by omega) (fun _ _ hx => noX_x hx) (fun v10 L1 hp10 => ?_)
  obtain ⟨p10, u1_10, rfl, rfl, hu1_10⟩ := hp10
  refine (show Go g κ 13 [some (.ref x), some (.int (nI i2)), some (.int u), none] [.ref p10] [v0, v1, v2, v3, v5, v6, v7, [(x, .inr (0, [.ref b, .ref lp, .ref lk, .ref lr, .ref lt, .ref ls, .ref lm, .ref so, .int (nI (zBn C))]))], v4, u1_10] 5 20 from ?_)
  refine g_astore_n (q := 14) (lv2 := [some (.ref x), some (.int (nI i2)), some (.int u), some (.ref p10)]) B dX1_coverAt_13 rfl (Nat.le_of_ble_eq_true rfl) (rv_r _) rfl ?_
  refine g_iload_n (q := 15) B dX1_coverAt_14 rfl rfl ?_
  refine g_iconst (v := nI 0) (q := 16) B dX1_coverAt_15 rfl (by decide) ?_
  refine g_aload_n (q := 17) B dX1_coverAt_16 rfl rfl (rv_r _) ?_
  obtain ⟨ps_1, md_1, hli_1, hln_1, hel_1⟩ := LhP.at (Sub.self hu1_10)
  refine g_callF (q := 22) (is := [9]) (kc2 := 5) (ks2 := 20) B [] (ct_J2_size_s g J (p := p10) (xs := ps_1) (md := md_1) (cap := (capF (cov T i2).length)) (W0 := u1_10)  (hli_1)) dX1_coverAt_17 rfl (ci := 21) rfl (rc_in B (ci := 21) rfl (k := 9) rfl (LhP.hm hu1_10)) q315 q319 q321 q81 q323 q317 q316 q322 q320 q318 rfl rfl mojava_util_List_size___I rfl rfl (by decide) (by decide) (Nat.le_of_ble_eq_true rfl) (Nat.le_of_ble_eq_true rfl) (Nat.le_of_ble_eq_true rfl) (fun _ _ hx => noX_x hx) (fun v17 L1 hp17 => ?_)
  obtain ⟨rfl, rfl⟩ := hp17
  refine (show Go g κ 22 [some (.ref x), some (.int (nI i2)), some (.int u), some (.ref p10)] [.int (nI ps_1.length), .int (nI 0), .int u] [v0, v1, v2, v3, v5, v6, v7, [(x, .inr (0, [.ref b, .ref lp, .ref lk, .ref lr, .ref lt, .ref ls, .ref lm, .ref so, .int (nI (zBn C))]))], v4, u1_10] 5 20 from ?_)
  rw [hln_1.1]
  refine (show Go g κ 22 [some (.ref x), some (.int (nI i2)), some (.int u), some (.ref p10)] [.int (nI ((cov T i2).length)), .int (nI 0), .int u] [v0, v1, v2, v3, v5, v6, v7, [(x, .inr (0, [.ref b, .ref lp, .ref lk, .ref lr, .ref lt, .ref ls, .ref lm, .ref so, .int (nI (zBn C))]))], v4, u1_10] 5 20 from ?_)
  refine g_iconst (v := nI 1) (q := 23) B dX1_coverAt_22 rfl (by decide) ?_
  refine g_isub (v := nI (cov T i2).length - nI 1) (q := 24) B dX1_coverAt_23 rfl rfl ?_
  refine g_callS (q := 27) (is := []) (kc2 := 5) (ks2 := 20) B [.int u, .int (nI 0), .int (nI (cov T i2).length - nI 1)] (ct_X1_in g J (v := u) (n := (cov T i2).length)  (by omega)) dX1_coverAt_24 rfl q1965 q1966 q77 q1967 rfl rfl moX1_in rfl rfl (by decide) (by decide) (Nat.le_of_ble_eq_true rfl) (Nat.le_of_ble_eq_true rfl) (Nat.le_of_ble_eq_true rfl) (fun _ _ hx => noX_x hx) (fun v24 L1 hp24 => ?_)
  obtain ⟨rfl, rfl⟩ := hp24
  refine (show Go g κ 27 [some (.ref x), some (.int (nI i2)), some (.int u), some (.ref p10)] [.int (nI (if inR u ((cov T i2).length) = true then 1 else 0))] [v0, v1, v2, v3, v5, v6, v7, [(x, .inr (0, [.ref b, .ref lp, .ref lk, .ref lr, .ref lt, .ref ls, .ref lm, .ref so, .int (nI (zBn C))]))], v4, u1_10] 5 20 from ?_)
  refine g_callS (q := 30) (is := []) (kc2 := 4) (ks2 := 14) B [.int (nI (if inR u ((cov T i2).length) = true then 1 else 0))] (ct_X1_found_2 g J (c := inR u ((cov T i2).length) = true) (dc := _)  ) dX1_coverAt_27 rfl q2357 q2358 q77 q2359 rfl rfl moX1_found_2 rfl rfl (by decide) (by decide) (Nat.le_of_ble_eq_true rfl) (Nat.le_of_ble_eq_true rfl) (Nat.le_of_ble_eq_true rfl) (fun E27 L1 hx27 => ?_) (fun v27 L1 hp27 => ?_)
  · skip
    obtain ⟨rfl, hx27⟩ := hx27
    obtain ⟨rfl, hx27⟩ := hx27
    refine gx_cl [7, 0, 0, 0, 0, 3, 0, 0, 0] rfl ?_
    exact g_out B E tb (by first | exact ⟨rfl, Or.inr (⟨rfl, hx27⟩)⟩ | exact ⟨rfl, Or.inr (⟨rfl, ⟨i2, rfl, hi_2, hne_2, hx27⟩⟩)⟩ | exact ⟨rfl, Or.inr (⟨rfl, by simp_all⟩)⟩)
  obtain ⟨rfl, rfl, ht_27⟩ := hp27
  refine (show Go g κ 30 [some (.ref x), some (.int (nI i2)), some (.int u), some (.ref p10)] [] [v0, v1, v2, v3, v5, v6, v7, [(x, .inr (0, [.ref b, .ref lp, .ref lk, .ref lr, .ref lt, .ref ls, .ref lm, .ref so, .int (nI (zBn C))]))], v4, u1_10] 4 14 from ?_)
  obtain ⟨j, hjj, rfl⟩ := inR_t ht_27
  refine (show Go g κ 30 [some (.ref x), some (.int (nI i2)), some (.int (nI j)), some (.ref p10)] [] [v0, v1, v2, v3, v5, v6, v7, [(x, .inr (0, [.ref b, .ref lp, .ref lk, .ref lr, .ref lt, .ref ls, .ref lm, .ref so, .int (nI (zBn C))]))], v4, u1_10] 4 14 from ?_)
  refine g_aload_n (q := 31) B dX1_coverAt_30 rfl rfl (rv_r _) ?_
  refine g_iload_n (q := 32) B dX1_coverAt_31 rfl rfl ?_
  obtain ⟨r32, hr32⟩ := get_ex (xs := (cov T i2)) (i := j) (by omega)
  obtain ⟨x32, hx32⟩ := get_ex (xs := ps_1) (i := j) (by have := get_lt2 hr32; have := hln_1.1; omega)
  have hb_2 := Sub.box (hel_1 _ _ _ hx32 hr32)
  refine g_callF (q := 37) (is := [9]) (kc2 := 4) (ks2 := 14) B [.int (nI j)] (ct_J2_get_s g J (p := p10) (xs := ps_1) (md := md_1) (cap := (capF (cov T i2).length)) (i := j) (x := x32) (W0 := u1_10)  (hli_1) (hx32)) dX1_coverAt_32 rfl (ci := 21) rfl (rc_in B (ci := 21) rfl (k := 9) rfl (LhP.hm hu1_10)) q1138 q1093 q1095 q81 q1097 q1092 q1091 q1096 q1094 q318 rfl rfl mojava_util_List_get__I_Ljava_lang_Object_ rfl rfl (by decide) (by decide) (Nat.le_of_ble_eq_true rfl) (Nat.le_of_ble_eq_true rfl) (Nat.le_of_ble_eq_true rfl) (fun _ _ hx => noX_x hx) (fun v32 L1 hp32 => ?_)
  obtain ⟨rfl, rfl⟩ := hp32
  refine (show Go g κ 37 [some (.ref x), some (.int (nI i2)), some (.int (nI j)), some (.ref p10)] [.ref x32] [v0, v1, v2, v3, v5, v6, v7, [(x, .inr (0, [.ref b, .ref lp, .ref lk, .ref lr, .ref lt, .ref ls, .ref lm, .ref so, .int (nI (zBn C))]))], v4, u1_10] 4 14 from ?_)
  refine g_castRS (ci := 35) (q := 40) B rfl (rc_bxat B J (k := 9) rfl hb_2) dX1_coverAt_37 rfl q1829 ?_
  refine g_callV (q := 43) (is := [9]) (kc2 := 4) (ks2 := 14) B [] (ct_J26_intValue_b g J (a := x32) (v := nI r32) (wb := u1_10)  (hb_2)) dX1_coverAt_40 rfl (rc_bxat B J (k := 9) rfl hb_2) rfl q1830 q1052 q1053 q111 q1054 rfl rfl moJ26_intValue rfl rfl (by decide) (by decide) (Nat.le_of_ble_eq_true rfl) (Nat.le_of_ble_eq_true rfl) (Nat.le_of_ble_eq_true rfl) (fun _ _ hx => noX_x hx) (fun v40 L1 hp40 => ?_)
  obtain ⟨rfl, rfl⟩ := hp40
  refine (show Go g κ 43 [some (.ref x), some (.int (nI i2)), some (.int (nI j)), some (.ref p10)] [.int (nI r32)] [v0, v1, v2, v3, v5, v6, v7, [(x, .inr (0, [.ref b, .ref lp, .ref lk, .ref lr, .ref lt, .ref ls, .ref lm, .ref so, .int (nI (zBn C))]))], v4, u1_10] 4 14 from ?_)
  obtain ⟨wc_3, ewc_3⟩ : ∃ w : va_W, w = ([[(x, .inr (0, [.ref b, .ref lp, .ref lk, .ref lr, .ref lt, .ref ls, .ref lm, .ref so, .int (nI (zBn C))]))], v0, v1, v2, v3, v4, v5, v6, v7] : List va_W).flatten := ⟨_, rfl⟩
  have hwc_3 : KgP g x C wc_3 := by
    rw [ewc_3]
    exact ⟨b, lp, lk, lr, lt, ls, lm, so, pcap, kcap, rcap, tcap, scap, mcap, socap, ps, pks, pmd, _, _, _, _, _, _, _, _, hcap, hv0, hv1, hv2, hv3, hv4, hv5, hv6, hv7, rfl⟩
  refine g_close (w := wc_3) [7, 0, 0, 0, 0, 3, 0, 0, 0] rfl ewc_3 rfl ?_
  refine (show Go g κ 43 [some (.ref x), some (.int (nI i2)), some (.int (nI j)), some (.ref p10)] [.int (nI r32)] [u1_10, wc_3] 4 14 from ?_)
  refine g_pk [1] rfl rfl ?_
  refine (show Go g κ 43 [some (.ref x), some (.int (nI i2)), some (.int (nI j)), some (.ref p10)] [.int (nI r32)] [wc_3] 4 14 from ?_)
  exact g_iret B E dX1_coverAt_43 (⟨i2, j, r32, _, rfl, rfl, hwc_3, rfl, hi_2, hne_2, rfl, hr32⟩)
theorem ct_X1_personAt (g : Gv) (J : Jd g) {x : Nat} {C : KsS} {T : TrS} {v : Int32} {w0 : va_W} (hw0 : KgP g x C w0) (hC : KsB C) (hT : zTs C ≠ [] → (zTs C)[(zTs C).length - 1]? = some T) : Ct g yX1_personAt (ws_ yX1_personAt cX1_personAt 2 (some .int)) 10 10 60 [.ref x, .int v] [w0] (fun (rv_ : Option Value) (rL_ : List va_W) => ∃ (i : Nat) (p : Nat) (u0 : va_W), rv_ = some (.int (nI p)) ∧ rL_ = [u0] ∧ KgP g x C u0 ∧ (v = nI i) ∧ (i < 2 ^ T.1) ∧ (zTs C ≠ []) ∧ (T.2.2.2 i = some p)) (fun (rE_ : String) (rL_ : List va_W) => rL_ = [w0] ∧ ((rE_ = "java/lang/IndexOutOfBoundsException" ∧ (¬ (zTs C ≠ [] ∧ inR v (2 ^ T.1) = true))) ∨ (rE_ = "java/util/NoSuchElementException" ∧ (∃ i : Nat, v = nI i ∧ i < 2 ^ T.1 ∧ zTs C ≠ [] ∧ T.2.2.2 i = none)))) := by
  refine Ct.of "Keygrove" [some (.ref x), some (.int v)] rfl (by decide) rfl (Nat.le_of_ble_eq_true rfl) rfl ?_
  intro κ B E tb
  have hC0 := hC
  obtain ⟨hc1, hc2, hc3, hc4, hc5, hc6, hc7, hc8, hc9, hc10, hc11⟩ := hC0
  obtain ⟨b, lp, lk, lr, lt, ls, lm, so, pcap, kcap, rcap, tcap, scap, mcap, socap, ps, pks, pmd, v0, v1, v2, v3, v4, v5, v6, v7, hcap, hv0, hv1, hv2, hv3, hv4, hv5, hv6, hv7, rfl⟩ := hw0
  refine g_open 0 rfl rfl rfl ?_
  refine (show Go g κ 0 [some (.ref x), some (.int v)] [] [[(x, .inr (0, [.ref b, .ref lp, .ref lk, .ref lr, .ref lt, .ref ls, .ref lm, .ref so, .int (nI (zBn C))]))], v0, v1, v2, v3, v4, v5, v6, v7] 10 60 from ?_)
  refine g_aload_n (q := 1) B dX1_personAt_0 rfl rfl (rv_r _) ?_
  refine g_get (q := 4) B (ci := 0) (k := 0) (j := 4) in_X1 rfl dX1_personAt_1 rfl rfl (Nat.le_of_ble_eq_true rfl) q282 rfl rfl ?_
  obtain ⟨ps_1, md_1, hli_1, hln_1, hel_1⟩ := LhP.at (Sub.self hv4)
  refine g_callF (q := 9) (is := [5]) (kc2 := 10) (ks2 := 60) B [] (ct_J2_isEmpty_s g J (p := lt) (xs := ps_1) (md := md_1) (cap := tcap) (W0 := v4)  (hli_1)) dX1_personAt_4 rfl (ci := 21) rfl (rc_in B (ci := 21) rfl (k := 5) rfl (LhP.hm hv4)) q1125 q1128 q1130 q81 q1132 q1127 q1126 q1131 q1129 q318 rfl rfl mojava_util_List_isEmpty___Z rfl rfl (by decide) (by decide) (Nat.le_of_ble_eq_true rfl) (Nat.le_of_ble_eq_true rfl) (Nat.le_of_ble_eq_true rfl) (fun _ _ hx => noX_x hx) (fun v4 L1 hp4 => ?_)
  obtain ⟨rfl, rfl⟩ := hp4
  refine (show Go g κ 9 [some (.ref x), some (.int v)] [.int (nI (if ps_1.length = 0 then 1 else 0))] [[(x, .inr (0, [.ref b, .ref lp, .ref lk, .ref lr, .ref lt, .ref ls, .ref lm, .ref so, .int (nI (zBn C))]))], v0, v1, v2, v3, v5, v6, v7, v4] 10 60 from ?_)
  rw [hln_1.1]
  refine (show Go g κ 9 [some (.ref x), some (.int v)] [.int (nI (if (zTs C).length = 0 then 1 else 0))] [[(x, .inr (0, [.ref b, .ref lp, .ref lk, .ref lr, .ref lt, .ref ls, .ref lm, .ref so, .int (nI (zBn C))]))], v0, v1, v2, v3, v5, v6, v7, v4] 10 60 from ?_)
  refine g_if_ne (tgt := 33) (q := 12) B dX1_personAt_9 rfl (by decide) (bo_ne) (fun c9 => ?_) (fun c9 => ?_)
  · skip
    refine g_iconst (v := nI 0) (q := 34) B dX1_personAt_33 rfl (by decide) ?_
    refine g_callS (q := 37) (is := []) (kc2 := 9) (ks2 := 54) B [.int (nI 0)] (ct_X1_there g J (c := False) (dc := instDecidableFalse)  ) dX1_personAt_34 rfl q1968 q1969 q77 q1970 rfl rfl moX1_there rfl rfl (by decide) (by decide) (Nat.le_of_ble_eq_true rfl) (Nat.le_of_ble_eq_true rfl) (Nat.le_of_ble_eq_true rfl) (fun E34 L1 hx34 => ?_) (fun v34 L1 hp34 => ?_)
    · skip
      obtain ⟨rfl, hx34⟩ := hx34
      obtain ⟨rfl, hx34⟩ := hx34
      refine gx_cl [0, 0, 0, 0, 0, 3, 0, 0, 0] rfl ?_
      exact g_out B E tb (by first | exact ⟨rfl, Or.inl ⟨rfl, hx34⟩⟩ | exact ⟨rfl, Or.inl ⟨rfl, by rintro ⟨z1, z2⟩; first | exact c26 z2 | exact z1 (List.length_eq_zero_iff.mp c9)⟩⟩ | exact ⟨rfl, Or.inl ⟨rfl, by simp_all⟩⟩)
    obtain ⟨rfl, rfl, ht_34⟩ := hp34
    exact ht_34.elim
  · skip
    have hne : zTs C ≠ [] := fun z => c9 (by rw [z]; rfl)
    refine g_iload_n (q := 13) B dX1_personAt_12 rfl rfl ?_
    refine g_iconst (v := nI 0) (q := 14) B dX1_personAt_13 rfl (by decide) ?_
    refine g_aload_n (q := 15) B dX1_personAt_14 rfl rfl (rv_r _) ?_
    refine g_callV (q := 18) (is := [0, 7]) (kc2 := 10) (ks2 := 60) B [] (ct_X1_tree g J (x := x) (lk := lk) (b := b) (lp := lp) (lr := lr) (lt := lt) (ls := ls) (lm := lm) (so := so) (bxs := zBn C) (Ts := (zTs C)) (tcap := tcap) (T := T) hv4 (hT hne)) dX1_personAt_15 rfl (rc_at B (ci := 0) rfl (k := 0) rfl) rfl q1133 q1135 qs9 q77 q1136 rfl rfl moX1_tree rfl rfl (by decide) (by decide) (Nat.le_of_ble_eq_true rfl) (Nat.le_of_ble_eq_true rfl) (Nat.le_of_ble_eq_true rfl) (fun _ _ hx => noX_x hx) (fun v15 L1 hp15 => ?_)
    obtain ⟨t15, rfl, rfl, hE_15⟩ := hp15
    refine (show Go g κ 18 [some (.ref x), some (.int v)] [.ref t15, .int (nI 0), .int v] [v0, v1, v2, v3, v5, v6, v7, [(x, .inr (0, [.ref b, .ref lp, .ref lk, .ref lr, .ref lt, .ref ls, .ref lm, .ref so, .int (nI (zBn C))]))], v4] 10 60 from ?_)
    have hTB15 := TreeP.b2 hE_15
    have hp215 := p2_4 hTB15.1
    obtain ⟨as_2, al_2, ap_2, fs_2, fl_2, fp_2, hB_2, hfs_2, hfl_2, hfp_2, hc_2_0, hc_2_1, hc_2_2, hc_2_3⟩ := TreeP.at (hE_15)
    refine g_getNM (q := 21) B (ci := 5) (k := 8) (j := 0) in_X10 rfl dX1_personAt_18 rfl rfl (hc_2_0) (Nat.le_of_ble_eq_true rfl) q2037 rfl rfl ?_
    refine g_iconst (v := nI 1) (q := 22) B dX1_personAt_21 rfl (by decide) ?_
    refine g_isub (v := nI (2 ^ T.1) - nI 1) (q := 23) B dX1_personAt_22 rfl rfl ?_
    refine g_callS (q := 26) (is := []) (kc2 := 10) (ks2 := 60) B [.int v, .int (nI 0), .int (nI (2 ^ T.1) - nI 1)] (ct_X1_in g J (v := v) (n := 2 ^ T.1)  (by omega)) dX1_personAt_23 rfl q1965 q1966 q77 q1967 rfl rfl moX1_in rfl rfl (by decide) (by decide) (Nat.le_of_ble_eq_true rfl) (Nat.le_of_ble_eq_true rfl) (Nat.le_of_ble_eq_true rfl) (fun _ _ hx => noX_x hx) (fun v23 L1 hp23 => ?_)
    obtain ⟨rfl, rfl⟩ := hp23
    refine (show Go g κ 26 [some (.ref x), some (.int v)] [.int (nI (if inR v (2 ^ T.1) = true then 1 else 0))] [v0, v1, v2, v3, v5, v6, v7, [(x, .inr (0, [.ref b, .ref lp, .ref lk, .ref lr, .ref lt, .ref ls, .ref lm, .ref so, .int (nI (zBn C))]))], v4] 10 60 from ?_)
    refine g_if_eq (tgt := 33) (q := 29) B dX1_personAt_26 rfl (by decide) (bo_eq) (fun c26 => ?_) (fun c26 => ?_)
    · skip
      refine g_iconst (v := nI 0) (q := 34) B dX1_personAt_33 rfl (by decide) ?_
      refine g_callS (q := 37) (is := []) (kc2 := 9) (ks2 := 54) B [.int (nI 0)] (ct_X1_there g J (c := False) (dc := instDecidableFalse)  ) dX1_personAt_34 rfl q1968 q1969 q77 q1970 rfl rfl moX1_there rfl rfl (by decide) (by decide) (Nat.le_of_ble_eq_true rfl) (Nat.le_of_ble_eq_true rfl) (Nat.le_of_ble_eq_true rfl) (fun E34 L1 hx34 => ?_) (fun v34 L1 hp34 => ?_)
      · skip
        obtain ⟨rfl, hx34⟩ := hx34
        obtain ⟨rfl, hx34⟩ := hx34
        refine gx_cl [7, 0, 0, 0, 0, 3, 0, 0, 0] rfl ?_
        exact g_out B E tb (by first | exact ⟨rfl, Or.inl ⟨rfl, hx34⟩⟩ | exact ⟨rfl, Or.inl ⟨rfl, by rintro ⟨z1, z2⟩; first | exact c26 z2 | exact z1 (List.length_eq_zero_iff.mp c9)⟩⟩ | exact ⟨rfl, Or.inl ⟨rfl, by simp_all⟩⟩)
      obtain ⟨rfl, rfl, ht_34⟩ := hp34
      exact ht_34.elim
    · skip
      have c26 := Classical.not_not.mp c26
      refine g_iconst (v := nI 1) (q := 30) B dX1_personAt_29 rfl (by decide) ?_
      refine g_goto (tgt := 34) B dX1_personAt_30 (by decide) ?_
      refine g_callS (q := 37) (is := []) (kc2 := 9) (ks2 := 54) B [.int (nI 1)] (ct_X1_there g J (c := True) (dc := instDecidableTrue)  ) dX1_personAt_34 rfl q1968 q1969 q77 q1970 rfl rfl moX1_there rfl rfl (by decide) (by decide) (Nat.le_of_ble_eq_true rfl) (Nat.le_of_ble_eq_true rfl) (Nat.le_of_ble_eq_true rfl) (fun E34 L1 hx34 => ?_) (fun v34 L1 hp34 => ?_)
      · skip
        obtain ⟨rfl, hx34⟩ := hx34
        obtain ⟨rfl, hx34⟩ := hx34
        exact absurd trivial hx34
      obtain ⟨rfl, rfl, ht_34⟩ := hp34
      refine (show Go g κ 37 [some (.ref x), some (.int v)] [] [v0, v1, v2, v3, v5, v6, v7, [(x, .inr (0, [.ref b, .ref lp, .ref lk, .ref lr, .ref lt, .ref ls, .ref lm, .ref so, .int (nI (zBn C))]))], v4] 9 54 from ?_)
      obtain ⟨i, hii, rfl⟩ := inR_t c26
      refine (show Go g κ 37 [some (.ref x), some (.int (nI i))] [] [v0, v1, v2, v3, v5, v6, v7, [(x, .inr (0, [.ref b, .ref lp, .ref lk, .ref lr, .ref lt, .ref ls, .ref lm, .ref so, .int (nI (zBn C))]))], v4] 9 54 from ?_)
      refine g_aload_n (q := 38) B dX1_personAt_37 rfl rfl (rv_r _) ?_
      refine g_callV (q := 41) (is := [7, 7]) (kc2 := 9) (ks2 := 54) B [] (ct_X1_tree g J (x := x) (lk := lk) (b := b) (lp := lp) (lr := lr) (lt := lt) (ls := ls) (lm := lm) (so := so) (bxs := (zBn C)) (Ts := (zTs C)) (tcap := tcap) (T := T) hv4 (hT hne)) dX1_personAt_38 rfl (rc_at B (ci := 0) rfl (k := 7) rfl) rfl q1133 q1135 qs9 q77 q1136 rfl rfl moX1_tree rfl rfl (by decide) (by decide) (Nat.le_of_ble_eq_true rfl) (Nat.le_of_ble_eq_true rfl) (Nat.le_of_ble_eq_true rfl) (fun _ _ hx => noX_x hx) (fun v38 L1 hp38 => ?_)
      obtain ⟨t38, rfl, rfl, hE_38⟩ := hp38
      refine (show Go g κ 41 [some (.ref x), some (.int (nI i))] [.ref t38] [v0, v1, v2, v3, v5, v6, v7, [(x, .inr (0, [.ref b, .ref lp, .ref lk, .ref lr, .ref lt, .ref ls, .ref lm, .ref so, .int (nI (zBn C))]))], v4] 9 54 from ?_)
      have hTB38 := TreeP.b2 hE_38
      have hp238 := p2_4 hTB38.1
      obtain ⟨as_3, al_3, ap_3, fs_3, fl_3, fp_3, hB_3, hfs_3, hfl_3, hfp_3, hc_3_0, hc_3_1, hc_3_2, hc_3_3⟩ := TreeP.at (hE_38)
      refine g_getNM (q := 44) B (ci := 5) (k := 8) (j := 3) in_X10 rfl dX1_personAt_41 rfl rfl (hc_3_0) (Nat.le_of_ble_eq_true rfl) q2045 rfl rfl ?_
      refine g_iload_n (q := 45) B dX1_personAt_44 rfl rfl ?_
      refine g_ialdM (v := oI (T.2.2.2 i)) (q := 46) B (k := 8) dX1_personAt_45 rfl rfl (hc_3_3) (vp_in_nI (by omega) (by omega)) (by rw [nI_clamp (by omega)]; exact hfp_3 _ (by omega)) ?_
      refine g_iconst (v := -1) (q := 47) B dX1_personAt_46 rfl (by decide) ?_
      refine g_icmp_eq (tgt := 54) (q := 50) B dX1_personAt_47 rfl (by decide) (oI_n ((fun n h => by have := hB_3.2.2.2 _ _ h; omega))) (fun c47 => ?_) (fun c47 => ?_)
      · skip
        refine g_iconst (v := nI 0) (q := 55) B dX1_personAt_54 rfl (by decide) ?_
        refine g_callS (q := 58) (is := []) (kc2 := 8) (ks2 := 48) B [.int (nI 0)] (ct_X1_found_2 g J (c := False) (dc := instDecidableFalse)  ) dX1_personAt_55 rfl q2357 q2358 q77 q2359 rfl rfl moX1_found_2 rfl rfl (by decide) (by decide) (Nat.le_of_ble_eq_true rfl) (Nat.le_of_ble_eq_true rfl) (Nat.le_of_ble_eq_true rfl) (fun E55 L1 hx55 => ?_) (fun v55 L1 hp55 => ?_)
        · skip
          obtain ⟨rfl, hx55⟩ := hx55
          obtain ⟨rfl, hx55⟩ := hx55
          refine gx_cl [7, 0, 0, 0, 0, 3, 0, 0, 0] rfl ?_
          exact g_out B E tb (by first | exact ⟨rfl, Or.inr (⟨rfl, hx55⟩)⟩ | exact ⟨rfl, Or.inr (⟨rfl, ⟨i, rfl, hii, hne, c47⟩⟩)⟩ | exact ⟨rfl, Or.inr (⟨rfl, by simp_all⟩)⟩)
        obtain ⟨rfl, rfl, ht_55⟩ := hp55
        exact ht_55.elim
      · skip
        obtain ⟨v47, ev47⟩ := Option.ne_none_iff_exists'.mp c47
        refine g_iconst (v := nI 1) (q := 51) B dX1_personAt_50 rfl (by decide) ?_
        refine g_goto (tgt := 55) B dX1_personAt_51 (by decide) ?_
        refine g_callS (q := 58) (is := []) (kc2 := 8) (ks2 := 48) B [.int (nI 1)] (ct_X1_found_2 g J (c := True) (dc := instDecidableTrue)  ) dX1_personAt_55 rfl q2357 q2358 q77 q2359 rfl rfl moX1_found_2 rfl rfl (by decide) (by decide) (Nat.le_of_ble_eq_true rfl) (Nat.le_of_ble_eq_true rfl) (Nat.le_of_ble_eq_true rfl) (fun E55 L1 hx55 => ?_) (fun v55 L1 hp55 => ?_)
        · skip
          obtain ⟨rfl, hx55⟩ := hx55
          obtain ⟨rfl, hx55⟩ := hx55
          exact absurd trivial hx55
        obtain ⟨rfl, rfl, ht_55⟩ := hp55
        refine (show Go g κ 58 [some (.ref x), some (.int (nI i))] [] [v0, v1, v2, v3, v5, v6, v7, [(x, .inr (0, [.ref b, .ref lp, .ref lk, .ref lr, .ref lt, .ref ls, .ref lm, .ref so, .int (nI (zBn C))]))], v4] 8 48 from ?_)
        refine g_aload_n (q := 59) B dX1_personAt_58 rfl rfl (rv_r _) ?_
        refine g_callV (q := 62) (is := [7, 7]) (kc2 := 8) (ks2 := 48) B [] (ct_X1_tree g J (x := x) (lk := lk) (b := b) (lp := lp) (lr := lr) (lt := lt) (ls := ls) (lm := lm) (so := so) (bxs := (zBn C)) (Ts := (zTs C)) (tcap := tcap) (T := T) hv4 (hT hne)) dX1_personAt_59 rfl (rc_at B (ci := 0) rfl (k := 7) rfl) rfl q1133 q1135 qs9 q77 q1136 rfl rfl moX1_tree rfl rfl (by decide) (by decide) (Nat.le_of_ble_eq_true rfl) (Nat.le_of_ble_eq_true rfl) (Nat.le_of_ble_eq_true rfl) (fun _ _ hx => noX_x hx) (fun v59 L1 hp59 => ?_)
        obtain ⟨t59, rfl, rfl, hE_59⟩ := hp59
        refine (show Go g κ 62 [some (.ref x), some (.int (nI i))] [.ref t59] [v0, v1, v2, v3, v5, v6, v7, [(x, .inr (0, [.ref b, .ref lp, .ref lk, .ref lr, .ref lt, .ref ls, .ref lm, .ref so, .int (nI (zBn C))]))], v4] 8 48 from ?_)
        have hTB59 := TreeP.b2 hE_59
        have hp259 := p2_4 hTB59.1
        obtain ⟨as_4, al_4, ap_4, fs_4, fl_4, fp_4, hB_4, hfs_4, hfl_4, hfp_4, hc_4_0, hc_4_1, hc_4_2, hc_4_3⟩ := TreeP.at (hE_59)
        refine g_getNM (q := 65) B (ci := 5) (k := 8) (j := 3) in_X10 rfl dX1_personAt_62 rfl rfl (hc_4_0) (Nat.le_of_ble_eq_true rfl) q2045 rfl rfl ?_
        refine g_iload_n (q := 66) B dX1_personAt_65 rfl rfl ?_
        refine g_ialdM (v := oI (T.2.2.2 i)) (q := 67) B (k := 8) dX1_personAt_66 rfl rfl (hc_4_3) (vp_in_nI (by omega) (by omega)) (by rw [nI_clamp (by omega)]; exact hfp_4 _ (by omega)) ?_
        refine g_stk (y := .int (nI v47)) (by rw [ev47]; rfl) ?_
        obtain ⟨wc_5, ewc_5⟩ : ∃ w : va_W, w = ([[(x, .inr (0, [.ref b, .ref lp, .ref lk, .ref lr, .ref lt, .ref ls, .ref lm, .ref so, .int (nI (zBn C))]))], v0, v1, v2, v3, v4, v5, v6, v7] : List va_W).flatten := ⟨_, rfl⟩
        have hwc_5 : KgP g x C wc_5 := by
          rw [ewc_5]
          exact ⟨b, lp, lk, lr, lt, ls, lm, so, pcap, kcap, rcap, tcap, scap, mcap, socap, ps, pks, pmd, _, _, _, _, _, _, _, _, hcap, hv0, hv1, hv2, hv3, hv4, hv5, hv6, hv7, rfl⟩
        refine g_close (w := wc_5) [7, 0, 0, 0, 0, 3, 0, 0, 0] rfl ewc_5 rfl ?_
        refine (show Go g κ 67 [some (.ref x), some (.int (nI i))] [.int (nI v47)] [wc_5] 8 48 from ?_)
        exact g_iret B E dX1_personAt_67 (⟨i, v47, _, rfl, rfl, hwc_5, rfl, hii, hne, ev47⟩)
theorem ct_X1_holds (g : Gv) (J : Jd g) {x : Nat} {C : KsS} {T : TrS} {v : Int32} {u : Int32} {w0 : va_W} (hw0 : KgP g x C w0) (hC : KsB C) (hT : zTs C ≠ [] → (zTs C)[(zTs C).length - 1]? = some T) (hsb : ∀ n s, T.2.1 n = some s → s < 1000) : Ct g yX1_holds (ws_ yX1_holds cX1_holds 4 (some .boolean)) 10 110 400 [.ref x, .int v, .int u] [w0] (fun (rv_ : Option Value) (rL_ : List va_W) => ∃ (i : Nat) (r : PeS) (j : Nat) (b : Bool) (u0 : va_W), rv_ = some (.int (nI (if b = true then 1 else 0))) ∧ rL_ = [u0] ∧ KgP g x C u0 ∧ (v = nI i) ∧ ((zPs C)[i]? = some r) ∧ (u = nI j) ∧ (j < 2 * 2 ^ T.1 - 1) ∧ (zTs C ≠ []) ∧ (b = true ↔ ∃ s, T.2.1 j = some s ∧ helP (zKs C) r s)) (fun (rE_ : String) (rL_ : List va_W) => rL_ = [w0] ∧ ((rE_ = "java/lang/IndexOutOfBoundsException" ∧ (¬ (inR v (zPs C).length = true ∧ zTs C ≠ [] ∧ inR u (2 * 2 ^ T.1 - 1) = true))))) := by
  refine Ct.of "Keygrove" [some (.ref x), some (.int v), some (.int u), none] rfl (by decide) rfl (Nat.le_of_ble_eq_true rfl) rfl ?_
  intro κ B E tb
  have hC0 := hC
  obtain ⟨hc1, hc2, hc3, hc4, hc5, hc6, hc7, hc8, hc9, hc10, hc11⟩ := hC0
  obtain ⟨b, lp, lk, lr, lt, ls, lm, so, pcap, kcap, rcap, tcap, scap, mcap, socap, ps, pks, pmd, v0, v1, v2, v3, v4, v5, v6, v7, hcap, hv0, hv1, hv2, hv3, hv4, hv5, hv6, hv7, rfl⟩ := hw0
  refine g_open 0 rfl rfl rfl ?_
  refine (show Go g κ 0 [some (.ref x), some (.int v), some (.int u), none] [] [[(x, .inr (0, [.ref b, .ref lp, .ref lk, .ref lr, .ref lt, .ref ls, .ref lm, .ref so, .int (nI (zBn C))]))], v0, v1, v2, v3, v4, v5, v6, v7] 110 400 from ?_)
  refine g_aload_n (q := 1) B dX1_holds_0 rfl rfl (rv_r _) ?_
  refine g_iload_n (q := 2) B dX1_holds_1 rfl rfl ?_
  refine g_callV (q := 5) (is := [0, 1]) (kc2 := 109) (ks2 := 394) B [.int v] (ct_X1_personWith g J (x := x) (lk := lk) (b := b) (lp := lp) (lr := lr) (lt := lt) (ls := ls) (lm := lm) (so := so) (bxs := zBn C) (ps := ps) (Ps := (zPs C)) (pcap := pcap) (pks := pks) (pmd := pmd) (v := v) hv1 (by first | assumption | omega | rfl)) dX1_holds_2 rfl (rc_at B (ci := 0) rfl (k := 0) rfl) rfl q1961 q1963 qs15 q77 q1964 rfl rfl moX1_personWith rfl rfl (by decide) (by decide) (Nat.le_of_ble_eq_true rfl) (Nat.le_of_ble_eq_true rfl) (Nat.le_of_ble_eq_true rfl) (fun E2 L1 hx2 => ?_) (fun v2 L1 hp2 => ?_)
  · skip
    obtain ⟨rfl, hx2⟩ := hx2
    obtain ⟨rfl, hx2⟩ := hx2
    refine gx_cl [7, 0, 6, 0, 0, 0, 0, 0, 0] rfl ?_
    exact g_out B E tb (by first | exact ⟨rfl, ⟨rfl, hx2⟩⟩ | exact ⟨rfl, ⟨rfl, fun z => hx2 z.1⟩⟩ | exact ⟨rfl, ⟨rfl, by simp_all⟩⟩)
  obtain ⟨i2, a2, r2, rfl, rfl, hv_2, ha_2, hr_2⟩ := hp2
  refine (show Go g κ 5 [some (.ref x), some (.int v), some (.int u), none] [.ref a2] [v0, v2, v3, v4, v5, v6, v7, [(x, .inr (0, [.ref b, .ref lp, .ref lk, .ref lr, .ref lt, .ref ls, .ref lm, .ref so, .int (nI (zBn C))]))], v1] 109 394 from ?_)
  subst hv_2
  obtain ⟨hli_1, hln_1, hel_1⟩ := PersL.at (Sub.self hv1)
  have hE_2 := hel_1 _ _ _ ha_2 hr_2
  refine (show Go g κ 5 [some (.ref x), some (.int (nI i2)), some (.int u), none] [.ref a2] [v0, v2, v3, v4, v5, v6, v7, [(x, .inr (0, [.ref b, .ref lp, .ref lk, .ref lr, .ref lt, .ref ls, .ref lm, .ref so, .int (nI (zBn C))]))], v1] 109 394 from ?_)
  refine g_astore_n (q := 6) (lv2 := [some (.ref x), some (.int (nI i2)), some (.int u), some (.ref a2)]) B dX1_holds_5 rfl (Nat.le_of_ble_eq_true rfl) (rv_r _) rfl ?_
  refine g_aload_n (q := 7) B dX1_holds_6 rfl rfl (rv_r _) ?_
  refine g_iload_n (q := 8) B dX1_holds_7 rfl rfl ?_
  refine g_callV (q := 11) (is := [7, 3]) (kc2 := 108) (ks2 := 388) B [.int u] (ct_X1_hasNode g J (x := x) (lk := lk) (b := b) (lp := lp) (lr := lr) (lt := lt) (ls := ls) (lm := lm) (so := so) (bxs := (zBn C)) (Ts := (zTs C)) (tcap := tcap) (T := T) (v := u) hv4 (by first | assumption | omega | rfl) (hT)) dX1_holds_8 rfl (rc_at B (ci := 0) rfl (k := 7) rfl) rfl q2807 q2809 qs45 q77 q2810 rfl rfl moX1_hasNode rfl rfl (by decide) (by decide) (Nat.le_of_ble_eq_true rfl) (Nat.le_of_ble_eq_true rfl) (Nat.le_of_ble_eq_true rfl) (fun E8 L1 hx8 => ?_) (fun v8 L1 hp8 => ?_)
  · skip
    obtain ⟨rfl, hx8⟩ := hx8
    obtain ⟨rfl, hx8⟩ := hx8
    refine gx_cl [7, 0, 5, 0, 0, 3, 0, 0, 0] rfl ?_
    exact g_out B E tb (by first | exact ⟨rfl, ⟨rfl, hx8⟩⟩ | exact ⟨rfl, ⟨rfl, fun z => hx8 z.2⟩⟩ | exact ⟨rfl, ⟨rfl, by simp_all⟩⟩)
  obtain ⟨i8, rfl, rfl, hv_8, hne_8, hi_8⟩ := hp8
  refine (show Go g κ 11 [some (.ref x), some (.int (nI i2)), some (.int u), some (.ref a2)] [] [v0, v2, v3, v5, v6, v7, v1, [(x, .inr (0, [.ref b, .ref lp, .ref lk, .ref lr, .ref lt, .ref ls, .ref lm, .ref so, .int (nI (zBn C))]))], v4] 108 388 from ?_)
  subst hv_8
  refine (show Go g κ 11 [some (.ref x), some (.int (nI i2)), some (.int (nI i8)), some (.ref a2)] [] [v0, v2, v3, v5, v6, v7, v1, [(x, .inr (0, [.ref b, .ref lp, .ref lk, .ref lr, .ref lt, .ref ls, .ref lm, .ref so, .int (nI (zBn C))]))], v4] 108 388 from ?_)
  refine g_aload_n (q := 12) B dX1_holds_11 rfl rfl (rv_r _) ?_
  refine g_callV (q := 15) (is := [7, 7]) (kc2 := 108) (ks2 := 388) B [] (ct_X1_tree g J (x := x) (lk := lk) (b := b) (lp := lp) (lr := lr) (lt := lt) (ls := ls) (lm := lm) (so := so) (bxs := (zBn C)) (Ts := (zTs C)) (tcap := tcap) (T := T) hv4 (hT hne_8)) dX1_holds_12 rfl (rc_at B (ci := 0) rfl (k := 7) rfl) rfl q1133 q1135 qs9 q77 q1136 rfl rfl moX1_tree rfl rfl (by decide) (by decide) (Nat.le_of_ble_eq_true rfl) (Nat.le_of_ble_eq_true rfl) (Nat.le_of_ble_eq_true rfl) (fun _ _ hx => noX_x hx) (fun v12 L1 hp12 => ?_)
  obtain ⟨t12, rfl, rfl, hE_12⟩ := hp12
  refine (show Go g κ 15 [some (.ref x), some (.int (nI i2)), some (.int (nI i8)), some (.ref a2)] [.ref t12] [v0, v2, v3, v5, v6, v7, v1, [(x, .inr (0, [.ref b, .ref lp, .ref lk, .ref lr, .ref lt, .ref ls, .ref lm, .ref so, .int (nI (zBn C))]))], v4] 108 388 from ?_)
  have hTB12 := TreeP.b2 hE_12
  have hp212 := p2_4 hTB12.1
  refine g_iload_n (q := 16) B dX1_holds_15 rfl rfl ?_
  refine g_callV (q := 19) (is := [8]) (kc2 := 108) (ks2 := 388) B [.int (nI i8)] (ct_X10_isBlank_s g J (t := t12) (T := T) (n := i8) (W0 := v4)  (hE_12) (by first | assumption | omega | rfl)) dX1_holds_16 rfl (rc_in B (ci := 5) rfl (k := 8) rfl (Sub.hm (hE_12) fun _ z => TreeP.hm z)) rfl q1144 q1145 q1146 q123 q1147 rfl rfl moX10_isBlank rfl rfl (by decide) (by decide) (Nat.le_of_ble_eq_true rfl) (Nat.le_of_ble_eq_true rfl) (Nat.le_of_ble_eq_true rfl) (fun _ _ hx => noX_x hx) (fun v16 L1 hp16 => ?_)
  obtain ⟨rfl, rfl⟩ := hp16
  refine (show Go g κ 19 [some (.ref x), some (.int (nI i2)), some (.int (nI i8)), some (.ref a2)] [.int (nI (if T.2.1 i8 = none then 1 else 0))] [v0, v2, v3, v5, v6, v7, v1, [(x, .inr (0, [.ref b, .ref lp, .ref lk, .ref lr, .ref lt, .ref ls, .ref lm, .ref so, .int (nI (zBn C))]))], v4] 108 388 from ?_)
  refine g_if_ne (tgt := 45) (q := 22) B dX1_holds_19 rfl (by decide) (bo_ne) (fun c19 => ?_) (fun c19 => ?_)
  · skip
    refine g_iconst (v := nI 0) (q := 46) B dX1_holds_45 rfl (by decide) ?_
    obtain ⟨wc_3, ewc_3⟩ : ∃ w : va_W, w = ([[(x, .inr (0, [.ref b, .ref lp, .ref lk, .ref lr, .ref lt, .ref ls, .ref lm, .ref so, .int (nI (zBn C))]))], v0, v1, v2, v3, v4, v5, v6, v7] : List va_W).flatten := ⟨_, rfl⟩
    have hwc_3 : KgP g x C wc_3 := by
      rw [ewc_3]
      exact ⟨b, lp, lk, lr, lt, ls, lm, so, pcap, kcap, rcap, tcap, scap, mcap, socap, ps, pks, pmd, _, _, _, _, _, _, _, _, hcap, hv0, hv1, hv2, hv3, hv4, hv5, hv6, hv7, rfl⟩
    refine g_close (w := wc_3) [7, 0, 5, 0, 0, 3, 0, 0, 0] rfl ewc_3 rfl ?_
    refine (show Go g κ 46 [some (.ref x), some (.int (nI i2)), some (.int (nI i8)), some (.ref a2)] [.int (nI 0)] [wc_3] 108 388 from ?_)
    exact g_zret B E dX1_holds_46 (by decide) (⟨i2, r2, i8, false, _, rfl, rfl, hwc_3, rfl, hr_2, rfl, hi_8, hne_8, ⟨(fun z => by cases z), fun ⟨s, h1, h2⟩ => by first | (rw [c19] at h1; cases h1) | (rw [hsx] at h1; cases h1; exact absurd ((hS_23 _).mpr h2) c38)⟩⟩)
  · skip
    refine g_aload_n (q := 23) B dX1_holds_22 rfl rfl (rv_r _) ?_
    refine g_callV (q := 26) (is := [6, 1]) (kc2 := 32) (ks2 := 178) B [] (ct_X4_held_L g J (lp := lp) (pps := ps) (Ps := (zPs C)) (pcp := pcap) (ix := i2) (pmd := pmd) (a := a2) (x := x) (pks := pks) (r := r2) (lk := lk) (Ks := (zKs C)) (kcap := kcap) hv1 hv2 (by first | assumption | omega | rfl) (by first | assumption | omega | rfl) ((hc11 _ _ hr_2).2.1)) dX1_holds_23 rfl (rc_in B (ci := 2) rfl (k := 6) rfl (Sub.hm (hE_2) fun _ z => PersP.hm z)) rfl q1162 q1163 q1164 q90 q1165 rfl rfl moX4_held rfl rfl (by decide) (by decide) (Nat.le_of_ble_eq_true rfl) (Nat.le_of_ble_eq_true rfl) (Nat.le_of_ble_eq_true rfl) (fun _ _ hx => noX_x hx) (fun v23 L1 hp23 => ?_)
    obtain ⟨b23, S23, cap23, u0_23, u2_23, rfl, rfl, hu0_23, hu2_23, hS_23, hcap_23⟩ := hp23
    refine (show Go g κ 26 [some (.ref x), some (.int (nI i2)), some (.int (nI i8)), some (.ref a2)] [.ref b23] [v0, v3, v5, v6, v7, [(x, .inr (0, [.ref b, .ref lp, .ref lk, .ref lr, .ref lt, .ref ls, .ref lm, .ref so, .int (nI (zBn C))]))], v4, u0_23, v2, u2_23] 32 178 from ?_)
    refine g_aload_n (q := 27) B dX1_holds_26 rfl rfl (rv_r _) ?_
    refine g_callV (q := 30) (is := [5, 5]) (kc2 := 32) (ks2 := 178) B [] (ct_X1_tree g J (x := x) (lk := lk) (b := b) (lp := lp) (lr := lr) (lt := lt) (ls := ls) (lm := lm) (so := so) (bxs := (zBn C)) (Ts := (zTs C)) (tcap := tcap) (T := T) hv4 (hT hne_8)) dX1_holds_27 rfl (rc_at B (ci := 0) rfl (k := 5) rfl) rfl q1133 q1135 qs9 q77 q1136 rfl rfl moX1_tree rfl rfl (by decide) (by decide) (Nat.le_of_ble_eq_true rfl) (Nat.le_of_ble_eq_true rfl) (Nat.le_of_ble_eq_true rfl) (fun _ _ hx => noX_x hx) (fun v27 L1 hp27 => ?_)
    obtain ⟨t27, rfl, rfl, hE_27⟩ := hp27
    refine (show Go g κ 30 [some (.ref x), some (.int (nI i2)), some (.int (nI i8)), some (.ref a2)] [.ref t27, .ref b23] [v0, v3, v5, v6, v7, u0_23, v2, u2_23, [(x, .inr (0, [.ref b, .ref lp, .ref lk, .ref lr, .ref lt, .ref ls, .ref lm, .ref so, .int (nI (zBn C))]))], v4] 32 178 from ?_)
    have hTB27 := TreeP.b2 hE_27
    have hp227 := p2_4 hTB27.1
    obtain ⟨sx, hsx⟩ := Option.ne_none_iff_exists'.mp c19
    have hsxb := hsb _ _ hsx
    obtain ⟨as_4, al_4, ap_4, fs_4, fl_4, fp_4, hB_4, hfs_4, hfl_4, hfp_4, hc_4_0, hc_4_1, hc_4_2, hc_4_3⟩ := TreeP.at (hE_27)
    refine g_getNM (q := 33) B (ci := 5) (k := 9) (j := 1) in_X10 rfl dX1_holds_30 rfl rfl (hc_4_0) (Nat.le_of_ble_eq_true rfl) q2040 rfl rfl ?_
    refine g_iload_n (q := 34) B dX1_holds_33 rfl rfl ?_
    refine g_ialdM (v := oI (T.2.1 i8)) (q := 35) B (k := 9) dX1_holds_34 rfl rfl (hc_4_1) (vp_in_nI (by omega) (by omega)) (by rw [nI_clamp (by omega)]; exact hfs_4 _ (by omega)) ?_
    refine g_stk (y := .int (nI sx)) (by rw [hsx]; rfl) ?_
    refine g_callV (q := 38) (is := [7]) (kc2 := 32) (ks2 := 178) B [.int (nI sx)] (ct_J5_get g J (b := b23) (S := S23) (cap := cap23) (i := sx) hu2_23 (by omega)) dX1_holds_35 rfl (rc_in B (ci := 26) rfl (k := 7) rfl (SetP.hm hu2_23)) rfl q1784 q1110 q1111 q84 q1112 rfl rfl moJ5_get rfl rfl (by decide) (by decide) (Nat.le_of_ble_eq_true rfl) (Nat.le_of_ble_eq_true rfl) (Nat.le_of_ble_eq_true rfl) (fun _ _ hx => noX_x hx) (fun v35 L1 hp35 => ?_)
    obtain ⟨rfl, rfl⟩ := hp35
    refine (show Go g κ 38 [some (.ref x), some (.int (nI i2)), some (.int (nI i8)), some (.ref a2)] [.int (nI (if S23 sx = true then 1 else 0))] [v0, v3, v5, v6, v7, u0_23, v2, [(x, .inr (0, [.ref b, .ref lp, .ref lk, .ref lr, .ref lt, .ref ls, .ref lm, .ref so, .int (nI (zBn C))]))], v4, u2_23] 32 178 from ?_)
    refine g_if_eq (tgt := 45) (q := 41) B dX1_holds_38 rfl (by decide) (bo_eq) (fun c38 => ?_) (fun c38 => ?_)
    · skip
      refine g_iconst (v := nI 0) (q := 46) B dX1_holds_45 rfl (by decide) ?_
      obtain ⟨wc_5, ewc_5⟩ : ∃ w : va_W, w = ([[(x, .inr (0, [.ref b, .ref lp, .ref lk, .ref lr, .ref lt, .ref ls, .ref lm, .ref so, .int (nI (zBn C))]))], v0, u0_23, v2, v3, v4, v5, v6, v7] : List va_W).flatten := ⟨_, rfl⟩
      have hwc_5 : KgP g x C wc_5 := by
        rw [ewc_5]
        exact ⟨b, lp, lk, lr, lt, ls, lm, so, pcap, kcap, rcap, tcap, scap, mcap, socap, ps, pks, pmd, _, _, _, _, _, _, _, _, hcap, hv0, hu0_23, hv2, hv3, hv4, hv5, hv6, hv7, rfl⟩
      refine g_close (w := wc_5) [7, 0, 4, 4, 0, 3, 0, 0, 0] rfl ewc_5 rfl ?_
      refine (show Go g κ 46 [some (.ref x), some (.int (nI i2)), some (.int (nI i8)), some (.ref a2)] [.int (nI 0)] [u2_23, wc_5] 32 178 from ?_)
      refine g_pk [1] rfl rfl ?_
      refine (show Go g κ 46 [some (.ref x), some (.int (nI i2)), some (.int (nI i8)), some (.ref a2)] [.int (nI 0)] [wc_5] 32 178 from ?_)
      exact g_zret B E dX1_holds_46 (by decide) (⟨i2, r2, i8, false, _, rfl, rfl, hwc_5, rfl, hr_2, rfl, hi_8, hne_8, ⟨(fun z => by cases z), fun ⟨s, h1, h2⟩ => by first | (rw [c19] at h1; cases h1) | (rw [hsx] at h1; cases h1; exact absurd ((hS_23 _).mpr h2) c38)⟩⟩)
    · skip
      have c38 := Classical.not_not.mp c38
      refine g_iconst (v := nI 1) (q := 42) B dX1_holds_41 rfl (by decide) ?_
      refine g_goto (tgt := 46) B dX1_holds_42 (by decide) ?_
      obtain ⟨wc_6, ewc_6⟩ : ∃ w : va_W, w = ([[(x, .inr (0, [.ref b, .ref lp, .ref lk, .ref lr, .ref lt, .ref ls, .ref lm, .ref so, .int (nI (zBn C))]))], v0, u0_23, v2, v3, v4, v5, v6, v7] : List va_W).flatten := ⟨_, rfl⟩
      have hwc_6 : KgP g x C wc_6 := by
        rw [ewc_6]
        exact ⟨b, lp, lk, lr, lt, ls, lm, so, pcap, kcap, rcap, tcap, scap, mcap, socap, ps, pks, pmd, _, _, _, _, _, _, _, _, hcap, hv0, hu0_23, hv2, hv3, hv4, hv5, hv6, hv7, rfl⟩
      refine g_close (w := wc_6) [7, 0, 4, 4, 0, 3, 0, 0, 0] rfl ewc_6 rfl ?_
      refine (show Go g κ 46 [some (.ref x), some (.int (nI i2)), some (.int (nI i8)), some (.ref a2)] [.int (nI 1)] [u2_23, wc_6] 32 178 from ?_)
      refine g_pk [1] rfl rfl ?_
      refine (show Go g κ 46 [some (.ref x), some (.int (nI i2)), some (.int (nI i8)), some (.ref a2)] [.int (nI 1)] [wc_6] 32 178 from ?_)
      exact g_zret B E dX1_holds_46 (by decide) (⟨i2, r2, i8, true, _, rfl, rfl, hwc_6, rfl, hr_2, rfl, hi_8, hne_8, ⟨fun _ => ⟨sx, hsx, (hS_23 sx).mp c38⟩, fun _ => rfl⟩⟩)
theorem ct_X1_canRead (g : Gv) (J : Jd g) {x : Nat} {C : KsS} {v : Int32} {u : Int32} {w0 : va_W} (hw0 : KgP g x C w0) (hC : KsB C) (hmb : ∀ r ∈ zMs C, r.2.2.2 < 1000) : Ct g yX1_canRead (ws_ yX1_canRead cX1_canRead 5 (some .boolean)) 10 1600 7400 [.ref x, .int v, .int u] [w0] (fun (rv_ : Option Value) (rL_ : List va_W) => ∃ (i : Nat) (r : PeS) (j : Nat) (m : MsS) (K : Nat → Bool) (u0 : va_W), rv_ = some (.int (nI (if K m.2.2.2 = true then 1 else 0))) ∧ rL_ = [u0] ∧ KgP g x C u0 ∧ (v = nI i) ∧ ((zPs C)[i]? = some r) ∧ (u = nI j) ∧ ((zMs C)[j]? = some m) ∧ (∀ x, K x = true ↔ ClQ (zSs C) (zBx C) (helP (zKs C) r) x)) (fun (rE_ : String) (rL_ : List va_W) => rL_ = [w0] ∧ ((rE_ = "java/lang/IndexOutOfBoundsException" ∧ (¬ (inR v (zPs C).length = true ∧ inR u (zMs C).length = true))))) := by
  refine Ct.of "Keygrove" [some (.ref x), some (.int v), some (.int u), none, none] rfl (by decide) rfl (Nat.le_of_ble_eq_true rfl) rfl ?_
  intro κ B E tb
  have hC0 := hC
  obtain ⟨hc1, hc2, hc3, hc4, hc5, hc6, hc7, hc8, hc9, hc10, hc11⟩ := hC0
  obtain ⟨b, lp, lk, lr, lt, ls, lm, so, pcap, kcap, rcap, tcap, scap, mcap, socap, ps, pks, pmd, v0, v1, v2, v3, v4, v5, v6, v7, hcap, hv0, hv1, hv2, hv3, hv4, hv5, hv6, hv7, rfl⟩ := hw0
  refine g_open 0 rfl rfl rfl ?_
  refine (show Go g κ 0 [some (.ref x), some (.int v), some (.int u), none, none] [] [[(x, .inr (0, [.ref b, .ref lp, .ref lk, .ref lr, .ref lt, .ref ls, .ref lm, .ref so, .int (nI (zBn C))]))], v0, v1, v2, v3, v4, v5, v6, v7] 1600 7400 from ?_)
  have hcf := capF_le (zSs C).length
  refine g_aload_n (q := 1) B dX1_canRead_0 rfl rfl (rv_r _) ?_
  refine g_iload_n (q := 2) B dX1_canRead_1 rfl rfl ?_
  refine g_callV (q := 5) (is := [0, 1]) (kc2 := 1599) (ks2 := 7394) B [.int v] (ct_X1_personWith g J (x := x) (lk := lk) (b := b) (lp := lp) (lr := lr) (lt := lt) (ls := ls) (lm := lm) (so := so) (bxs := zBn C) (ps := ps) (Ps := (zPs C)) (pcap := pcap) (pks := pks) (pmd := pmd) (v := v) hv1 (by first | assumption | omega | rfl)) dX1_canRead_2 rfl (rc_at B (ci := 0) rfl (k := 0) rfl) rfl q1961 q1963 qs15 q77 q1964 rfl rfl moX1_personWith rfl rfl (by decide) (by decide) (Nat.le_of_ble_eq_true rfl) (Nat.le_of_ble_eq_true rfl) (Nat.le_of_ble_eq_true rfl) (fun E2 L1 hx2 => ?_) (fun v2 L1 hp2 => ?_)
  · skip
    obtain ⟨rfl, hx2⟩ := hx2
    obtain ⟨rfl, hx2⟩ := hx2
    refine gx_cl [7, 0, 6, 0, 0, 0, 0, 0, 0] rfl ?_
    exact g_out B E tb (by first | exact ⟨rfl, ⟨rfl, hx2⟩⟩ | exact ⟨rfl, ⟨rfl, fun z => hx2 z.1⟩⟩ | exact ⟨rfl, ⟨rfl, by simp_all⟩⟩)
  obtain ⟨i2, a2, r2, rfl, rfl, hv_2, ha_2, hr_2⟩ := hp2
  refine (show Go g κ 5 [some (.ref x), some (.int v), some (.int u), none, none] [.ref a2] [v0, v2, v3, v4, v5, v6, v7, [(x, .inr (0, [.ref b, .ref lp, .ref lk, .ref lr, .ref lt, .ref ls, .ref lm, .ref so, .int (nI (zBn C))]))], v1] 1599 7394 from ?_)
  subst hv_2
  obtain ⟨hli_1, hln_1, hel_1⟩ := PersL.at (Sub.self hv1)
  have hE_2 := hel_1 _ _ _ ha_2 hr_2
  refine (show Go g κ 5 [some (.ref x), some (.int (nI i2)), some (.int u), none, none] [.ref a2] [v0, v2, v3, v4, v5, v6, v7, [(x, .inr (0, [.ref b, .ref lp, .ref lk, .ref lr, .ref lt, .ref ls, .ref lm, .ref so, .int (nI (zBn C))]))], v1] 1599 7394 from ?_)
  refine g_astore_n (q := 6) (lv2 := [some (.ref x), some (.int (nI i2)), some (.int u), some (.ref a2), none]) B dX1_canRead_5 rfl (Nat.le_of_ble_eq_true rfl) (rv_r _) rfl ?_
  refine g_aload_n (q := 7) B dX1_canRead_6 rfl rfl (rv_r _) ?_
  refine g_iload_n (q := 8) B dX1_canRead_7 rfl rfl ?_
  refine g_callV (q := 11) (is := [7, 5]) (kc2 := 1598) (ks2 := 7388) B [.int u] (ct_X1_messageWith g J (x := x) (lk := lk) (b := b) (lp := lp) (lr := lr) (lt := lt) (ls := ls) (lm := lm) (so := so) (bxs := (zBn C)) (Ms := (zMs C)) (mcap := mcap) (v := u) hv6 (by first | assumption | omega | rfl)) dX1_canRead_8 rfl (rc_at B (ci := 0) rfl (k := 7) rfl) rfl q2898 q2900 qs46 q77 q2901 rfl rfl moX1_messageWith rfl rfl (by decide) (by decide) (Nat.le_of_ble_eq_true rfl) (Nat.le_of_ble_eq_true rfl) (Nat.le_of_ble_eq_true rfl) (fun E8 L1 hx8 => ?_) (fun v8 L1 hp8 => ?_)
  · skip
    obtain ⟨rfl, hx8⟩ := hx8
    obtain ⟨rfl, hx8⟩ := hx8
    refine gx_cl [7, 0, 5, 0, 0, 0, 0, 1, 0] rfl ?_
    exact g_out B E tb (by first | exact ⟨rfl, ⟨rfl, hx8⟩⟩ | exact ⟨rfl, ⟨rfl, fun z => hx8 z.2⟩⟩ | exact ⟨rfl, ⟨rfl, by simp_all⟩⟩)
  obtain ⟨i8, a8, r8, rfl, rfl, hv_8, hr_8, hE_8⟩ := hp8
  refine (show Go g κ 11 [some (.ref x), some (.int (nI i2)), some (.int u), some (.ref a2), none] [.ref a8] [v0, v2, v3, v4, v5, v7, v1, [(x, .inr (0, [.ref b, .ref lp, .ref lk, .ref lr, .ref lt, .ref ls, .ref lm, .ref so, .int (nI (zBn C))]))], v6] 1598 7388 from ?_)
  subst hv_8
  have hmr := hmb _ (List.mem_of_getElem? hr_8)
  refine (show Go g κ 11 [some (.ref x), some (.int (nI i2)), some (.int (nI i8)), some (.ref a2), none] [.ref a8] [v0, v2, v3, v4, v5, v7, v1, [(x, .inr (0, [.ref b, .ref lp, .ref lk, .ref lr, .ref lt, .ref ls, .ref lm, .ref so, .int (nI (zBn C))]))], v6] 1598 7388 from ?_)
  refine g_astore (q := 13) (lv2 := [some (.ref x), some (.int (nI i2)), some (.int (nI i8)), some (.ref a2), some (.ref a8)]) B dX1_canRead_11 rfl (Nat.le_of_ble_eq_true rfl) (rv_r _) rfl ?_
  refine g_aload_n (q := 14) B dX1_canRead_13 rfl rfl (rv_r _) ?_
  refine g_get (q := 17) B (ci := 0) (k := 7) (j := 0) in_X1 rfl dX1_canRead_14 rfl rfl (Nat.le_of_ble_eq_true rfl) q277 rfl rfl ?_
  refine g_aload_n (q := 18) B dX1_canRead_17 rfl rfl (rv_r _) ?_
  refine g_callV (q := 21) (is := [6, 1]) (kc2 := 1522) (ks2 := 7178) B [] (ct_X4_held_L g J (lp := lp) (pps := ps) (Ps := (zPs C)) (pcp := pcap) (ix := i2) (pmd := pmd) (a := a2) (x := x) (pks := pks) (r := r2) (lk := lk) (Ks := (zKs C)) (kcap := kcap) hv1 hv2 (by first | assumption | omega | rfl) (by first | assumption | omega | rfl) ((hc11 _ _ hr_2).2.1)) dX1_canRead_18 rfl (rc_in B (ci := 2) rfl (k := 6) rfl (Sub.hm (hE_2) fun _ z => PersP.hm z)) rfl q1162 q1163 q1164 q90 q1165 rfl rfl moX4_held rfl rfl (by decide) (by decide) (Nat.le_of_ble_eq_true rfl) (Nat.le_of_ble_eq_true rfl) (Nat.le_of_ble_eq_true rfl) (fun _ _ hx => noX_x hx) (fun v18 L1 hp18 => ?_)
  obtain ⟨b18, S18, cap18, u0_18, u2_18, rfl, rfl, hu0_18, hu2_18, hS_18, hcap_18⟩ := hp18
  refine (show Go g κ 21 [some (.ref x), some (.int (nI i2)), some (.int (nI i8)), some (.ref a2), some (.ref a8)] [.ref b18, .ref b] [v0, v3, v4, v5, v7, [(x, .inr (0, [.ref b, .ref lp, .ref lk, .ref lr, .ref lt, .ref ls, .ref lm, .ref so, .int (nI (zBn C))]))], v6, u0_18, v2, u2_18] 1522 7178 from ?_)
  have hSn := fun x h => (hc11 _ _ hr_2).2.2.1 x ((hS_18 x).mp h)
  refine g_callS (q := 24) (is := [9]) (kc2 := 300) (ks2 := 600) B [.ref b18] (ct_X1_listOf g J (so := b18) (S := S18) (cap := cap18) (n := (zSs C).length) hu2_18 (hSn) (by omega)) dX1_canRead_21 rfl q332 q333 q77 q334 rfl rfl moX1_listOf rfl rfl (by decide) (by decide) (Nat.le_of_ble_eq_true rfl) (by omega) (by omega) (fun _ _ hx => noX_x hx) (fun v21 L1 hp21 => ?_)
  obtain ⟨p21, vs21, u1_21, rfl, rfl, hu1_21, hvs_21, hvl_21⟩ := hp21
  refine (show Go g κ 24 [some (.ref x), some (.int (nI i2)), some (.int (nI i8)), some (.ref a2), some (.ref a8)] [.ref p21, .ref b] [v0, v3, v4, v5, v7, [(x, .inr (0, [.ref b, .ref lp, .ref lk, .ref lr, .ref lt, .ref ls, .ref lm, .ref so, .int (nI (zBn C))]))], v6, u0_18, v2, u2_18, u1_21] 300 600 from ?_)
  refine g_callV (q := 27) (is := [0, 9]) (kc2 := 266) (ks2 := 520) B [.ref p21] (ct_X2_finds g J (b := b) (ss := (zSs C)) (bx := (zBx C)) (z := (zZz C)) (p := p21) (vs := vs21) (capv := (capF vs21.length)) hv0 hu1_21 (by first | assumption | omega | rfl) (by first | assumption | omega | rfl) (fun v h => hSn v ((hvs_21 v).mp h))) dX1_canRead_24 rfl (rc_in B (ci := 1) rfl (k := 0) rfl (BookP.hm hv0)) rfl q792 q793 q794 q78 q795 rfl rfl moX2_finds rfl rfl (by decide) (by decide) (Nat.le_of_ble_eq_true rfl) (Nat.le_of_ble_eq_true rfl) (Nat.le_of_ble_eq_true rfl) (fun _ _ hx => noX_x hx) (fun v24 L1 hp24 => ?_)
  obtain ⟨r24, K24, cap24, u2_24, rfl, rfl, hu2_24, hK_24, hcap_24, hlt_24⟩ := hp24
  refine (show Go g κ 27 [some (.ref x), some (.int (nI i2)), some (.int (nI i8)), some (.ref a2), some (.ref a8)] [.ref r24] [v3, v4, v5, v7, [(x, .inr (0, [.ref b, .ref lp, .ref lk, .ref lr, .ref lt, .ref ls, .ref lm, .ref so, .int (nI (zBn C))]))], v6, u0_18, v2, u2_18, v0, u1_21, u2_24] 266 520 from ?_)
  have hQ := fun x => (hK_24 x).trans (ClQ.of (fun v => (hvs_21 v).trans (hS_18 v)) x)
  refine g_aload (q := 29) B dX1_canRead_27 rfl rfl (rv_r _) ?_
  have hc_3_0 := MsgP.at (hE_8)
  refine g_getNM (q := 32) B (ci := 11) (k := 5) (j := 3) in_X21 rfl dX1_canRead_29 rfl rfl (hc_3_0) (Nat.le_of_ble_eq_true rfl) q2881 rfl rfl ?_
  refine g_callV (q := 35) (is := [11]) (kc2 := 266) (ks2 := 520) B [.int (nI r8.2.2.2)] (ct_J5_get g J (b := r24) (S := K24) (cap := cap24) (i := r8.2.2.2) hu2_24 (by omega)) dX1_canRead_32 rfl (rc_in B (ci := 26) rfl (k := 11) rfl (SetP.hm hu2_24)) rfl q1784 q1110 q1111 q84 q1112 rfl rfl moJ5_get rfl rfl (by decide) (by decide) (Nat.le_of_ble_eq_true rfl) (Nat.le_of_ble_eq_true rfl) (Nat.le_of_ble_eq_true rfl) (fun _ _ hx => noX_x hx) (fun v32 L1 hp32 => ?_)
  obtain ⟨rfl, rfl⟩ := hp32
  refine (show Go g κ 35 [some (.ref x), some (.int (nI i2)), some (.int (nI i8)), some (.ref a2), some (.ref a8)] [.int (nI (if K24 r8.2.2.2 = true then 1 else 0))] [v3, v4, v5, v7, [(x, .inr (0, [.ref b, .ref lp, .ref lk, .ref lr, .ref lt, .ref ls, .ref lm, .ref so, .int (nI (zBn C))]))], v6, u0_18, v2, u2_18, v0, u1_21, u2_24] 266 520 from ?_)
  obtain ⟨wc_4, ewc_4⟩ : ∃ w : va_W, w = ([[(x, .inr (0, [.ref b, .ref lp, .ref lk, .ref lr, .ref lt, .ref ls, .ref lm, .ref so, .int (nI (zBn C))]))], v0, u0_18, v2, v3, v4, v5, v6, v7] : List va_W).flatten := ⟨_, rfl⟩
  have hwc_4 : KgP g x C wc_4 := by
    rw [ewc_4]
    exact ⟨b, lp, lk, lr, lt, ls, lm, so, pcap, kcap, rcap, tcap, scap, mcap, socap, ps, pks, pmd, _, _, _, _, _, _, _, _, hcap, hv0, hu0_18, hv2, hv3, hv4, hv5, hv6, hv7, rfl⟩
  refine g_close (w := wc_4) [4, 8, 5, 5, 0, 0, 0, 1, 0] rfl ewc_4 rfl ?_
  refine (show Go g κ 35 [some (.ref x), some (.int (nI i2)), some (.int (nI i8)), some (.ref a2), some (.ref a8)] [.int (nI (if K24 r8.2.2.2 = true then 1 else 0))] [u2_18, u1_21, u2_24, wc_4] 266 520 from ?_)
  refine g_pk [3] rfl rfl ?_
  refine (show Go g κ 35 [some (.ref x), some (.int (nI i2)), some (.int (nI i8)), some (.ref a2), some (.ref a8)] [.int (nI (if K24 r8.2.2.2 = true then 1 else 0))] [wc_4] 266 520 from ?_)
  exact g_zret B E dX1_canRead_35 (by split <;> decide) (⟨i2, r2, i8, r8, K24, _, rfl, rfl, hwc_4, rfl, hr_2, rfl, hr_8, hQ⟩)
