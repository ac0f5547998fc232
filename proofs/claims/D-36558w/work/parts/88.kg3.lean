set_option maxRecDepth 100000
/-- what can be found from Q -/
def ClQ (ss : List Sec) (bx : List (Nat × Nat)) (Q : Nat → Prop) (x : Nat) : Prop := ∀ P : Nat → Prop, (∀ v, Q v → P v) → (∀ i s o, ss[i]? = some s → s.2.1 = some o → P o → (∀ q, s.2.2.1 = some q → P q) → P i) → (∀ p ∈ bx, P p.1 → P p.2) → P x
theorem ClQ.of {ss : List Sec} {bx : List (Nat × Nat)} {vs : List Nat} {Q : Nat → Prop} (h : ∀ v, v ∈ vs ↔ Q v) (x : Nat) : ClK ss bx vs x ↔ ClQ ss bx Q x :=
  ⟨fun z P h1 => z P fun v hv => h1 v ((h v).mp hv), fun z P h1 => z P fun v hv => h1 v ((h v).mpr hv)⟩
theorem ctK_S {S : Nat → Bool} {cap : Nat} (hc : cap ≤ 30) {g : Gv} {b : Nat} {w : va_W} (h : SetP g b S cap w) : fb_ct S (64 * cap) = ctK S := h.ct hc
theorem ct_X1_keyOf (g : Gv) (J : Jd g) {x : Nat} {lk : Nat} {b : Nat} {lp : Nat} {lr : Nat} {lt : Nat} {ls : Nat} {lm : Nat} {so : Nat} {bxs : Nat} {ss : List Sec} {bx : List (Nat × Nat)} {z : Int32} {Ss : List StS} {scap : Nat} {e : Nat} {s : StS} {ky : Nat} {w1 : va_W} {w2 : va_W} (hw1 : BookP g b ss bx z w1) (hw2 : LhP g (StepP g) ls Ss scap w2) (hs : Ss[e]? = some s) (hl : ss.length < 999) (hsl : s.2.2.1 < ss.length) (hk : fnd ss (s.2.2.1, none, 6) = some ky) : Ct g yX1_keyOf (ws_ yX1_keyOf cX1_keyOf 2 (some .int)) 13 20 170 [.ref x, .int (nI e)] [[(x, .inr (0, [.ref b, .ref lp, .ref lk, .ref lr, .ref lt, .ref ls, .ref lm, .ref so, .int (nI bxs)]))], w1, w2] (fun (rv_ : Option Value) (rL_ : List va_W) => ∃ (u1 : va_W), rv_ = some (.int (nI ky)) ∧ rL_ = [[(x, .inr (0, [.ref b, .ref lp, .ref lk, .ref lr, .ref lt, .ref ls, .ref lm, .ref so, .int (nI bxs)]))], u1, w2] ∧ BookP g b ss bx z u1) noX := by
  refine Ct.of "Keygrove" [some (.ref x), some (.int (nI e))] rfl (by decide) rfl (Nat.le_of_ble_eq_true rfl) rfl ?_
  intro κ B E tb
  refine g_aload_n (q := 1) B dX1_keyOf_0 rfl rfl (rv_r _) ?_
  refine g_get (q := 4) B (ci := 0) (k := 0) (j := 0) in_X1 rfl dX1_keyOf_1 rfl rfl (Nat.le_of_ble_eq_true rfl) q277 rfl rfl ?_
  refine g_aload_n (q := 5) B dX1_keyOf_4 rfl rfl (rv_r _) ?_
  refine g_get (q := 8) B (ci := 0) (k := 0) (j := 5) in_X1 rfl dX1_keyOf_5 rfl rfl (Nat.le_of_ble_eq_true rfl) q283 rfl rfl ?_
  refine g_iload_n (q := 9) B dX1_keyOf_8 rfl rfl ?_
  obtain ⟨ps_1, md_1, hli_1, hln_1, hel_1⟩ := LhP.at (Sub.self hw2)
  obtain ⟨x9, hx9⟩ := get_ex (xs := ps_1) (i := e) (by have := get_lt2 (show Ss[e]? = some s from hs); have := hln_1.1; omega)
  have hE_2 := hel_1 _ _ _ hx9 (show Ss[e]? = some s from hs)
  refine g_callF (q := 14) (is := [2]) (kc2 := 20) (ks2 := 170) B [.int (nI e)] (ct_J2_get_s g J (p := ls) (xs := ps_1) (md := md_1) (cap := scap) (i := e) (x := x9) (W0 := w2)  (hli_1) (hx9)) dX1_keyOf_9 rfl (ci := 21) rfl (rc_in B (ci := 21) rfl (k := 2) rfl (LhP.hm hw2)) q1138 q1093 q1095 q81 q1097 q1092 q1091 q1096 q1094 q318 rfl rfl mojava_util_List_get__I_Ljava_lang_Object_ rfl rfl (by decide) (by decide) (Nat.le_of_ble_eq_true rfl) (Nat.le_of_ble_eq_true rfl) (Nat.le_of_ble_eq_true rfl) (fun _ _ hx => noX_x hx) (fun v9 L1 hp9 => ?_)
  obtain ⟨rfl, rfl⟩ := hp9
  refine (show Go g κ 14 [some (.ref x), some (.int (nI e))] [.ref x9, .ref b] [[(x, .inr (0, [.ref b, .ref lp, .ref lk, .ref lr, .ref lt, .ref ls, .ref lm, .ref so, .int (nI bxs)]))], w1, w2] 20 170 from ?_)
  refine g_castRS (ci := 6) (q := 17) B rfl (rc_in B (ci := 6) rfl (k := 2) rfl (Sub.hm (hE_2) fun _ z => StepP.hm z)) dX1_keyOf_14 rfl q1228 ?_
  obtain ⟨bb_3, be_3, nb_3, ne_3, hc_3_0, hs_3_0, hs_3_1⟩ := StepP.at (hE_2)
  refine g_getNM (q := 20) B (ci := 6) (k := 2) (j := 2) in_X11 rfl dX1_keyOf_17 rfl rfl (hc_3_0) (Nat.le_of_ble_eq_true rfl) q2068 rfl rfl ?_
  refine g_bipush (v := nI 6) (q := 22) B dX1_keyOf_20 rfl (by decide) ?_
  refine g_callV (q := 25) (is := [1]) (kc2 := 0) (ks2 := 0) B [.int (nI s.2.2.1), .int (nI 6)] (ct_X2_from_p g J (b := b) (ss := ss) (bx := bx) (z := z) (one := s.2.2.1) (l := 6) (s2 := ss) (i := ky) hw1 (by first | assumption | omega | rfl) (by first | assumption | omega | rfl) (Or.inl (by decide)) (frm_s hk)) dX1_keyOf_22 rfl (rc_in B (ci := 1) rfl (k := 1) rfl (BookP.hm hw1)) rfl q1229 q1230 q1231 q78 q1232 rfl rfl moX2_from rfl rfl (by decide) (by decide) (Nat.le_of_ble_eq_true rfl) (by omega) (by omega) (fun _ _ hx => noX_x hx) (fun v22 L1 hp22 => ?_)
  obtain ⟨u0_22, rfl, rfl, hu0_22, hph_22⟩ := hp22
  refine (show Go g κ 25 [some (.ref x), some (.int (nI e))] [.int (nI ky)] [[(x, .inr (0, [.ref b, .ref lp, .ref lk, .ref lr, .ref lt, .ref ls, .ref lm, .ref so, .int (nI bxs)]))], w2, u0_22] 0 0 from ?_)
  refine g_pk [0, 1, 0] rfl rfl ?_
  refine (show Go g κ 25 [some (.ref x), some (.int (nI e))] [.int (nI ky)] [[(x, .inr (0, [.ref b, .ref lp, .ref lk, .ref lr, .ref lt, .ref ls, .ref lm, .ref so, .int (nI bxs)]))], u0_22, w2] 0 0 from ?_)
  exact g_iret B E dX1_keyOf_25 (⟨u0_22, rfl, rfl, hu0_22⟩)
theorem moX1_listOf : Mo yX1_listOf 1 := by
  refine ⟨by decide, by decide, by decide +kernel⟩
theorem moX2_finds : Mo yX2_finds 1 := by
  refine ⟨by decide, by decide, by decide +kernel⟩
theorem ct_X1_found (g : Gv) (J : Jd g) {x : Nat} {C : KsS} {w0 : va_W} (hw0 : KgP g x C w0) (hC : KsB C) : Ct g yX1_found (ws_ yX1_found cX1_found 1 (some .int)) 10 1500 7000 [.ref x] [w0] (fun (rv_ : Option Value) (rL_ : List va_W) => ∃ (K : Nat → Bool) (u0 : va_W), rv_ = some (.int (nI (ctK K))) ∧ rL_ = [u0] ∧ KgP g x C u0 ∧ (∀ x, K x = true ↔ ClQ (zSs C) (zBx C) (fun v => zSo C v = true) x)) noX := by
  refine Ct.of "Keygrove" [some (.ref x)] rfl (by decide) rfl (Nat.le_of_ble_eq_true rfl) rfl ?_
  intro κ B E tb
  have hC0 := hC
  obtain ⟨hc1, hc2, hc3, hc4, hc5, hc6, hc7, hc8, hc9, hc10, hc11⟩ := hC0
  obtain ⟨b, lp, lk, lr, lt, ls, lm, so, pcap, kcap, rcap, tcap, scap, mcap, socap, ps, pks, pmd, v0, v1, v2, v3, v4, v5, v6, v7, hcap, hv0, hv1, hv2, hv3, hv4, hv5, hv6, hv7, rfl⟩ := hw0
  refine g_open 0 rfl rfl rfl ?_
  refine (show Go g κ 0 [some (.ref x)] [] [[(x, .inr (0, [.ref b, .ref lp, .ref lk, .ref lr, .ref lt, .ref ls, .ref lm, .ref so, .int (nI (zBn C))]))], v0, v1, v2, v3, v4, v5, v6, v7] 1500 7000 from ?_)
  have hcf := capF_le (zSs C).length
  refine g_aload_n (q := 1) B dX1_found_0 rfl rfl (rv_r _) ?_
  refine g_get (q := 4) B (ci := 0) (k := 0) (j := 0) in_X1 rfl dX1_found_1 rfl rfl (Nat.le_of_ble_eq_true rfl) q277 rfl rfl ?_
  refine g_aload_n (q := 5) B dX1_found_4 rfl rfl (rv_r _) ?_
  refine g_get (q := 8) B (ci := 0) (k := 0) (j := 7) in_X1 rfl dX1_found_5 rfl rfl (Nat.le_of_ble_eq_true rfl) q285 rfl rfl ?_
  refine g_callS (q := 11) (is := [8]) (kc2 := 300) (ks2 := 600) B [.ref so] (ct_X1_listOf g J (so := so) (S := (zSo C)) (cap := socap) (n := (zSs C).length) hv7 (hc10) (by omega)) dX1_found_8 rfl q332 q333 q77 q334 rfl rfl moX1_listOf rfl rfl (by decide) (by decide) (Nat.le_of_ble_eq_true rfl) (by omega) (by omega) (fun _ _ hx => noX_x hx) (fun v8 L1 hp8 => ?_)
  obtain ⟨p8, vs8, u1_8, rfl, rfl, hu1_8, hvs_8, hvl_8⟩ := hp8
  refine (show Go g κ 11 [some (.ref x)] [.ref p8, .ref b] [[(x, .inr (0, [.ref b, .ref lp, .ref lk, .ref lr, .ref lt, .ref ls, .ref lm, .ref so, .int (nI (zBn C))]))], v0, v1, v2, v3, v4, v5, v6, v7, u1_8] 300 600 from ?_)
  refine g_callV (q := 14) (is := [1, 8]) (kc2 := 266) (ks2 := 520) B [.ref p8] (ct_X2_finds g J (b := b) (ss := (zSs C)) (bx := (zBx C)) (z := (zZz C)) (p := p8) (vs := vs8) (capv := (capF vs8.length)) hv0 hu1_8 (by first | assumption | omega | rfl) (by first | assumption | omega | rfl) (fun v h => hc10 v ((hvs_8 v).mp h))) dX1_found_11 rfl (rc_in B (ci := 1) rfl (k := 1) rfl (BookP.hm hv0)) rfl q792 q793 q794 q78 q795 rfl rfl moX2_finds rfl rfl (by decide) (by decide) (Nat.le_of_ble_eq_true rfl) (Nat.le_of_ble_eq_true rfl) (Nat.le_of_ble_eq_true rfl) (fun _ _ hx => noX_x hx) (fun v11 L1 hp11 => ?_)
  obtain ⟨r11, K11, cap11, u2_11, rfl, rfl, hu2_11, hK_11, hcap_11, hlt_11⟩ := hp11
  refine (show Go g κ 14 [some (.ref x)] [.ref r11] [[(x, .inr (0, [.ref b, .ref lp, .ref lk, .ref lr, .ref lt, .ref ls, .ref lm, .ref so, .int (nI (zBn C))]))], v1, v2, v3, v4, v5, v6, v7, v0, u1_8, u2_11] 266 520 from ?_)
  have hQ11 := fun x => (hK_11 x).trans (ClQ.of hvs_8 x)
  refine g_callV (q := 17) (is := [10]) (kc2 := 266) (ks2 := 520) B [] (ct_J5_cardinality g J (b := r11) (S := K11) (cap := cap11) hu2_11 ) dX1_found_14 rfl (rc_in B (ci := 26) rfl (k := 10) rfl (SetP.hm hu2_11)) rfl q1113 q1078 q1079 q84 q1080 rfl rfl moJ5_cardinality rfl rfl (by decide) (by decide) (Nat.le_of_ble_eq_true rfl) (Nat.le_of_ble_eq_true rfl) (Nat.le_of_ble_eq_true rfl) (fun _ _ hx => noX_x hx) (fun v14 L1 hp14 => ?_)
  obtain ⟨rfl, rfl⟩ := hp14
  refine (show Go g κ 17 [some (.ref x)] [.int (nI (fb_ct K11 (64 * cap11)))] [[(x, .inr (0, [.ref b, .ref lp, .ref lk, .ref lr, .ref lt, .ref ls, .ref lm, .ref so, .int (nI (zBn C))]))], v1, v2, v3, v4, v5, v6, v7, v0, u1_8, u2_11] 266 520 from ?_)
  rw [(show fb_ct K11 (64 * cap11) = ctK K11 from hu2_11.ct (by omega))]
  refine (show Go g κ 17 [some (.ref x)] [.int (nI (ctK K11))] [[(x, .inr (0, [.ref b, .ref lp, .ref lk, .ref lr, .ref lt, .ref ls, .ref lm, .ref so, .int (nI (zBn C))]))], v1, v2, v3, v4, v5, v6, v7, v0, u1_8, u2_11] 266 520 from ?_)
  obtain ⟨wc_1, ewc_1⟩ : ∃ w : va_W, w = ([[(x, .inr (0, [.ref b, .ref lp, .ref lk, .ref lr, .ref lt, .ref ls, .ref lm, .ref so, .int (nI (zBn C))]))], v0, v1, v2, v3, v4, v5, v6, v7] : List va_W).flatten := ⟨_, rfl⟩
  have hwc_1 : KgP g x C wc_1 := by
    rw [ewc_1]
    exact ⟨b, lp, lk, lr, lt, ls, lm, so, pcap, kcap, rcap, tcap, scap, mcap, socap, ps, pks, pmd, _, _, _, _, _, _, _, _, hcap, hv0, hv1, hv2, hv3, hv4, hv5, hv6, hv7, rfl⟩
  refine g_close (w := wc_1) [0, 7, 0, 0, 0, 0, 0, 0, 0] rfl ewc_1 rfl ?_
  refine (show Go g κ 17 [some (.ref x)] [.int (nI (ctK K11))] [u1_8, u2_11, wc_1] 266 520 from ?_)
  refine g_pk [2] rfl rfl ?_
  refine (show Go g κ 17 [some (.ref x)] [.int (nI (ctK K11))] [wc_1] 266 520 from ?_)
  exact g_iret B E dX1_found_17 (⟨K11, _, rfl, rfl, hwc_1, hQ11⟩)
theorem moX1_messageWith : Mo yX1_messageWith 1 := by
  refine ⟨by decide, by decide, by decide +kernel⟩
theorem ct_X1_findsText (g : Gv) (J : Jd g) {x : Nat} {C : KsS} {v : Int32} {w0 : va_W} (hw0 : KgP g x C w0) (hC : KsB C) (hmb : ∀ r ∈ zMs C, r.2.2.2 < 1000) : Ct g yX1_findsText (ws_ yX1_findsText cX1_findsText 3 (some .boolean)) 10 1500 7000 [.ref x, .int v] [w0] (fun (rv_ : Option Value) (rL_ : List va_W) => ∃ (i : Nat) (r : MsS) (K : Nat → Bool) (u0 : va_W), rv_ = some (.int (nI (if K r.2.2.2 = true then 1 else 0))) ∧ rL_ = [u0] ∧ KgP g x C u0 ∧ (v = nI i) ∧ ((zMs C)[i]? = some r) ∧ (∀ x, K x = true ↔ ClQ (zSs C) (zBx C) (fun v => zSo C v = true) x)) (fun (rE_ : String) (rL_ : List va_W) => rL_ = [w0] ∧ ((rE_ = "java/lang/IndexOutOfBoundsException" ∧ (¬ inR v (zMs C).length = true)))) := by
  refine Ct.of "Keygrove" [some (.ref x), some (.int v), none] rfl (by decide) rfl (Nat.le_of_ble_eq_true rfl) rfl ?_
  intro κ B E tb
  have hC0 := hC
  obtain ⟨hc1, hc2, hc3, hc4, hc5, hc6, hc7, hc8, hc9, hc10, hc11⟩ := hC0
  obtain ⟨b, lp, lk, lr, lt, ls, lm, so, pcap, kcap, rcap, tcap, scap, mcap, socap, ps, pks, pmd, v0, v1, v2, v3, v4, v5, v6, v7, hcap, hv0, hv1, hv2, hv3, hv4, hv5, hv6, hv7, rfl⟩ := hw0
  refine g_open 0 rfl rfl rfl ?_
  refine (show Go g κ 0 [some (.ref x), some (.int v), none] [] [[(x, .inr (0, [.ref b, .ref lp, .ref lk, .ref lr, .ref lt, .ref ls, .ref lm, .ref so, .int (nI (zBn C))]))], v0, v1, v2, v3, v4, v5, v6, v7] 1500 7000 from ?_)
  have hcf := capF_le (zSs C).length
  refine g_aload_n (q := 1) B dX1_findsText_0 rfl rfl (rv_r _) ?_
  refine g_iload_n (q := 2) B dX1_findsText_1 rfl rfl ?_
  refine g_callV (q := 5) (is := [0, 6]) (kc2 := 1499) (ks2 := 6994) B [.int v] (ct_X1_messageWith g J (x := x) (lk := lk) (b := b) (lp := lp) (lr := lr) (lt := lt) (ls := ls) (lm := lm) (so := so) (bxs := zBn C) (Ms := (zMs C)) (mcap := mcap) (v := v) hv6 (by first | assumption | omega | rfl)) dX1_findsText_2 rfl (rc_at B (ci := 0) rfl (k := 0) rfl) rfl q2898 q2900 qs46 q77 q2901 rfl rfl moX1_messageWith rfl rfl (by decide) (by decide) (Nat.le_of_ble_eq_true rfl) (Nat.le_of_ble_eq_true rfl) (Nat.le_of_ble_eq_true rfl) (fun E2 L1 hx2 => ?_) (fun v2 L1 hp2 => ?_)
  · skip
    obtain ⟨rfl, hx2⟩ := hx2
    obtain ⟨rfl, hx2⟩ := hx2
    refine gx_cl [7, 0, 0, 0, 0, 0, 0, 1, 0] rfl ?_
    exact g_out B E tb (by first | exact ⟨rfl, ⟨rfl, hx2⟩⟩ | exact ⟨rfl, ⟨rfl, by simp_all⟩⟩)
  obtain ⟨i2, a2, r2, rfl, rfl, hv_2, hr_2, hE_2⟩ := hp2
  refine (show Go g κ 5 [some (.ref x), some (.int v), none] [.ref a2] [v0, v1, v2, v3, v4, v5, v7, [(x, .inr (0, [.ref b, .ref lp, .ref lk, .ref lr, .ref lt, .ref ls, .ref lm, .ref so, .int (nI (zBn C))]))], v6] 1499 6994 from ?_)
  subst hv_2
  refine (show Go g κ 5 [some (.ref x), some (.int (nI i2)), none] [.ref a2] [v0, v1, v2, v3, v4, v5, v7, [(x, .inr (0, [.ref b, .ref lp, .ref lk, .ref lr, .ref lt, .ref ls, .ref lm, .ref so, .int (nI (zBn C))]))], v6] 1499 6994 from ?_)
  have hmr := hmb _ (List.mem_of_getElem? hr_2)
  refine g_astore_n (q := 6) (lv2 := [some (.ref x), some (.int (nI i2)), some (.ref a2)]) B dX1_findsText_5 rfl (Nat.le_of_ble_eq_true rfl) (rv_r _) rfl ?_
  refine g_aload_n (q := 7) B dX1_findsText_6 rfl rfl (rv_r _) ?_
  refine g_get (q := 10) B (ci := 0) (k := 7) (j := 0) in_X1 rfl dX1_findsText_7 rfl rfl (Nat.le_of_ble_eq_true rfl) q277 rfl rfl ?_
  refine g_aload_n (q := 11) B dX1_findsText_10 rfl rfl (rv_r _) ?_
  refine g_get (q := 14) B (ci := 0) (k := 7) (j := 7) in_X1 rfl dX1_findsText_11 rfl rfl (Nat.le_of_ble_eq_true rfl) q285 rfl rfl ?_
  refine g_callS (q := 17) (is := [6]) (kc2 := 300) (ks2 := 600) B [.ref so] (ct_X1_listOf g J (so := so) (S := (zSo C)) (cap := socap) (n := (zSs C).length) hv7 (hc10) (by omega)) dX1_findsText_14 rfl q332 q333 q77 q334 rfl rfl moX1_listOf rfl rfl (by decide) (by decide) (Nat.le_of_ble_eq_true rfl) (by omega) (by omega) (fun _ _ hx => noX_x hx) (fun v14 L1 hp14 => ?_)
  obtain ⟨p14, vs14, u1_14, rfl, rfl, hu1_14, hvs_14, hvl_14⟩ := hp14
  refine (show Go g κ 17 [some (.ref x), some (.int (nI i2)), some (.ref a2)] [.ref p14, .ref b] [v0, v1, v2, v3, v4, v5, [(x, .inr (0, [.ref b, .ref lp, .ref lk, .ref lr, .ref lt, .ref ls, .ref lm, .ref so, .int (nI (zBn C))]))], v6, v7, u1_14] 300 600 from ?_)
  refine g_callV (q := 20) (is := [0, 8]) (kc2 := 266) (ks2 := 520) B [.ref p14] (ct_X2_finds g J (b := b) (ss := (zSs C)) (bx := (zBx C)) (z := (zZz C)) (p := p14) (vs := vs14) (capv := (capF vs14.length)) hv0 hu1_14 (by first | assumption | omega | rfl) (by first | assumption | omega | rfl) (fun v h => hc10 v ((hvs_14 v).mp h))) dX1_findsText_17 rfl (rc_in B (ci := 1) rfl (k := 0) rfl (BookP.hm hv0)) rfl q792 q793 q794 q78 q795 rfl rfl moX2_finds rfl rfl (by decide) (by decide) (Nat.le_of_ble_eq_true rfl) (Nat.le_of_ble_eq_true rfl) (Nat.le_of_ble_eq_true rfl) (fun _ _ hx => noX_x hx) (fun v17 L1 hp17 => ?_)
  obtain ⟨r17, K17, cap17, u2_17, rfl, rfl, hu2_17, hK_17, hcap_17, hlt_17⟩ := hp17
  refine (show Go g κ 20 [some (.ref x), some (.int (nI i2)), some (.ref a2)] [.ref r17] [v1, v2, v3, v4, v5, [(x, .inr (0, [.ref b, .ref lp, .ref lk, .ref lr, .ref lt, .ref ls, .ref lm, .ref so, .int (nI (zBn C))]))], v6, v7, v0, u1_14, u2_17] 266 520 from ?_)
  have hQ17 := fun x => (hK_17 x).trans (ClQ.of hvs_14 x)
  refine g_aload_n (q := 21) B dX1_findsText_20 rfl rfl (rv_r _) ?_
  have hc_1_0 := MsgP.at (hE_2)
  refine g_getNM (q := 24) B (ci := 11) (k := 6) (j := 3) in_X21 rfl dX1_findsText_21 rfl rfl (hc_1_0) (Nat.le_of_ble_eq_true rfl) q2881 rfl rfl ?_
  refine g_callV (q := 27) (is := [10]) (kc2 := 266) (ks2 := 520) B [.int (nI r2.2.2.2)] (ct_J5_get g J (b := r17) (S := K17) (cap := cap17) (i := r2.2.2.2) hu2_17 (by omega)) dX1_findsText_24 rfl (rc_in B (ci := 26) rfl (k := 10) rfl (SetP.hm hu2_17)) rfl q1784 q1110 q1111 q84 q1112 rfl rfl moJ5_get rfl rfl (by decide) (by decide) (Nat.le_of_ble_eq_true rfl) (Nat.le_of_ble_eq_true rfl) (Nat.le_of_ble_eq_true rfl) (fun _ _ hx => noX_x hx) (fun v24 L1 hp24 => ?_)
  obtain ⟨rfl, rfl⟩ := hp24
  refine (show Go g κ 27 [some (.ref x), some (.int (nI i2)), some (.ref a2)] [.int (nI (if K17 r2.2.2.2 = true then 1 else 0))] [v1, v2, v3, v4, v5, [(x, .inr (0, [.ref b, .ref lp, .ref lk, .ref lr, .ref lt, .ref ls, .ref lm, .ref so, .int (nI (zBn C))]))], v6, v7, v0, u1_14, u2_17] 266 520 from ?_)
  obtain ⟨wc_2, ewc_2⟩ : ∃ w : va_W, w = ([[(x, .inr (0, [.ref b, .ref lp, .ref lk, .ref lr, .ref lt, .ref ls, .ref lm, .ref so, .int (nI (zBn C))]))], v0, v1, v2, v3, v4, v5, v6, v7] : List va_W).flatten := ⟨_, rfl⟩
  have hwc_2 : KgP g x C wc_2 := by
    rw [ewc_2]
    exact ⟨b, lp, lk, lr, lt, ls, lm, so, pcap, kcap, rcap, tcap, scap, mcap, socap, ps, pks, pmd, _, _, _, _, _, _, _, _, hcap, hv0, hv1, hv2, hv3, hv4, hv5, hv6, hv7, rfl⟩
  refine g_close (w := wc_2) [5, 7, 0, 0, 0, 0, 0, 0, 0] rfl ewc_2 rfl ?_
  refine (show Go g κ 27 [some (.ref x), some (.int (nI i2)), some (.ref a2)] [.int (nI (if K17 r2.2.2.2 = true then 1 else 0))] [u1_14, u2_17, wc_2] 266 520 from ?_)
  refine g_pk [2] rfl rfl ?_
  refine (show Go g κ 27 [some (.ref x), some (.int (nI i2)), some (.ref a2)] [.int (nI (if K17 r2.2.2.2 = true then 1 else 0))] [wc_2] 266 520 from ?_)
  exact g_zret B E dX1_findsText_27 (by split <;> decide) (⟨i2, r2, K17, _, rfl, rfl, hwc_2, rfl, hr_2, hQ17⟩)
theorem moX1_keyOf : Mo yX1_keyOf 1 := by
  refine ⟨by decide, by decide, by decide +kernel⟩
theorem ct_X1_finds (g : Gv) (J : Jd g) {x : Nat} {C : KsS} {v : Int32} {w0 : va_W} (hw0 : KgP g x C w0) (hC : KsB C) (hky : ∀ (e : Nat) (s : StS), (zSt C)[e]? = some s → s.2.2.1 < (zSs C).length ∧ ∃ ky, fnd (zSs C) (s.2.2.1, none, 6) = some ky) : Ct g yX1_finds (ws_ yX1_finds cX1_finds 2 (some .boolean)) 14 1500 7000 [.ref x, .int v] [w0] (fun (rv_ : Option Value) (rL_ : List va_W) => ∃ (i : Nat) (s : StS) (ky : Nat) (K : Nat → Bool) (u0 : va_W), rv_ = some (.int (nI (if K ky = true then 1 else 0))) ∧ rL_ = [u0] ∧ KgP g x C u0 ∧ (v = nI i) ∧ (i < (zTs C).length) ∧ ((zSt C)[i]? = some s) ∧ (fnd (zSs C) (s.2.2.1, none, 6) = some ky) ∧ (∀ x, K x = true ↔ ClQ (zSs C) (zBx C) (fun v => zSo C v = true) x)) (fun (rE_ : String) (rL_ : List va_W) => rL_ = [w0] ∧ ((rE_ = "java/lang/IndexOutOfBoundsException" ∧ (¬ inR v (zTs C).length = true)))) := by
  refine Ct.of "Keygrove" [some (.ref x), some (.int v)] rfl (by decide) rfl (Nat.le_of_ble_eq_true rfl) rfl ?_
  intro κ B E tb
  have hC0 := hC
  obtain ⟨hc1, hc2, hc3, hc4, hc5, hc6, hc7, hc8, hc9, hc10, hc11⟩ := hC0
  obtain ⟨b, lp, lk, lr, lt, ls, lm, so, pcap, kcap, rcap, tcap, scap, mcap, socap, ps, pks, pmd, v0, v1, v2, v3, v4, v5, v6, v7, hcap, hv0, hv1, hv2, hv3, hv4, hv5, hv6, hv7, rfl⟩ := hw0
  refine g_open 0 rfl rfl rfl ?_
  refine (show Go g κ 0 [some (.ref x), some (.int v)] [] [[(x, .inr (0, [.ref b, .ref lp, .ref lk, .ref lr, .ref lt, .ref ls, .ref lm, .ref so, .int (nI (zBn C))]))], v0, v1, v2, v3, v4, v5, v6, v7] 1500 7000 from ?_)
  have hcf := capF_le (zSs C).length
  refine g_aload_n (q := 1) B dX1_finds_0 rfl rfl (rv_r _) ?_
  refine g_iload_n (q := 2) B dX1_finds_1 rfl rfl ?_
  refine g_callV (q := 5) (is := [0, 4]) (kc2 := 1499) (ks2 := 6994) B [.int v] (ct_X1_hasEpoch g J (x := x) (lk := lk) (b := b) (lp := lp) (lr := lr) (lt := lt) (ls := ls) (lm := lm) (so := so) (bxs := zBn C) (Ts := (zTs C)) (tcap := tcap) (v := v) hv4 (by first | assumption | omega | rfl)) dX1_finds_2 rfl (rc_at B (ci := 0) rfl (k := 0) rfl) rfl q2376 q2378 qs28 q77 q2379 rfl rfl moX1_hasEpoch rfl rfl (by decide) (by decide) (Nat.le_of_ble_eq_true rfl) (Nat.le_of_ble_eq_true rfl) (Nat.le_of_ble_eq_true rfl) (fun E2 L1 hx2 => ?_) (fun v2 L1 hp2 => ?_)
  · skip
    obtain ⟨rfl, hx2⟩ := hx2
    obtain ⟨rfl, hx2⟩ := hx2
    refine gx_cl [7, 0, 0, 0, 0, 3, 0, 0, 0] rfl ?_
    exact g_out B E tb (by first | exact ⟨rfl, ⟨rfl, hx2⟩⟩ | exact ⟨rfl, ⟨rfl, by simp_all⟩⟩)
  obtain ⟨i2, rfl, rfl, hv_2, hi_2⟩ := hp2
  refine (show Go g κ 5 [some (.ref x), some (.int v)] [] [v0, v1, v2, v3, v5, v6, v7, [(x, .inr (0, [.ref b, .ref lp, .ref lk, .ref lr, .ref lt, .ref ls, .ref lm, .ref so, .int (nI (zBn C))]))], v4] 1499 6994 from ?_)
  subst hv_2
  refine (show Go g κ 5 [some (.ref x), some (.int (nI i2))] [] [v0, v1, v2, v3, v5, v6, v7, [(x, .inr (0, [.ref b, .ref lp, .ref lk, .ref lr, .ref lt, .ref ls, .ref lm, .ref so, .int (nI (zBn C))]))], v4] 1499 6994 from ?_)
  refine g_aload_n (q := 6) B dX1_finds_5 rfl rfl (rv_r _) ?_
  refine g_get (q := 9) B (ci := 0) (k := 7) (j := 0) in_X1 rfl dX1_finds_6 rfl rfl (Nat.le_of_ble_eq_true rfl) q277 rfl rfl ?_
  refine g_aload_n (q := 10) B dX1_finds_9 rfl rfl (rv_r _) ?_
  refine g_get (q := 13) B (ci := 0) (k := 7) (j := 7) in_X1 rfl dX1_finds_10 rfl rfl (Nat.le_of_ble_eq_true rfl) q285 rfl rfl ?_
  refine g_callS (q := 16) (is := [6]) (kc2 := 300) (ks2 := 600) B [.ref so] (ct_X1_listOf g J (so := so) (S := (zSo C)) (cap := socap) (n := (zSs C).length) hv7 (hc10) (by omega)) dX1_finds_13 rfl q332 q333 q77 q334 rfl rfl moX1_listOf rfl rfl (by decide) (by decide) (Nat.le_of_ble_eq_true rfl) (by omega) (by omega) (fun _ _ hx => noX_x hx) (fun v13 L1 hp13 => ?_)
  obtain ⟨p13, vs13, u1_13, rfl, rfl, hu1_13, hvs_13, hvl_13⟩ := hp13
  refine (show Go g κ 16 [some (.ref x), some (.int (nI i2))] [.ref p13, .ref b] [v0, v1, v2, v3, v5, v6, [(x, .inr (0, [.ref b, .ref lp, .ref lk, .ref lr, .ref lt, .ref ls, .ref lm, .ref so, .int (nI (zBn C))]))], v4, v7, u1_13] 300 600 from ?_)
  refine g_callV (q := 19) (is := [0, 8]) (kc2 := 266) (ks2 := 520) B [.ref p13] (ct_X2_finds g J (b := b) (ss := (zSs C)) (bx := (zBx C)) (z := (zZz C)) (p := p13) (vs := vs13) (capv := (capF vs13.length)) hv0 hu1_13 (by first | assumption | omega | rfl) (by first | assumption | omega | rfl) (fun v h => hc10 v ((hvs_13 v).mp h))) dX1_finds_16 rfl (rc_in B (ci := 1) rfl (k := 0) rfl (BookP.hm hv0)) rfl q792 q793 q794 q78 q795 rfl rfl moX2_finds rfl rfl (by decide) (by decide) (Nat.le_of_ble_eq_true rfl) (Nat.le_of_ble_eq_true rfl) (Nat.le_of_ble_eq_true rfl) (fun _ _ hx => noX_x hx) (fun v16 L1 hp16 => ?_)
  obtain ⟨r16, K16, cap16, u2_16, rfl, rfl, hu2_16, hK_16, hcap_16, hlt_16⟩ := hp16
  refine (show Go g κ 19 [some (.ref x), some (.int (nI i2))] [.ref r16] [v1, v2, v3, v5, v6, [(x, .inr (0, [.ref b, .ref lp, .ref lk, .ref lr, .ref lt, .ref ls, .ref lm, .ref so, .int (nI (zBn C))]))], v4, v7, v0, u1_13, u2_16] 266 520 from ?_)
  have hQ16 := fun x => (hK_16 x).trans (ClQ.of hvs_13 x)
  refine g_aload_n (q := 20) B dX1_finds_19 rfl rfl (rv_r _) ?_
  refine g_iload_n (q := 21) B dX1_finds_20 rfl rfl ?_
  obtain ⟨st21, hst21⟩ := get_ex (xs := zSt C) (i := i2) (by omega)
  obtain ⟨hsl21, ky21, hky21⟩ := hky _ _ hst21
  have hkl21 := fnd_lt hky21
  refine g_callV (q := 24) (is := [5, 7, 3]) (kc2 := 246) (ks2 := 350) B [.int (nI i2)] (ct_X1_keyOf g J (x := x) (lk := lk) (b := b) (lp := lp) (lr := lr) (lt := lt) (ls := ls) (lm := lm) (so := so) (bxs := (zBn C)) (ss := (zSs C)) (bx := (zBx C)) (z := (zZz C)) (Ss := (zSt C)) (scap := scap) (e := i2) (s := st21) (ky := ky21) hv0 hv5 (hst21) (by omega) (hsl21) (hky21)) dX1_finds_21 rfl (rc_at B (ci := 0) rfl (k := 5) rfl) rfl q1224 q1226 qs11 q77 q1227 rfl rfl moX1_keyOf rfl rfl (by decide) (by decide) (Nat.le_of_ble_eq_true rfl) (Nat.le_of_ble_eq_true rfl) (Nat.le_of_ble_eq_true rfl) (fun _ _ hx => noX_x hx) (fun v21 L1 hp21 => ?_)
  obtain ⟨u1_21, rfl, rfl, hu1_21⟩ := hp21
  refine (show Go g κ 24 [some (.ref x), some (.int (nI i2))] [.int (nI ky21), .ref r16] [v1, v2, v3, v6, v4, v7, u1_13, u2_16, [(x, .inr (0, [.ref b, .ref lp, .ref lk, .ref lr, .ref lt, .ref ls, .ref lm, .ref so, .int (nI (zBn C))]))], u1_21, v5] 246 350 from ?_)
  refine g_callV (q := 27) (is := [7]) (kc2 := 246) (ks2 := 350) B [.int (nI ky21)] (ct_J5_get g J (b := r16) (S := K16) (cap := cap16) (i := ky21) hu2_16 (by omega)) dX1_finds_24 rfl (rc_in B (ci := 26) rfl (k := 7) rfl (SetP.hm hu2_16)) rfl q1784 q1110 q1111 q84 q1112 rfl rfl moJ5_get rfl rfl (by decide) (by decide) (Nat.le_of_ble_eq_true rfl) (Nat.le_of_ble_eq_true rfl) (Nat.le_of_ble_eq_true rfl) (fun _ _ hx => noX_x hx) (fun v24 L1 hp24 => ?_)
  obtain ⟨rfl, rfl⟩ := hp24
  refine (show Go g κ 27 [some (.ref x), some (.int (nI i2))] [.int (nI (if K16 ky21 = true then 1 else 0))] [v1, v2, v3, v6, v4, v7, u1_13, [(x, .inr (0, [.ref b, .ref lp, .ref lk, .ref lr, .ref lt, .ref ls, .ref lm, .ref so, .int (nI (zBn C))]))], u1_21, v5, u2_16] 246 350 from ?_)
  obtain ⟨wc_1, ewc_1⟩ : ∃ w : va_W, w = ([[(x, .inr (0, [.ref b, .ref lp, .ref lk, .ref lr, .ref lt, .ref ls, .ref lm, .ref so, .int (nI (zBn C))]))], u1_21, v1, v2, v3, v4, v5, v6, v7] : List va_W).flatten := ⟨_, rfl⟩
  have hwc_1 : KgP g x C wc_1 := by
    rw [ewc_1]
    exact ⟨b, lp, lk, lr, lt, ls, lm, so, pcap, kcap, rcap, tcap, scap, mcap, socap, ps, pks, pmd, _, _, _, _, _, _, _, _, hcap, hu1_21, hv1, hv2, hv3, hv4, hv5, hv6, hv7, rfl⟩
  refine g_close (w := wc_1) [7, 7, 0, 0, 0, 1, 3, 0, 0] rfl ewc_1 rfl ?_
  refine (show Go g κ 27 [some (.ref x), some (.int (nI i2))] [.int (nI (if K16 ky21 = true then 1 else 0))] [u1_13, u2_16, wc_1] 246 350 from ?_)
  refine g_pk [2] rfl rfl ?_
  refine (show Go g κ 27 [some (.ref x), some (.int (nI i2))] [.int (nI (if K16 ky21 = true then 1 else 0))] [wc_1] 246 350 from ?_)
  exact g_zret B E dX1_finds_27 (by split <;> decide) (⟨i2, st21, ky21, K16, _, rfl, rfl, hwc_1, rfl, hi_2, hst21, hky21, hQ16⟩)
theorem ct_X1_held (g : Gv) (J : Jd g) {x : Nat} {C : KsS} {v : Int32} {w0 : va_W} (hw0 : KgP g x C w0) (hC : KsB C) : Ct g yX1_held (ws_ yX1_held cX1_held 2 (some .int)) 10 100 300 [.ref x, .int v] [w0] (fun (rv_ : Option Value) (rL_ : List va_W) => ∃ (i : Nat) (r : PeS) (K : Nat → Bool) (u0 : va_W), rv_ = some (.int (nI (ctK K))) ∧ rL_ = [u0] ∧ KgP g x C u0 ∧ (v = nI i) ∧ ((zPs C)[i]? = some r) ∧ (∀ x, K x = true ↔ helP (zKs C) r x)) (fun (rE_ : String) (rL_ : List va_W) => rL_ = [w0] ∧ ((rE_ = "java/lang/IndexOutOfBoundsException" ∧ (¬ inR v (zPs C).length = true)))) := by
  refine Ct.of "Keygrove" [some (.ref x), some (.int v)] rfl (by decide) rfl (Nat.le_of_ble_eq_true rfl) rfl ?_
  intro κ B E tb
  have hC0 := hC
  obtain ⟨hc1, hc2, hc3, hc4, hc5, hc6, hc7, hc8, hc9, hc10, hc11⟩ := hC0
  obtain ⟨b, lp, lk, lr, lt, ls, lm, so, pcap, kcap, rcap, tcap, scap, mcap, socap, ps, pks, pmd, v0, v1, v2, v3, v4, v5, v6, v7, hcap, hv0, hv1, hv2, hv3, hv4, hv5, hv6, hv7, rfl⟩ := hw0
  refine g_open 0 rfl rfl rfl ?_
  refine (show Go g κ 0 [some (.ref x), some (.int v)] [] [[(x, .inr (0, [.ref b, .ref lp, .ref lk, .ref lr, .ref lt, .ref ls, .ref lm, .ref so, .int (nI (zBn C))]))], v0, v1, v2, v3, v4, v5, v6, v7] 100 300 from ?_)
  refine g_aload_n (q := 1) B dX1_held_0 rfl rfl (rv_r _) ?_
  refine g_iload_n (q := 2) B dX1_held_1 rfl rfl ?_
  refine g_callV (q := 5) (is := [0, 1]) (kc2 := 99) (ks2 := 294) B [.int v] (ct_X1_personWith g J (x := x) (lk := lk) (b := b) (lp := lp) (lr := lr) (lt := lt) (ls := ls) (lm := lm) (so := so) (bxs := zBn C) (ps := ps) (Ps := (zPs C)) (pcap := pcap) (pks := pks) (pmd := pmd) (v := v) hv1 (by first | assumption | omega | rfl)) dX1_held_2 rfl (rc_at B (ci := 0) rfl (k := 0) rfl) rfl q1961 q1963 qs15 q77 q1964 rfl rfl moX1_personWith rfl rfl (by decide) (by decide) (Nat.le_of_ble_eq_true rfl) (Nat.le_of_ble_eq_true rfl) (Nat.le_of_ble_eq_true rfl) (fun E2 L1 hx2 => ?_) (fun v2 L1 hp2 => ?_)
  · skip
    obtain ⟨rfl, hx2⟩ := hx2
    obtain ⟨rfl, hx2⟩ := hx2
    refine gx_cl [7, 0, 6, 0, 0, 0, 0, 0, 0] rfl ?_
    exact g_out B E tb (by first | exact ⟨rfl, ⟨rfl, hx2⟩⟩ | exact ⟨rfl, ⟨rfl, by simp_all⟩⟩)
  obtain ⟨i2, a2, r2, rfl, rfl, hv_2, ha_2, hr_2⟩ := hp2
  refine (show Go g κ 5 [some (.ref x), some (.int v)] [.ref a2] [v0, v2, v3, v4, v5, v6, v7, [(x, .inr (0, [.ref b, .ref lp, .ref lk, .ref lr, .ref lt, .ref ls, .ref lm, .ref so, .int (nI (zBn C))]))], v1] 99 294 from ?_)
  subst hv_2
  obtain ⟨hli_1, hln_1, hel_1⟩ := PersL.at (Sub.self hv1)
  have hE_2 := hel_1 _ _ _ ha_2 hr_2
  refine (show Go g κ 5 [some (.ref x), some (.int (nI i2))] [.ref a2] [v0, v2, v3, v4, v5, v6, v7, [(x, .inr (0, [.ref b, .ref lp, .ref lk, .ref lr, .ref lt, .ref ls, .ref lm, .ref so, .int (nI (zBn C))]))], v1] 99 294 from ?_)
  refine g_callV (q := 8) (is := [8, 1]) (kc2 := 23) (ks2 := 84) B [] (ct_X4_held_L g J (lp := lp) (pps := ps) (Ps := (zPs C)) (pcp := pcap) (ix := i2) (pmd := pmd) (a := a2) (x := x) (pks := pks) (r := r2) (lk := lk) (Ks := (zKs C)) (kcap := kcap) hv1 hv2 (by first | assumption | omega | rfl) (by first | assumption | omega | rfl) ((hc11 _ _ hr_2).2.1)) dX1_held_5 rfl (rc_in B (ci := 2) rfl (k := 8) rfl (Sub.hm (hE_2) fun _ z => PersP.hm z)) rfl q1162 q1163 q1164 q90 q1165 rfl rfl moX4_held rfl rfl (by decide) (by decide) (Nat.le_of_ble_eq_true rfl) (Nat.le_of_ble_eq_true rfl) (Nat.le_of_ble_eq_true rfl) (fun _ _ hx => noX_x hx) (fun v5 L1 hp5 => ?_)
  obtain ⟨b5, S5, cap5, u0_5, u2_5, rfl, rfl, hu0_5, hu2_5, hS_5, hcap_5⟩ := hp5
  refine (show Go g κ 8 [some (.ref x), some (.int (nI i2))] [.ref b5] [v0, v3, v4, v5, v6, v7, [(x, .inr (0, [.ref b, .ref lp, .ref lk, .ref lr, .ref lt, .ref ls, .ref lm, .ref so, .int (nI (zBn C))]))], u0_5, v2, u2_5] 23 84 from ?_)
  refine g_callV (q := 11) (is := [9]) (kc2 := 23) (ks2 := 84) B [] (ct_J5_cardinality g J (b := b5) (S := S5) (cap := cap5) hu2_5 ) dX1_held_8 rfl (rc_in B (ci := 26) rfl (k := 9) rfl (SetP.hm hu2_5)) rfl q1113 q1078 q1079 q84 q1080 rfl rfl moJ5_cardinality rfl rfl (by decide) (by decide) (Nat.le_of_ble_eq_true rfl) (Nat.le_of_ble_eq_true rfl) (Nat.le_of_ble_eq_true rfl) (fun _ _ hx => noX_x hx) (fun v8 L1 hp8 => ?_)
  obtain ⟨rfl, rfl⟩ := hp8
  refine (show Go g κ 11 [some (.ref x), some (.int (nI i2))] [.int (nI (fb_ct S5 (64 * cap5)))] [v0, v3, v4, v5, v6, v7, [(x, .inr (0, [.ref b, .ref lp, .ref lk, .ref lr, .ref lt, .ref ls, .ref lm, .ref so, .int (nI (zBn C))]))], u0_5, v2, u2_5] 23 84 from ?_)
  rw [(show fb_ct S5 (64 * cap5) = ctK S5 from hu2_5.ct (by omega))]
  refine (show Go g κ 11 [some (.ref x), some (.int (nI i2))] [.int (nI (ctK S5))] [v0, v3, v4, v5, v6, v7, [(x, .inr (0, [.ref b, .ref lp, .ref lk, .ref lr, .ref lt, .ref ls, .ref lm, .ref so, .int (nI (zBn C))]))], u0_5, v2, u2_5] 23 84 from ?_)
  obtain ⟨wc_3, ewc_3⟩ : ∃ w : va_W, w = ([[(x, .inr (0, [.ref b, .ref lp, .ref lk, .ref lr, .ref lt, .ref ls, .ref lm, .ref so, .int (nI (zBn C))]))], v0, u0_5, v2, v3, v4, v5, v6, v7] : List va_W).flatten := ⟨_, rfl⟩
  have hwc_3 : KgP g x C wc_3 := by
    rw [ewc_3]
    exact ⟨b, lp, lk, lr, lt, ls, lm, so, pcap, kcap, rcap, tcap, scap, mcap, socap, ps, pks, pmd, _, _, _, _, _, _, _, _, hcap, hv0, hu0_5, hv2, hv3, hv4, hv5, hv6, hv7, rfl⟩
  refine g_close (w := wc_3) [6, 0, 5, 5, 0, 0, 0, 0, 0] rfl ewc_3 rfl ?_
  refine (show Go g κ 11 [some (.ref x), some (.int (nI i2))] [.int (nI (ctK S5))] [u2_5, wc_3] 23 84 from ?_)
  refine g_pk [1] rfl rfl ?_
  refine (show Go g κ 11 [some (.ref x), some (.int (nI i2))] [.int (nI (ctK S5))] [wc_3] 23 84 from ?_)
  exact g_iret B E dX1_held_11 (⟨i2, r2, S5, _, rfl, rfl, hwc_3, rfl, hr_2, hS_5⟩)
theorem ct_X1_boxes (g : Gv) (J : Jd g) {x : Nat} {C : KsS} {w0 : va_W} (hw0 : KgP g x C w0) (hC : KsB C) : Ct g yX1_boxes (ws_ yX1_boxes cX1_boxes 1 (some .int)) 0 0 0 [.ref x] [w0] (fun (rv_ : Option Value) (rL_ : List va_W) => ∃ (u0 : va_W), rv_ = some (.int (nI (zBn C))) ∧ rL_ = [u0] ∧ KgP g x C u0) noX := by
  refine Ct.of "Keygrove" [some (.ref x)] rfl (by decide) rfl (Nat.le_of_ble_eq_true rfl) rfl ?_
  intro κ B E tb
  have hC0 := hC
  obtain ⟨hc1, hc2, hc3, hc4, hc5, hc6, hc7, hc8, hc9, hc10, hc11⟩ := hC0
  obtain ⟨b, lp, lk, lr, lt, ls, lm, so, pcap, kcap, rcap, tcap, scap, mcap, socap, ps, pks, pmd, v0, v1, v2, v3, v4, v5, v6, v7, hcap, hv0, hv1, hv2, hv3, hv4, hv5, hv6, hv7, rfl⟩ := hw0
  refine g_open 0 rfl rfl rfl ?_
  refine (show Go g κ 0 [some (.ref x)] [] [[(x, .inr (0, [.ref b, .ref lp, .ref lk, .ref lr, .ref lt, .ref ls, .ref lm, .ref so, .int (nI (zBn C))]))], v0, v1, v2, v3, v4, v5, v6, v7] 0 0 from ?_)
  refine g_aload_n (q := 1) B dX1_boxes_0 rfl rfl (rv_r _) ?_
  refine g_get (q := 4) B (ci := 0) (k := 0) (j := 8) in_X1 rfl dX1_boxes_1 rfl rfl (Nat.le_of_ble_eq_true rfl) q286 rfl rfl ?_
  obtain ⟨wc_1, ewc_1⟩ : ∃ w : va_W, w = ([[(x, .inr (0, [.ref b, .ref lp, .ref lk, .ref lr, .ref lt, .ref ls, .ref lm, .ref so, .int (nI (zBn C))]))], v0, v1, v2, v3, v4, v5, v6, v7] : List va_W).flatten := ⟨_, rfl⟩
  have hwc_1 : KgP g x C wc_1 := by
    rw [ewc_1]
    exact ⟨b, lp, lk, lr, lt, ls, lm, so, pcap, kcap, rcap, tcap, scap, mcap, socap, ps, pks, pmd, _, _, _, _, _, _, _, _, hcap, hv0, hv1, hv2, hv3, hv4, hv5, hv6, hv7, rfl⟩
  refine g_close (w := wc_1) [0, 0, 0, 0, 0, 0, 0, 0, 0] rfl ewc_1 rfl ?_
  refine (show Go g κ 4 [some (.ref x)] [.int (nI (zBn C))] [wc_1] 0 0 from ?_)
  exact g_iret B E dX1_boxes_4 (⟨wc_1, rfl, rfl, hwc_1⟩)
theorem ct_X1_key (g : Gv) (J : Jd g) {x : Nat} {C : KsS} {v : Int32} {w0 : va_W} (hw0 : KgP g x C w0) (hC : KsB C) : Ct g yX1_key (ws_ yX1_key cX1_key 3 (some .int)) 10 10 60 [.ref x, .int v] [w0] (fun (rv_ : Option Value) (rL_ : List va_W) => ∃ (i : Nat) (r : PeS) (u0 : va_W), rv_ = some (.int (vl (zSs C) (pKy r))) ∧ rL_ = [u0] ∧ KgP g x C u0 ∧ (v = nI i) ∧ ((zPs C)[i]? = some r) ∧ (¬ pEp r = none)) (fun (rE_ : String) (rL_ : List va_W) => rL_ = [w0] ∧ ((rE_ = "java/lang/IndexOutOfBoundsException" ∧ (¬ inR v (zPs C).length = true)) ∨ (rE_ = "java/util/NoSuchElementException" ∧ (∃ (i : Nat) (r : PeS), v = nI i ∧ (zPs C)[i]? = some r ∧ pEp r = none)))) := by
  refine Ct.of "Keygrove" [some (.ref x), some (.int v), none] rfl (by decide) rfl (Nat.le_of_ble_eq_true rfl) rfl ?_
  intro κ B E tb
  have hC0 := hC
  obtain ⟨hc1, hc2, hc3, hc4, hc5, hc6, hc7, hc8, hc9, hc10, hc11⟩ := hC0
  obtain ⟨b, lp, lk, lr, lt, ls, lm, so, pcap, kcap, rcap, tcap, scap, mcap, socap, ps, pks, pmd, v0, v1, v2, v3, v4, v5, v6, v7, hcap, hv0, hv1, hv2, hv3, hv4, hv5, hv6, hv7, rfl⟩ := hw0
  refine g_open 0 rfl rfl rfl ?_
  refine (show Go g κ 0 [some (.ref x), some (.int v), none] [] [[(x, .inr (0, [.ref b, .ref lp, .ref lk, .ref lr, .ref lt, .ref ls, .ref lm, .ref so, .int (nI (zBn C))]))], v0, v1, v2, v3, v4, v5, v6, v7] 10 60 from ?_)
  refine g_aload_n (q := 1) B dX1_key_0 rfl rfl (rv_r _) ?_
  refine g_iload_n (q := 2) B dX1_key_1 rfl rfl ?_
  refine g_callV (q := 5) (is := [0, 1]) (kc2 := 9) (ks2 := 54) B [.int v] (ct_X1_personWith g J (x := x) (lk := lk) (b := b) (lp := lp) (lr := lr) (lt := lt) (ls := ls) (lm := lm) (so := so) (bxs := zBn C) (ps := ps) (Ps := (zPs C)) (pcap := pcap) (pks := pks) (pmd := pmd) (v := v) hv1 (by first | assumption | omega | rfl)) dX1_key_2 rfl (rc_at B (ci := 0) rfl (k := 0) rfl) rfl q1961 q1963 qs15 q77 q1964 rfl rfl moX1_personWith rfl rfl (by decide) (by decide) (Nat.le_of_ble_eq_true rfl) (Nat.le_of_ble_eq_true rfl) (Nat.le_of_ble_eq_true rfl) (fun E2 L1 hx2 => ?_) (fun v2 L1 hp2 => ?_)
  · skip
    obtain ⟨rfl, hx2⟩ := hx2
    obtain ⟨rfl, hx2⟩ := hx2
    refine gx_cl [7, 0, 6, 0, 0, 0, 0, 0, 0] rfl ?_
    exact g_out B E tb (by first | exact ⟨rfl, Or.inl ⟨rfl, hx2⟩⟩ | exact ⟨rfl, Or.inl ⟨rfl, by simp_all⟩⟩)
  obtain ⟨i2, a2, r2, rfl, rfl, hv_2, ha_2, hr_2⟩ := hp2
  refine (show Go g κ 5 [some (.ref x), some (.int v), none] [.ref a2] [v0, v2, v3, v4, v5, v6, v7, [(x, .inr (0, [.ref b, .ref lp, .ref lk, .ref lr, .ref lt, .ref ls, .ref lm, .ref so, .int (nI (zBn C))]))], v1] 9 54 from ?_)
  subst hv_2
  obtain ⟨hli_1, hln_1, hel_1⟩ := PersL.at (Sub.self hv1)
  have hE_2 := hel_1 _ _ _ ha_2 hr_2
  refine (show Go g κ 5 [some (.ref x), some (.int (nI i2)), none] [.ref a2] [v0, v2, v3, v4, v5, v6, v7, [(x, .inr (0, [.ref b, .ref lp, .ref lk, .ref lr, .ref lt, .ref ls, .ref lm, .ref so, .int (nI (zBn C))]))], v1] 9 54 from ?_)
  refine g_astore_n (q := 6) (lv2 := [some (.ref x), some (.int (nI i2)), some (.ref a2)]) B dX1_key_5 rfl (Nat.le_of_ble_eq_true rfl) (rv_r _) rfl ?_
  refine g_aload_n (q := 7) B dX1_key_6 rfl rfl (rv_r _) ?_
  refine g_callV (q := 10) (is := [8]) (kc2 := 9) (ks2 := 54) B [] (ct_X4_isIn_s g J (a := a2) (x := x) (pks := pks) (r := r2) (W0 := v1)  (hE_2)) dX1_key_7 rfl (rc_in B (ci := 2) rfl (k := 8) rfl (Sub.hm (hE_2) fun _ z => PersP.hm z)) rfl q1211 q1207 q1208 q90 q1209 rfl rfl moX4_isIn rfl rfl (by decide) (by decide) (Nat.le_of_ble_eq_true rfl) (Nat.le_of_ble_eq_true rfl) (Nat.le_of_ble_eq_true rfl) (fun _ _ hx => noX_x hx) (fun v7 L1 hp7 => ?_)
  obtain ⟨rfl, rfl⟩ := hp7
  refine (show Go g κ 10 [some (.ref x), some (.int (nI i2)), some (.ref a2)] [.int (nI (if ¬ pEp r2 = none then 1 else 0))] [v0, v2, v3, v4, v5, v6, v7, [(x, .inr (0, [.ref b, .ref lp, .ref lk, .ref lr, .ref lt, .ref ls, .ref lm, .ref so, .int (nI (zBn C))]))], v1] 9 54 from ?_)
  refine g_callS (q := 13) (is := []) (kc2 := 8) (ks2 := 48) B [.int (nI (if ¬ pEp r2 = none then 1 else 0))] (ct_X1_found_2 g J (c := ¬ pEp r2 = none) (dc := _)  ) dX1_key_10 rfl q2357 q2358 q77 q2359 rfl rfl moX1_found_2 rfl rfl (by decide) (by decide) (Nat.le_of_ble_eq_true rfl) (Nat.le_of_ble_eq_true rfl) (Nat.le_of_ble_eq_true rfl) (fun E10 L1 hx10 => ?_) (fun v10 L1 hp10 => ?_)
  · skip
    obtain ⟨rfl, hx10⟩ := hx10
    obtain ⟨rfl, hx10⟩ := hx10
    refine gx_cl [7, 0, 6, 0, 0, 0, 0, 0, 0] rfl ?_
    exact g_out B E tb (by first | exact ⟨rfl, Or.inr (⟨rfl, hx10⟩)⟩ | exact ⟨rfl, Or.inr (⟨rfl, ⟨_, _, rfl, hr_2, Classical.not_not.mp hx10⟩⟩)⟩ | exact ⟨rfl, Or.inr (⟨rfl, by simp_all⟩)⟩)
  obtain ⟨rfl, rfl, ht_10⟩ := hp10
  refine (show Go g κ 13 [some (.ref x), some (.int (nI i2)), some (.ref a2)] [] [v0, v2, v3, v4, v5, v6, v7, [(x, .inr (0, [.ref b, .ref lp, .ref lk, .ref lr, .ref lt, .ref ls, .ref lm, .ref so, .int (nI (zBn C))]))], v1] 8 48 from ?_)
  have hkl := (hc11 _ _ hr_2).2.2.1 (pKy r2) (Or.inr (Or.inr (Or.inl ⟨ht_10, Or.inr (Or.inl rfl)⟩)))
  refine g_aload_n (q := 14) B dX1_key_13 rfl rfl (rv_r _) ?_
  refine g_get (q := 17) B (ci := 0) (k := 7) (j := 0) in_X1 rfl dX1_key_14 rfl rfl (Nat.le_of_ble_eq_true rfl) q277 rfl rfl ?_
  refine g_aload_n (q := 18) B dX1_key_17 rfl rfl (rv_r _) ?_
  obtain ⟨ev_3, pl_3, nd_3, ch_3, ecap_3, pcap_3, nn_3, nc_3, plc_3, md_3, hP_3, hpl_3, hec_3, hpc_3, hc_3_0, hs_3_0, hs_3_1, hs_3_2, hs_3_3⟩ := PersP.at (hE_2)
  refine g_getNM (q := 21) B (ci := 2) (k := 8) (j := 7) in_X4 rfl dX1_key_18 rfl rfl (hc_3_0) (Nat.le_of_ble_eq_true rfl) q1909 rfl rfl ?_
  refine g_callV (q := 24) (is := [0]) (kc2 := 8) (ks2 := 48) B [.int (nI (pKy r2))] (ct_X2_value g J (b := b) (ss := (zSs C)) (bx := (zBx C)) (z := (zZz C)) (i := pKy r2) hv0 (by first | assumption | omega | rfl)) dX1_key_21 rfl (rc_in B (ci := 1) rfl (k := 0) rfl (BookP.hm hv0)) rfl q1148 q1149 q1150 q78 q1151 rfl rfl moX2_value rfl rfl (by decide) (by decide) (Nat.le_of_ble_eq_true rfl) (Nat.le_of_ble_eq_true rfl) (Nat.le_of_ble_eq_true rfl) (fun _ _ hx => noX_x hx) (fun v21 L1 hp21 => ?_)
  obtain ⟨rfl, rfl⟩ := hp21
  refine (show Go g κ 24 [some (.ref x), some (.int (nI i2)), some (.ref a2)] [.int (vl (zSs C) (pKy r2))] [v2, v3, v4, v5, v6, v7, [(x, .inr (0, [.ref b, .ref lp, .ref lk, .ref lr, .ref lt, .ref ls, .ref lm, .ref so, .int (nI (zBn C))]))], v1, v0] 8 48 from ?_)
  obtain ⟨wc_4, ewc_4⟩ : ∃ w : va_W, w = ([[(x, .inr (0, [.ref b, .ref lp, .ref lk, .ref lr, .ref lt, .ref ls, .ref lm, .ref so, .int (nI (zBn C))]))], v0, v1, v2, v3, v4, v5, v6, v7] : List va_W).flatten := ⟨_, rfl⟩
  have hwc_4 : KgP g x C wc_4 := by
    rw [ewc_4]
    exact ⟨b, lp, lk, lr, lt, ls, lm, so, pcap, kcap, rcap, tcap, scap, mcap, socap, ps, pks, pmd, _, _, _, _, _, _, _, _, hcap, hv0, hv1, hv2, hv3, hv4, hv5, hv6, hv7, rfl⟩
  refine g_close (w := wc_4) [6, 7, 6, 0, 0, 0, 0, 0, 0] rfl ewc_4 rfl ?_
  refine (show Go g κ 24 [some (.ref x), some (.int (nI i2)), some (.ref a2)] [.int (vl (zSs C) (pKy r2))] [wc_4] 8 48 from ?_)
  exact g_iret B E dX1_key_24 (⟨i2, r2, _, rfl, rfl, hwc_4, rfl, hr_2, ht_10⟩)
