set_option maxRecDepth 100000
theorem grow_b {n cap : Nat} (hn : n < 40) (hc : cap ≤ 60) : (if n = cap then growN cap else cap) ≤ 60 := by
  unfold growN
  split
  · split <;> omega
  · exact hc
theorem grow_s {n cap : Nat} (hn : n < 40) (h : n = cap) : 1 ≤ 1 ∧ growN cap ≤ 60 := by
  unfold growN
  split <;> omega
theorem ct_add_PropL (g : Gv) (J : Jd g) {p : Nat} {rs : List PrS} {cap : Nat} {pks : List Nat} {a : Nat} {r : PrS} {w0 : va_W} {w1 : va_W} (hw0 : PropL g p rs cap pks w0) (hw1 : PropQ g a pks r w1) (hcap : cap ≤ 60) (hrl : rs.length < 40) : Ct g yJ2_add (ws_ yJ2_add cJ2_add 2 (some .boolean)) 6 1 60 [.ref p, .ref a] [w0, w1] (fun (rv_ : Option Value) (rL_ : List va_W) => ∃ (u0 : va_W), rv_ = some (.int (nI 1)) ∧ rL_ = [u0] ∧ PropL g p (rs ++ [r]) (if rs.length = cap then growN cap else cap) pks u0) noX := LhP.push hw0 (fun _ _ _ z => PropP.vd z) J hw1 (by omega) (fun h => grow_s hrl h)
theorem ct_add_PersL (g : Gv) (J : Jd g) {p : Nat} {ps : List Nat} {rs : List PeS} {cap : Nat} {x : Nat} {pks : List Nat} {md : Int32} {a : Nat} {r : PeS} {w0 : va_W} {w1 : va_W} (hw0 : PersL g p ps rs cap x pks md w0) (hw1 : PersP g a x pks r w1) (hcap : cap ≤ 60) (hrl : ps.length < 40) : Ct g yJ2_add (ws_ yJ2_add cJ2_add 2 (some .boolean)) 6 1 60 [.ref p, .ref a] [w0, w1] (fun (rv_ : Option Value) (rL_ : List va_W) => ∃ (md2 : Int32) (u0 : va_W), rv_ = some (.int (nI 1)) ∧ rL_ = [u0] ∧ PersL g p (ps ++ [a]) (rs ++ [r]) (if ps.length = cap then growN cap else cap) x pks md2 u0) noX := by
  refine Ct.cq (LoP.push hw0.lo (fun _ _ _ z => PersP.vd z) J hw1 (by omega) (fun h => grow_s hrl h)) (List.Perm.refl _) ?_ noX_cq
  rintro v R ⟨u, e1, e2, h⟩
  obtain ⟨md2, h⟩ := PersL.of h
  exact ⟨R, [], by simp, md2, u, e1, e2, h⟩
theorem moX1_ready : Mo yX1_ready 1 := by
  refine ⟨by decide, by decide, by decide +kernel⟩
theorem nwX4 : ∀ j, j < 11 → defaultValue (tyX4 j) = vp_V [.int (nI 0), .null, .null, .int (nI 0), .int (nI 0), .null, .int (nI 0), .int (nI 0), .null, .int (nI 0), .null] j := by
  intro j hj
  match j, hj with
  | 0, _ => rfl
  | 1, _ => rfl
  | 2, _ => rfl
  | 3, _ => rfl
  | 4, _ => rfl
  | 5, _ => rfl
  | 6, _ => rfl
  | 7, _ => rfl
  | 8, _ => rfl
  | 9, _ => rfl
  | 10, _ => rfl
  | n + 11, hj => exact absurd hj (by omega)
theorem moX4_init : Mo yX4_init 2 := by
  refine ⟨by decide, by decide, by decide +kernel⟩
theorem ct_X1_person (g : Gv) (J : Jd g) {x : Nat} {C : KsS} {w0 : va_W} (hw0 : KgP g x C w0) (hC : KsB C) : Ct g yX1_person (ws_ yX1_person cX1_person 1 (some .int)) 10 10 200 [.ref x] [w0] (fun (rv_ : Option Value) (rL_ : List va_W) => ∃ (u0 : va_W), rv_ = some (.int (nI ((zPs C).length))) ∧ rL_ = [u0] ∧ KgP g x ((zSs C, zBx C, zZz C, (zPs C ++ [(((zPs C).length, fun _ => false, [], none, 0, fun _ => none, 0, 0, fun _ => none, none) : PeS)]), zKs C, zRs C, zTs C, zSt C, zMs C, zSo C, zBn C) : KsS) u0 ∧ ((zPs C).length < 10)) (fun (rE_ : String) (rL_ : List va_W) => rL_ = [w0] ∧ ((rE_ = "java/lang/IllegalStateException" ∧ (¬ (zPs C).length < 10)))) := by
  refine Ct.of "Keygrove" [some (.ref x)] rfl (by decide) rfl (Nat.le_of_ble_eq_true rfl) rfl ?_
  intro κ B E tb
  have hC0 := hC
  obtain ⟨hc1, hc2, hc3, hc4, hc5, hc6, hc7, hc8, hc9, hc10, hc11⟩ := hC0
  obtain ⟨b, lp, lk, lr, lt, ls, lm, so, pcap, kcap, rcap, tcap, scap, mcap, socap, ps, pks, pmd, v0, v1, v2, v3, v4, v5, v6, v7, hcap, hv0, hv1, hv2, hv3, hv4, hv5, hv6, hv7, rfl⟩ := hw0
  refine g_open 0 rfl rfl rfl ?_
  refine (show Go g κ 0 [some (.ref x)] [] [[(x, .inr (0, [.ref b, .ref lp, .ref lk, .ref lr, .ref lt, .ref ls, .ref lm, .ref so, .int (nI (zBn C))]))], v0, v1, v2, v3, v4, v5, v6, v7] 10 200 from ?_)
  refine g_aload_n (q := 1) B dX1_person_0 rfl rfl (rv_r _) ?_
  refine g_get (q := 4) B (ci := 0) (k := 0) (j := 1) in_X1 rfl dX1_person_1 rfl rfl (Nat.le_of_ble_eq_true rfl) q278 rfl rfl ?_
  obtain ⟨hli_1, hln_1, hel_1⟩ := PersL.at (Sub.self hv1)
  refine g_callF (q := 9) (is := [2]) (kc2 := 10) (ks2 := 200) B [] (ct_J2_size_s g J (p := lp) (xs := ps) (md := pmd) (cap := pcap) (W0 := v1)  (hli_1)) dX1_person_4 rfl (ci := 21) rfl (rc_in B (ci := 21) rfl (k := 2) rfl (PersL.hm hv1)) q315 q319 q321 q81 q323 q317 q316 q322 q320 q318 rfl rfl mojava_util_List_size___I rfl rfl (by decide) (by decide) (Nat.le_of_ble_eq_true rfl) (Nat.le_of_ble_eq_true rfl) (Nat.le_of_ble_eq_true rfl) (fun _ _ hx => noX_x hx) (fun v4 L1 hp4 => ?_)
  obtain ⟨rfl, rfl⟩ := hp4
  refine (show Go g κ 9 [some (.ref x)] [.int (nI ps.length)] [[(x, .inr (0, [.ref b, .ref lp, .ref lk, .ref lr, .ref lt, .ref ls, .ref lm, .ref so, .int (nI (zBn C))]))], v0, v2, v3, v4, v5, v6, v7, v1] 10 200 from ?_)
  rw [hln_1.1]
  refine (show Go g κ 9 [some (.ref x)] [.int (nI ((zPs C).length))] [[(x, .inr (0, [.ref b, .ref lp, .ref lk, .ref lr, .ref lt, .ref ls, .ref lm, .ref so, .int (nI (zBn C))]))], v0, v2, v3, v4, v5, v6, v7, v1] 10 200 from ?_)
  refine g_bipush (v := nI 10) (q := 11) B dX1_person_9 rfl (by decide) ?_
  refine g_icmp_ge (tgt := 18) (q := 14) B dX1_person_11 rfl (by decide) (nI_leI (by omega) (by omega)) (fun c11 => ?_) (fun c11 => ?_)
  · skip
    refine g_iconst (v := nI 0) (q := 19) B dX1_person_18 rfl (by decide) ?_
    refine g_callS (q := 22) (is := []) (kc2 := 9) (ks2 := 194) B [.int (nI 0)] (ct_X1_ready g J (c := False) (dc := instDecidableFalse)  ) dX1_person_19 rfl q1839 q1840 q77 q1841 rfl rfl moX1_ready rfl rfl (by decide) (by decide) (Nat.le_of_ble_eq_true rfl) (Nat.le_of_ble_eq_true rfl) (Nat.le_of_ble_eq_true rfl) (fun E19 L1 hx19 => ?_) (fun v19 L1 hp19 => ?_)
    · skip
      obtain ⟨rfl, hx19⟩ := hx19
      obtain ⟨rfl, hx19⟩ := hx19
      refine gx_cl [0, 0, 6, 0, 0, 0, 0, 0, 0] rfl ?_
      exact g_out B E tb (by first | exact ⟨rfl, ⟨rfl, hx19⟩⟩ | exact ⟨rfl, ⟨rfl, by omega⟩⟩ | exact ⟨rfl, ⟨rfl, by simp_all⟩⟩)
    obtain ⟨rfl, rfl, ht_19⟩ := hp19
    exact ht_19.elim
  · skip
    refine g_iconst (v := nI 1) (q := 15) B dX1_person_14 rfl (by decide) ?_
    refine g_goto (tgt := 19) B dX1_person_15 (by decide) ?_
    refine g_callS (q := 22) (is := []) (kc2 := 9) (ks2 := 194) B [.int (nI 1)] (ct_X1_ready g J (c := True) (dc := instDecidableTrue)  ) dX1_person_19 rfl q1839 q1840 q77 q1841 rfl rfl moX1_ready rfl rfl (by decide) (by decide) (Nat.le_of_ble_eq_true rfl) (Nat.le_of_ble_eq_true rfl) (Nat.le_of_ble_eq_true rfl) (fun E19 L1 hx19 => ?_) (fun v19 L1 hp19 => ?_)
    · skip
      obtain ⟨rfl, hx19⟩ := hx19
      obtain ⟨rfl, hx19⟩ := hx19
      exact absurd trivial hx19
    obtain ⟨rfl, rfl, ht_19⟩ := hp19
    refine (show Go g κ 22 [some (.ref x)] [] [[(x, .inr (0, [.ref b, .ref lp, .ref lk, .ref lr, .ref lt, .ref ls, .ref lm, .ref so, .int (nI (zBn C))]))], v0, v2, v3, v4, v5, v6, v7, v1] 9 194 from ?_)
    have hlp : (zPs C).length < 10 := by omega
    obtain ⟨kc1, kc2, kc3, kc4, kc5, kc6, kc7⟩ := (show capB pcap kcap rcap tcap scap mcap socap from hcap)
    refine g_aload_n (q := 23) B dX1_person_22 rfl rfl (rv_r _) ?_
    refine g_get (q := 26) B (ci := 0) (k := 0) (j := 1) in_X1 rfl dX1_person_23 rfl rfl (Nat.le_of_ble_eq_true rfl) q278 rfl rfl ?_
    refine g_new (q := 29) (kc2 := 8) (ks2 := 183) (fs := [.int (nI 0), .null, .null, .int (nI 0), .int (nI 0), .null, .int (nI 0), .int (nI 0), .null, .int (nI 0), .null]) B (ci := 2) in_X4 tyX4_ok rfl dX1_person_26 rfl q1161 q1857 q90 (nwX4) (Nat.le_of_ble_eq_true rfl) (Nat.le_of_ble_eq_true rfl) (fun n26 => ?_)
    refine (show Go g κ 29 [some (.ref x)] [.ref n26, .ref lp] [[(x, .inr (0, [.ref b, .ref lp, .ref lk, .ref lr, .ref lt, .ref ls, .ref lm, .ref so, .int (nI (zBn C))]))], v0, v2, v3, v4, v5, v6, v7, v1, [(n26, .inr (2, [.int (nI 0), .null, .null, .int (nI 0), .int (nI 0), .null, .int (nI 0), .int (nI 0), .null, .int (nI 0), .null]))]] 8 183 from ?_)
    refine g_dup (q := 30) B dX1_person_29 rfl rfl ?_
    refine g_aload_n (q := 31) B dX1_person_30 rfl rfl (rv_r _) ?_
    refine g_aload_n (q := 32) B dX1_person_31 rfl rfl (rv_r _) ?_
    refine g_get (q := 35) B (ci := 0) (k := 0) (j := 1) in_X1 rfl dX1_person_32 rfl rfl (Nat.le_of_ble_eq_true rfl) q278 rfl rfl ?_
    refine g_callF (q := 40) (is := [8]) (kc2 := 8) (ks2 := 183) B [] (ct_J2_size_s g J (p := lp) (xs := ps) (md := pmd) (cap := pcap) (W0 := v1)  (hli_1)) dX1_person_35 rfl (ci := 21) rfl (rc_in B (ci := 21) rfl (k := 8) rfl (PersL.hm hv1)) q315 q319 q321 q81 q323 q317 q316 q322 q320 q318 rfl rfl mojava_util_List_size___I rfl rfl (by decide) (by decide) (Nat.le_of_ble_eq_true rfl) (Nat.le_of_ble_eq_true rfl) (Nat.le_of_ble_eq_true rfl) (fun _ _ hx => noX_x hx) (fun v35 L1 hp35 => ?_)
    obtain ⟨rfl, rfl⟩ := hp35
    refine (show Go g κ 40 [some (.ref x)] [.int (nI ps.length), .ref x, .ref n26, .ref n26, .ref lp] [[(x, .inr (0, [.ref b, .ref lp, .ref lk, .ref lr, .ref lt, .ref ls, .ref lm, .ref so, .int (nI (zBn C))]))], v0, v2, v3, v4, v5, v6, v7, [(n26, .inr (2, [.int (nI 0), .null, .null, .int (nI 0), .int (nI 0), .null, .int (nI 0), .int (nI 0), .null, .int (nI 0), .null]))], v1] 8 183 from ?_)
    rw [hln_1.1]
    refine (show Go g κ 40 [some (.ref x)] [.int (nI ((zPs C).length)), .ref x, .ref n26, .ref n26, .ref lp] [[(x, .inr (0, [.ref b, .ref lp, .ref lk, .ref lr, .ref lt, .ref ls, .ref lm, .ref so, .int (nI (zBn C))]))], v0, v2, v3, v4, v5, v6, v7, [(n26, .inr (2, [.int (nI 0), .null, .null, .int (nI 0), .int (nI 0), .null, .int (nI 0), .int (nI 0), .null, .int (nI 0), .null]))], v1] 8 183 from ?_)
    refine g_callI (q := 43) (is := [8]) (kc2 := 3) (ks2 := 158) B [.ref x, .int (nI ((zPs C).length))] (ct_X4_init g J (a := n26) (x := x) (n := (zPs C).length) (pks := pks)  (by omega)) dX1_person_40 rfl rfl q1858 q1859 q90 q1860 rfl rfl moX4_init rfl rfl (by decide) (by decide) (Nat.le_of_ble_eq_true rfl) (Nat.le_of_ble_eq_true rfl) (Nat.le_of_ble_eq_true rfl) (fun _ _ hx => noX_x hx) (fun v40 L1 hp40 => ?_)
    obtain ⟨u0_40, rfl, rfl, hu0_40⟩ := hp40
    refine (show Go g κ 43 [some (.ref x)] [.ref n26, .ref lp] [[(x, .inr (0, [.ref b, .ref lp, .ref lk, .ref lr, .ref lt, .ref ls, .ref lm, .ref so, .int (nI (zBn C))]))], v0, v2, v3, v4, v5, v6, v7, v1, u0_40] 3 158 from ?_)
    refine g_callF (q := 48) (is := [8, 8]) (kc2 := 2) (ks2 := 98) B [.ref n26] (ct_add_PersL g J (p := lp) (ps := ps) (rs := (zPs C)) (cap := pcap) (x := x) (pks := pks) (md := pmd) (a := n26) (r := ((((zPs C).length), fun _ => false, [], none, 0, fun _ => none, 0, 0, fun _ => none, none) : PeS)) hv1 hu0_40 (by omega) (by have := (PersL.lo hv1).len; omega)) dX1_person_43 rfl (ci := 21) rfl (rc_in B (ci := 21) rfl (k := 8) rfl (PersL.hm hv1)) q706 q709 q711 q81 q713 q708 q707 q712 q710 q318 rfl rfl mojava_util_List_add__Ljava_lang_Object__Z rfl rfl (by decide) (by decide) (Nat.le_of_ble_eq_true rfl) (Nat.le_of_ble_eq_true rfl) (Nat.le_of_ble_eq_true rfl) (fun _ _ hx => noX_x hx) (fun v43 L1 hp43 => ?_)
    obtain ⟨md243, u0_43, rfl, rfl, hu0_43⟩ := hp43
    refine (show Go g κ 48 [some (.ref x)] [.int (nI 1)] [[(x, .inr (0, [.ref b, .ref lp, .ref lk, .ref lr, .ref lt, .ref ls, .ref lm, .ref so, .int (nI (zBn C))]))], v0, v2, v3, v4, v5, v6, v7, u0_43] 2 98 from ?_)
    refine g_pop (q := 49) B dX1_person_48 rfl rfl ?_
    refine g_aload_n (q := 50) B dX1_person_49 rfl rfl (rv_r _) ?_
    refine g_get (q := 53) B (ci := 0) (k := 0) (j := 1) in_X1 rfl dX1_person_50 rfl rfl (Nat.le_of_ble_eq_true rfl) q278 rfl rfl ?_
    obtain ⟨hli_2, hln_2, hel_2⟩ := PersL.at (Sub.self hu0_43)
    refine g_callF (q := 58) (is := [8]) (kc2 := 2) (ks2 := 98) B [] (ct_J2_size_s g J (p := lp) (xs := ps ++ [n26]) (md := md243) (cap := (if ps.length = pcap then growN pcap else pcap)) (W0 := u0_43)  (hli_2)) dX1_person_53 rfl (ci := 21) rfl (rc_in B (ci := 21) rfl (k := 8) rfl (PersL.hm hu0_43)) q315 q319 q321 q81 q323 q317 q316 q322 q320 q318 rfl rfl mojava_util_List_size___I rfl rfl (by decide) (by decide) (Nat.le_of_ble_eq_true rfl) (Nat.le_of_ble_eq_true rfl) (Nat.le_of_ble_eq_true rfl) (fun _ _ hx => noX_x hx) (fun v53 L1 hp53 => ?_)
    obtain ⟨rfl, rfl⟩ := hp53
    refine (show Go g κ 58 [some (.ref x)] [.int (nI ((ps ++ [n26]).length))] [[(x, .inr (0, [.ref b, .ref lp, .ref lk, .ref lr, .ref lt, .ref ls, .ref lm, .ref so, .int (nI (zBn C))]))], v0, v2, v3, v4, v5, v6, v7, u0_43] 2 98 from ?_)
    rw [hln_2.1]
    refine (show Go g κ 58 [some (.ref x)] [.int (nI (((zPs C) ++ [((((zPs C).length), fun _ => false, [], none, 0, fun _ => none, 0, 0, fun _ => none, none) : PeS)]).length))] [[(x, .inr (0, [.ref b, .ref lp, .ref lk, .ref lr, .ref lt, .ref ls, .ref lm, .ref so, .int (nI (zBn C))]))], v0, v2, v3, v4, v5, v6, v7, u0_43] 2 98 from ?_)
    refine g_iconst (v := nI 1) (q := 59) B dX1_person_58 rfl (by decide) ?_
    refine g_isub (v := nI ((zPs C).length)) (q := 60) B dX1_person_59 rfl (by rw [List.length_append]; exact pk_sub (by simp)) ?_
    obtain ⟨wc_3, ewc_3⟩ : ∃ w : va_W, w = ([[(x, .inr (0, [.ref b, .ref lp, .ref lk, .ref lr, .ref lt, .ref ls, .ref lm, .ref so, .int (nI (zBn C))]))], v0, u0_43, v2, v3, v4, v5, v6, v7] : List va_W).flatten := ⟨_, rfl⟩
    have hwc_3 : KgP g x ((zSs C, zBx C, zZz C, (zPs C ++ [(((zPs C).length, fun _ => false, [], none, 0, fun _ => none, 0, 0, fun _ => none, none) : PeS)]), zKs C, zRs C, zTs C, zSt C, zMs C, zSo C, zBn C) : KsS) wc_3 := by
      rw [ewc_3]
      exact ⟨b, lp, lk, lr, lt, ls, lm, so, (if ps.length = pcap then growN pcap else pcap), kcap, rcap, tcap, scap, mcap, socap, (ps ++ [n26]), pks, md243, _, _, _, _, _, _, _, _, ⟨by have hz := (PersL.lo hv1).len; exact grow_b (by omega) kc1, kc2, kc3, kc4, kc5, kc6, kc7⟩, hv0, hu0_43, hv2, hv3, hv4, hv5, hv6, hv7, rfl⟩
    refine g_close (w := wc_3) [0, 0, 6, 0, 0, 0, 0, 0, 0] rfl ewc_3 rfl ?_
    refine (show Go g κ 60 [some (.ref x)] [.int (nI ((zPs C).length))] [wc_3] 2 98 from ?_)
    exact g_iret B E dX1_person_60 (⟨wc_3, rfl, rfl, hwc_3, (by first | assumption | omega | rfl | simp_all)⟩)
theorem ct_X1_proposes (g : Gv) (J : Jd g) {x : Nat} {lk : Nat} {b : Nat} {lp : Nat} {lr : Nat} {lt : Nat} {ls : Nat} {lm : Nat} {so : Nat} {bxs : Nat} {Rs : List PrS} {rcap : Nat} {pks : List Nat} {a : Nat} {r : PrS} {w1 : va_W} {w2 : va_W} (hw1 : PropL g lr Rs rcap pks w1) (hw2 : PropQ g a pks r w2) (hrc : rcap ≤ 60) (hrl : Rs.length < 40) : Ct g yX1_proposes (ws_ yX1_proposes cX1_proposes 2 (some .int)) 7 1 60 [.ref x, .ref a] [[(x, .inr (0, [.ref b, .ref lp, .ref lk, .ref lr, .ref lt, .ref ls, .ref lm, .ref so, .int (nI bxs)]))], w1, w2] (fun (rv_ : Option Value) (rL_ : List va_W) => ∃ (u1 : va_W), rv_ = some (.int (nI (Rs.length + 1))) ∧ rL_ = [[(x, .inr (0, [.ref b, .ref lp, .ref lk, .ref lr, .ref lt, .ref ls, .ref lm, .ref so, .int (nI bxs)]))], u1] ∧ PropL g lr (Rs ++ [r]) (if Rs.length = rcap then growN rcap else rcap) pks u1) noX := by
  refine Ct.of "Keygrove" [some (.ref x), some (.ref a)] rfl (by decide) rfl (Nat.le_of_ble_eq_true rfl) rfl ?_
  intro κ B E tb
  refine g_aload_n (q := 1) B dX1_proposes_0 rfl rfl (rv_r _) ?_
  refine g_get (q := 4) B (ci := 0) (k := 0) (j := 3) in_X1 rfl dX1_proposes_1 rfl rfl (Nat.le_of_ble_eq_true rfl) q280 rfl rfl ?_
  refine g_aload_n (q := 5) B dX1_proposes_4 rfl rfl (rv_r _) ?_
  obtain ⟨ps_1, md_1, hli_1, hln_1, hel_1⟩ := LhP.at (Sub.self hw1)
  refine g_callF (q := 10) (is := [1, 1]) (kc2 := 0) (ks2 := 0) B [.ref a] (ct_add_PropL g J (p := lr) (rs := Rs) (cap := rcap) (pks := pks) (a := a) (r := r) hw1 hw2 (by first | assumption | omega | rfl) (by first | assumption | omega | rfl)) dX1_proposes_5 rfl (ci := 21) rfl (rc_in B (ci := 21) rfl (k := 1) rfl (PropL.hm hw1)) q706 q709 q711 q81 q713 q708 q707 q712 q710 q318 rfl rfl mojava_util_List_add__Ljava_lang_Object__Z rfl rfl (by decide) (by decide) (Nat.le_of_ble_eq_true rfl) (Nat.le_of_ble_eq_true rfl) (Nat.le_of_ble_eq_true rfl) (fun _ _ hx => noX_x hx) (fun v5 L1 hp5 => ?_)
  obtain ⟨u0_5, rfl, rfl, hu0_5⟩ := hp5
  refine (show Go g κ 10 [some (.ref x), some (.ref a)] [.int (nI 1)] [[(x, .inr (0, [.ref b, .ref lp, .ref lk, .ref lr, .ref lt, .ref ls, .ref lm, .ref so, .int (nI bxs)]))], u0_5] 0 0 from ?_)
  refine g_pop (q := 11) B dX1_proposes_10 rfl rfl ?_
  refine g_aload_n (q := 12) B dX1_proposes_11 rfl rfl (rv_r _) ?_
  refine g_get (q := 15) B (ci := 0) (k := 0) (j := 3) in_X1 rfl dX1_proposes_12 rfl rfl (Nat.le_of_ble_eq_true rfl) q280 rfl rfl ?_
  obtain ⟨ps_2, md_2, hli_2, hln_2, hel_2⟩ := LhP.at (Sub.self hu0_5)
  refine g_callF (q := 20) (is := [1]) (kc2 := 0) (ks2 := 0) B [] (ct_J2_size_s g J (p := lr) (xs := ps_2) (md := md_2) (cap := (if Rs.length = rcap then growN rcap else rcap)) (W0 := u0_5)  (hli_2)) dX1_proposes_15 rfl (ci := 21) rfl (rc_in B (ci := 21) rfl (k := 1) rfl (PropL.hm hu0_5)) q315 q319 q321 q81 q323 q317 q316 q322 q320 q318 rfl rfl mojava_util_List_size___I rfl rfl (by decide) (by decide) (Nat.le_of_ble_eq_true rfl) (Nat.le_of_ble_eq_true rfl) (Nat.le_of_ble_eq_true rfl) (fun _ _ hx => noX_x hx) (fun v15 L1 hp15 => ?_)
  obtain ⟨rfl, rfl⟩ := hp15
  refine (show Go g κ 20 [some (.ref x), some (.ref a)] [.int (nI ps_2.length)] [[(x, .inr (0, [.ref b, .ref lp, .ref lk, .ref lr, .ref lt, .ref ls, .ref lm, .ref so, .int (nI bxs)]))], u0_5] 0 0 from ?_)
  rw [hln_2.1]
  refine (show Go g κ 20 [some (.ref x), some (.ref a)] [.int (nI ((Rs ++ [r]).length))] [[(x, .inr (0, [.ref b, .ref lp, .ref lk, .ref lr, .ref lt, .ref ls, .ref lm, .ref so, .int (nI bxs)]))], u0_5] 0 0 from ?_)
  exact g_iret B E dX1_proposes_20 (⟨_, by rw [List.length_append]; rfl, rfl, hu0_5⟩)
def rmCan (C : KsS) (T : TrS) (r : PeS) (l : Nat) : Prop := isF (zTs C).length (pEp r) = true ∧ T.2.2.2 l ≠ none ∧ ¬ rmB (zRs C) l = true
theorem moX1_isToBeRemoved : Mo yX1_isToBeRemoved 1 := by
  refine ⟨by decide, by decide, by decide +kernel⟩
theorem nwX18 : ∀ j, j < 1 → defaultValue (tyX18 j) = vp_V [.int (nI 0)] j := by
  intro j hj
  match j, hj with
  | 0, _ => rfl
  | n + 1, hj => exact absurd hj (by omega)
theorem moX18_init : Mo yX18_init 1 := by
  refine ⟨by decide, by decide, by decide +kernel⟩
theorem moX1_proposes : Mo yX1_proposes 1 := by
  refine ⟨by decide, by decide, by decide +kernel⟩
theorem ct_X1_remove (g : Gv) (J : Jd g) {x : Nat} {C : KsS} {T : TrS} {v : Int32} {u : Int32} {w0 : va_W} (hw0 : KgP g x C w0) (hC : KsB C) (hT : zTs C ≠ [] → (zTs C)[(zTs C).length - 1]? = some T) (hrb : ∀ r ∈ zRs C, r.2.1 < 1000) : Ct g yX1_remove (ws_ yX1_remove cX1_remove 4 (some .int)) 10 20 200 [.ref x, .int v, .int u] [w0] (fun (rv_ : Option Value) (rL_ : List va_W) => ∃ (i : Nat) (r : PeS) (j : Nat) (u0 : va_W), rv_ = some (.int (nI ((zRs C).length + 1))) ∧ rL_ = [u0] ∧ KgP g x ((zSs C, zBx C, zZz C, zPs C, zKs C, (zRs C ++ [(1, j, 0)]), zTs C, zSt C, zMs C, zSo C, zBn C) : KsS) u0 ∧ (v = nI i) ∧ ((zPs C)[i]? = some r) ∧ (u = nI j) ∧ (j < 2 ^ T.1) ∧ (zTs C ≠ []) ∧ (rmCan C T r j) ∧ ((zRs C).length < 8)) (fun (rE_ : String) (rL_ : List va_W) => rL_ = [w0] ∧ ((rE_ = "java/lang/IndexOutOfBoundsException" ∧ (¬ (inR v (zPs C).length = true ∧ zTs C ≠ [] ∧ inR u (2 ^ T.1) = true))) ∨ (rE_ = "java/lang/UnsupportedOperationException" ∧ (∃ (i : Nat) (r : PeS) (j : Nat), v = nI i ∧ (zPs C)[i]? = some r ∧ u = nI j ∧ j < 2 ^ T.1 ∧ zTs C ≠ [] ∧ ¬ rmCan C T r j)) ∨ (rE_ = "java/lang/IllegalStateException" ∧ (∃ (i : Nat) (r : PeS) (j : Nat), v = nI i ∧ (zPs C)[i]? = some r ∧ u = nI j ∧ j < 2 ^ T.1 ∧ zTs C ≠ [] ∧ rmCan C T r j ∧ ¬ (zRs C).length < 8)))) := by
  refine Ct.of "Keygrove" [some (.ref x), some (.int v), some (.int u), none] rfl (by decide) rfl (Nat.le_of_ble_eq_true rfl) rfl ?_
  intro κ B E tb
  have hC0 := hC
  obtain ⟨hc1, hc2, hc3, hc4, hc5, hc6, hc7, hc8, hc9, hc10, hc11⟩ := hC0
  obtain ⟨b, lp, lk, lr, lt, ls, lm, so, pcap, kcap, rcap, tcap, scap, mcap, socap, ps, pks, pmd, v0, v1, v2, v3, v4, v5, v6, v7, hcap, hv0, hv1, hv2, hv3, hv4, hv5, hv6, hv7, rfl⟩ := hw0
  refine g_open 0 rfl rfl rfl ?_
  refine (show Go g κ 0 [some (.ref x), some (.int v), some (.int u), none] [] [[(x, .inr (0, [.ref b, .ref lp, .ref lk, .ref lr, .ref lt, .ref ls, .ref lm, .ref so, .int (nI (zBn C))]))], v0, v1, v2, v3, v4, v5, v6, v7] 20 200 from ?_)
  refine g_aload_n (q := 1) B dX1_remove_0 rfl rfl (rv_r _) ?_
  refine g_iload_n (q := 2) B dX1_remove_1 rfl rfl ?_
  refine g_callV (q := 5) (is := [0, 1]) (kc2 := 19) (ks2 := 194) B [.int v] (ct_X1_personWith g J (x := x) (lk := lk) (b := b) (lp := lp) (lr := lr) (lt := lt) (ls := ls) (lm := lm) (so := so) (bxs := zBn C) (ps := ps) (Ps := (zPs C)) (pcap := pcap) (pks := pks) (pmd := pmd) (v := v) hv1 (by first | assumption | omega | rfl)) dX1_remove_2 rfl (rc_at B (ci := 0) rfl (k := 0) rfl) rfl q1961 q1963 qs15 q77 q1964 rfl rfl moX1_personWith rfl rfl (by decide) (by decide) (Nat.le_of_ble_eq_true rfl) (Nat.le_of_ble_eq_true rfl) (Nat.le_of_ble_eq_true rfl) (fun E2 L1 hx2 => ?_) (fun v2 L1 hp2 => ?_)
  · skip
    obtain ⟨rfl, hx2⟩ := hx2
    obtain ⟨rfl, hx2⟩ := hx2
    refine gx_cl [7, 0, 6, 0, 0, 0, 0, 0, 0] rfl ?_
    exact g_out B E tb (by first | exact ⟨rfl, Or.inl ⟨rfl, hx2⟩⟩ | exact ⟨rfl, Or.inl ⟨rfl, fun z => hx2 z.1⟩⟩ | exact ⟨rfl, Or.inl ⟨rfl, by simp_all⟩⟩)
  obtain ⟨i2, a2, r2, rfl, rfl, hv_2, ha_2, hr_2⟩ := hp2
  refine (show Go g κ 5 [some (.ref x), some (.int v), some (.int u), none] [.ref a2] [v0, v2, v3, v4, v5, v6, v7, [(x, .inr (0, [.ref b, .ref lp, .ref lk, .ref lr, .ref lt, .ref ls, .ref lm, .ref so, .int (nI (zBn C))]))], v1] 19 194 from ?_)
  subst hv_2
  obtain ⟨hli_1, hln_1, hel_1⟩ := PersL.at (Sub.self hv1)
  have hE_2 := hel_1 _ _ _ ha_2 hr_2
  refine (show Go g κ 5 [some (.ref x), some (.int (nI i2)), some (.int u), none] [.ref a2] [v0, v2, v3, v4, v5, v6, v7, [(x, .inr (0, [.ref b, .ref lp, .ref lk, .ref lr, .ref lt, .ref ls, .ref lm, .ref so, .int (nI (zBn C))]))], v1] 19 194 from ?_)
  obtain ⟨kc1, kc2, kc3, kc4, kc5, kc6, kc7⟩ := (show capB pcap kcap rcap tcap scap mcap socap from hcap)
  refine g_astore_n (q := 6) (lv2 := [some (.ref x), some (.int (nI i2)), some (.int u), some (.ref a2)]) B dX1_remove_5 rfl (Nat.le_of_ble_eq_true rfl) (rv_r _) rfl ?_
  refine g_aload_n (q := 7) B dX1_remove_6 rfl rfl (rv_r _) ?_
  refine g_get (q := 10) B (ci := 0) (k := 7) (j := 4) in_X1 rfl dX1_remove_7 rfl rfl (Nat.le_of_ble_eq_true rfl) q282 rfl rfl ?_
  obtain ⟨ps_3, md_3, hli_3, hln_3, hel_3⟩ := LhP.at (Sub.self hv4)
  refine g_callF (q := 15) (is := [3]) (kc2 := 19) (ks2 := 194) B [] (ct_J2_isEmpty_s g J (p := lt) (xs := ps_3) (md := md_3) (cap := tcap) (W0 := v4)  (hli_3)) dX1_remove_10 rfl (ci := 21) rfl (rc_in B (ci := 21) rfl (k := 3) rfl (LhP.hm hv4)) q1125 q1128 q1130 q81 q1132 q1127 q1126 q1131 q1129 q318 rfl rfl mojava_util_List_isEmpty___Z rfl rfl (by decide) (by decide) (Nat.le_of_ble_eq_true rfl) (Nat.le_of_ble_eq_true rfl) (Nat.le_of_ble_eq_true rfl) (fun _ _ hx => noX_x hx) (fun v10 L1 hp10 => ?_)
  obtain ⟨rfl, rfl⟩ := hp10
  refine (show Go g κ 15 [some (.ref x), some (.int (nI i2)), some (.int u), some (.ref a2)] [.int (nI (if ps_3.length = 0 then 1 else 0))] [v0, v2, v3, v5, v6, v7, [(x, .inr (0, [.ref b, .ref lp, .ref lk, .ref lr, .ref lt, .ref ls, .ref lm, .ref so, .int (nI (zBn C))]))], v1, v4] 19 194 from ?_)
  rw [hln_3.1]
  refine (show Go g κ 15 [some (.ref x), some (.int (nI i2)), some (.int u), some (.ref a2)] [.int (nI (if (zTs C).length = 0 then 1 else 0))] [v0, v2, v3, v5, v6, v7, [(x, .inr (0, [.ref b, .ref lp, .ref lk, .ref lr, .ref lt, .ref ls, .ref lm, .ref so, .int (nI (zBn C))]))], v1, v4] 19 194 from ?_)
  refine g_if_ne (tgt := 39) (q := 18) B dX1_remove_15 rfl (by decide) (bo_ne) (fun c15 => ?_) (fun c15 => ?_)
  · skip
    refine g_iconst (v := nI 0) (q := 40) B dX1_remove_39 rfl (by decide) ?_
    refine g_callS (q := 43) (is := []) (kc2 := 18) (ks2 := 188) B [.int (nI 0)] (ct_X1_there g J (c := False) (dc := instDecidableFalse)  ) dX1_remove_40 rfl q1968 q1969 q77 q1970 rfl rfl moX1_there rfl rfl (by decide) (by decide) (Nat.le_of_ble_eq_true rfl) (Nat.le_of_ble_eq_true rfl) (Nat.le_of_ble_eq_true rfl) (fun E40 L1 hx40 => ?_) (fun v40 L1 hp40 => ?_)
    · skip
      obtain ⟨rfl, hx40⟩ := hx40
      obtain ⟨rfl, hx40⟩ := hx40
      refine gx_cl [6, 0, 5, 0, 0, 3, 0, 0, 0] rfl ?_
      exact g_out B E tb (by first | exact ⟨rfl, Or.inl ⟨rfl, hx40⟩⟩ | exact ⟨rfl, Or.inl ⟨rfl, by rintro ⟨-, z1, z2⟩; first | exact c32 z2 | exact z1 (List.length_eq_zero_iff.mp c15)⟩⟩ | exact ⟨rfl, Or.inl ⟨rfl, by simp_all⟩⟩)
    obtain ⟨rfl, rfl, ht_40⟩ := hp40
    exact ht_40.elim
  · skip
    have hne : zTs C ≠ [] := fun z => c15 (by rw [z]; rfl)
    refine g_iload_n (q := 19) B dX1_remove_18 rfl rfl ?_
    refine g_iconst (v := nI 0) (q := 20) B dX1_remove_19 rfl (by decide) ?_
    refine g_aload_n (q := 21) B dX1_remove_20 rfl rfl (rv_r _) ?_
    refine g_callV (q := 24) (is := [6, 7]) (kc2 := 19) (ks2 := 194) B [] (ct_X1_tree g J (x := x) (lk := lk) (b := b) (lp := lp) (lr := lr) (lt := lt) (ls := ls) (lm := lm) (so := so) (bxs := (zBn C)) (Ts := (zTs C)) (tcap := tcap) (T := T) hv4 (hT hne)) dX1_remove_21 rfl (rc_at B (ci := 0) rfl (k := 6) rfl) rfl q1133 q1135 qs9 q77 q1136 rfl rfl moX1_tree rfl rfl (by decide) (by decide) (Nat.le_of_ble_eq_true rfl) (Nat.le_of_ble_eq_true rfl) (Nat.le_of_ble_eq_true rfl) (fun _ _ hx => noX_x hx) (fun v21 L1 hp21 => ?_)
    obtain ⟨t21, rfl, rfl, hE_21⟩ := hp21
    refine (show Go g κ 24 [some (.ref x), some (.int (nI i2)), some (.int u), some (.ref a2)] [.ref t21, .int (nI 0), .int u] [v0, v2, v3, v5, v6, v7, v1, [(x, .inr (0, [.ref b, .ref lp, .ref lk, .ref lr, .ref lt, .ref ls, .ref lm, .ref so, .int (nI (zBn C))]))], v4] 19 194 from ?_)
    have hTB21 := TreeP.b2 hE_21
    have hp221 := p2_4 hTB21.1
    obtain ⟨as_4, al_4, ap_4, fs_4, fl_4, fp_4, hB_4, hfs_4, hfl_4, hfp_4, hc_4_0, hc_4_1, hc_4_2, hc_4_3⟩ := TreeP.at (hE_21)
    refine g_getNM (q := 27) B (ci := 5) (k := 8) (j := 0) in_X10 rfl dX1_remove_24 rfl rfl (hc_4_0) (Nat.le_of_ble_eq_true rfl) q2037 rfl rfl ?_
    refine g_iconst (v := nI 1) (q := 28) B dX1_remove_27 rfl (by decide) ?_
    refine g_isub (v := nI (2 ^ T.1) - nI 1) (q := 29) B dX1_remove_28 rfl rfl ?_
    refine g_callS (q := 32) (is := []) (kc2 := 19) (ks2 := 194) B [.int u, .int (nI 0), .int (nI (2 ^ T.1) - nI 1)] (ct_X1_in g J (v := u) (n := 2 ^ T.1)  (by omega)) dX1_remove_29 rfl q1965 q1966 q77 q1967 rfl rfl moX1_in rfl rfl (by decide) (by decide) (Nat.le_of_ble_eq_true rfl) (Nat.le_of_ble_eq_true rfl) (Nat.le_of_ble_eq_true rfl) (fun _ _ hx => noX_x hx) (fun v29 L1 hp29 => ?_)
    obtain ⟨rfl, rfl⟩ := hp29
    refine (show Go g κ 32 [some (.ref x), some (.int (nI i2)), some (.int u), some (.ref a2)] [.int (nI (if inR u (2 ^ T.1) = true then 1 else 0))] [v0, v2, v3, v5, v6, v7, v1, [(x, .inr (0, [.ref b, .ref lp, .ref lk, .ref lr, .ref lt, .ref ls, .ref lm, .ref so, .int (nI (zBn C))]))], v4] 19 194 from ?_)
    refine g_if_eq (tgt := 39) (q := 35) B dX1_remove_32 rfl (by decide) (bo_eq) (fun c32 => ?_) (fun c32 => ?_)
    · skip
      refine g_iconst (v := nI 0) (q := 40) B dX1_remove_39 rfl (by decide) ?_
      refine g_callS (q := 43) (is := []) (kc2 := 18) (ks2 := 188) B [.int (nI 0)] (ct_X1_there g J (c := False) (dc := instDecidableFalse)  ) dX1_remove_40 rfl q1968 q1969 q77 q1970 rfl rfl moX1_there rfl rfl (by decide) (by decide) (Nat.le_of_ble_eq_true rfl) (Nat.le_of_ble_eq_true rfl) (Nat.le_of_ble_eq_true rfl) (fun E40 L1 hx40 => ?_) (fun v40 L1 hp40 => ?_)
      · skip
        obtain ⟨rfl, hx40⟩ := hx40
        obtain ⟨rfl, hx40⟩ := hx40
        refine gx_cl [7, 0, 5, 0, 0, 3, 0, 0, 0] rfl ?_
        exact g_out B E tb (by first | exact ⟨rfl, Or.inl ⟨rfl, hx40⟩⟩ | exact ⟨rfl, Or.inl ⟨rfl, by rintro ⟨-, z1, z2⟩; first | exact c32 z2 | exact z1 (List.length_eq_zero_iff.mp c15)⟩⟩ | exact ⟨rfl, Or.inl ⟨rfl, by simp_all⟩⟩)
      obtain ⟨rfl, rfl, ht_40⟩ := hp40
      exact ht_40.elim
    · skip
      have c32 := Classical.not_not.mp c32
      refine g_iconst (v := nI 1) (q := 36) B dX1_remove_35 rfl (by decide) ?_
      refine g_goto (tgt := 40) B dX1_remove_36 (by decide) ?_
      refine g_callS (q := 43) (is := []) (kc2 := 18) (ks2 := 188) B [.int (nI 1)] (ct_X1_there g J (c := True) (dc := instDecidableTrue)  ) dX1_remove_40 rfl q1968 q1969 q77 q1970 rfl rfl moX1_there rfl rfl (by decide) (by decide) (Nat.le_of_ble_eq_true rfl) (Nat.le_of_ble_eq_true rfl) (Nat.le_of_ble_eq_true rfl) (fun E40 L1 hx40 => ?_) (fun v40 L1 hp40 => ?_)
      · skip
        obtain ⟨rfl, hx40⟩ := hx40
        obtain ⟨rfl, hx40⟩ := hx40
        exact absurd trivial hx40
      obtain ⟨rfl, rfl, ht_40⟩ := hp40
      refine (show Go g κ 43 [some (.ref x), some (.int (nI i2)), some (.int u), some (.ref a2)] [] [v0, v2, v3, v5, v6, v7, v1, [(x, .inr (0, [.ref b, .ref lp, .ref lk, .ref lr, .ref lt, .ref ls, .ref lm, .ref so, .int (nI (zBn C))]))], v4] 18 188 from ?_)
      obtain ⟨j, hjj, rfl⟩ := inR_t c32
      refine (show Go g κ 43 [some (.ref x), some (.int (nI i2)), some (.int (nI j)), some (.ref a2)] [] [v0, v2, v3, v5, v6, v7, v1, [(x, .inr (0, [.ref b, .ref lp, .ref lk, .ref lr, .ref lt, .ref ls, .ref lm, .ref so, .int (nI (zBn C))]))], v4] 18 188 from ?_)
      refine g_aload_n (q := 44) B dX1_remove_43 rfl rfl (rv_r _) ?_
      refine g_aload_n (q := 45) B dX1_remove_44 rfl rfl (rv_r _) ?_
      refine g_callV (q := 48) (is := [7, 6, 6]) (kc2 := 18) (ks2 := 188) B [.ref a2] (ct_X1_isFresh g J (x := x) (lk := lk) (b := b) (lp := lp) (lr := lr) (lt := lt) (ls := ls) (lm := lm) (so := so) (bxs := (zBn C)) (ps := ps) (Ps := (zPs C)) (pcap := pcap) (pks := pks) (pmd := pmd) (Ts := (zTs C)) (tcap := tcap) (i := i2) (a := a2) (r := r2) hv1 hv4 (by first | assumption | omega | rfl) (by first | assumption | omega | rfl) (by first | assumption | omega | rfl)) dX1_remove_45 rfl (rc_at B (ci := 0) rfl (k := 7) rfl) rfl q1785 q1787 qs13 q77 q1788 rfl rfl moX1_isFresh rfl rfl (by decide) (by decide) (Nat.le_of_ble_eq_true rfl) (Nat.le_of_ble_eq_true rfl) (Nat.le_of_ble_eq_true rfl) (fun _ _ hx => noX_x hx) (fun v45 L1 hp45 => ?_)
      obtain ⟨rfl, rfl⟩ := hp45
      refine (show Go g κ 48 [some (.ref x), some (.int (nI i2)), some (.int (nI j)), some (.ref a2)] [.int (nI (if isF (zTs C).length (pEp r2) = true then 1 else 0))] [v0, v2, v3, v5, v6, v7, [(x, .inr (0, [.ref b, .ref lp, .ref lk, .ref lr, .ref lt, .ref ls, .ref lm, .ref so, .int (nI (zBn C))]))], v1, v4] 18 188 from ?_)
      refine g_if_eq (tgt := 76) (q := 51) B dX1_remove_48 rfl (by decide) (bo_eq) (fun c48 => ?_) (fun c48 => ?_)
      · skip
        refine g_iconst (v := nI 0) (q := 77) B dX1_remove_76 rfl (by decide) ?_
        refine g_callS (q := 80) (is := []) (kc2 := 17) (ks2 := 182) B [.int (nI 0)] (ct_X1_can g J (c := False) (dc := instDecidableFalse)  ) dX1_remove_77 rfl q2331 q2332 q77 q2333 rfl rfl moX1_can rfl rfl (by decide) (by decide) (Nat.le_of_ble_eq_true rfl) (Nat.le_of_ble_eq_true rfl) (Nat.le_of_ble_eq_true rfl) (fun E77 L1 hx77 => ?_) (fun v77 L1 hp77 => ?_)
        · skip
          obtain ⟨rfl, hx77⟩ := hx77
          obtain ⟨rfl, hx77⟩ := hx77
          refine gx_cl [6, 0, 5, 0, 0, 3, 0, 0, 0] rfl ?_
          exact g_out B E tb (by first | exact ⟨rfl, Or.inr (Or.inl ⟨rfl, hx77⟩)⟩ | exact ⟨rfl, Or.inr (Or.inl ⟨rfl, ⟨i2, r2, j, rfl, hr_2, rfl, hjj, hne, by rintro ⟨z1, z2, z3⟩; first | exact c48 z1 | exact z2 c61 | exact z3 c69⟩⟩)⟩ | exact ⟨rfl, Or.inr (Or.inl ⟨rfl, by simp_all⟩)⟩)
        obtain ⟨rfl, rfl, ht_77⟩ := hp77
        exact ht_77.elim
      · skip
        have c48 := Classical.not_not.mp c48
        refine g_aload_n (q := 52) B dX1_remove_51 rfl rfl (rv_r _) ?_
        refine g_callV (q := 55) (is := [6, 7]) (kc2 := 18) (ks2 := 188) B [] (ct_X1_tree g J (x := x) (lk := lk) (b := b) (lp := lp) (lr := lr) (lt := lt) (ls := ls) (lm := lm) (so := so) (bxs := (zBn C)) (Ts := (zTs C)) (tcap := tcap) (T := T) hv4 (hT hne)) dX1_remove_52 rfl (rc_at B (ci := 0) rfl (k := 6) rfl) rfl q1133 q1135 qs9 q77 q1136 rfl rfl moX1_tree rfl rfl (by decide) (by decide) (Nat.le_of_ble_eq_true rfl) (Nat.le_of_ble_eq_true rfl) (Nat.le_of_ble_eq_true rfl) (fun _ _ hx => noX_x hx) (fun v52 L1 hp52 => ?_)
        obtain ⟨t52, rfl, rfl, hE_52⟩ := hp52
        refine (show Go g κ 55 [some (.ref x), some (.int (nI i2)), some (.int (nI j)), some (.ref a2)] [.ref t52] [v0, v2, v3, v5, v6, v7, v1, [(x, .inr (0, [.ref b, .ref lp, .ref lk, .ref lr, .ref lt, .ref ls, .ref lm, .ref so, .int (nI (zBn C))]))], v4] 18 188 from ?_)
        have hTB52 := TreeP.b2 hE_52
        have hp252 := p2_4 hTB52.1
        obtain ⟨as_5, al_5, ap_5, fs_5, fl_5, fp_5, hB_5, hfs_5, hfl_5, hfp_5, hc_5_0, hc_5_1, hc_5_2, hc_5_3⟩ := TreeP.at (hE_52)
        refine g_getNM (q := 58) B (ci := 5) (k := 8) (j := 3) in_X10 rfl dX1_remove_55 rfl rfl (hc_5_0) (Nat.le_of_ble_eq_true rfl) q2045 rfl rfl ?_
        refine g_iload_n (q := 59) B dX1_remove_58 rfl rfl ?_
        refine g_ialdM (v := oI (T.2.2.2 j)) (q := 60) B (k := 8) dX1_remove_59 rfl rfl (hc_5_3) (vp_in_nI (by omega) (by omega)) (by rw [nI_clamp (by omega)]; exact hfp_5 _ (by omega)) ?_
        refine g_iconst (v := -1) (q := 61) B dX1_remove_60 rfl (by decide) ?_
        refine g_icmp_eq (tgt := 76) (q := 64) B dX1_remove_61 rfl (by decide) (oI_n ((fun n h => by have := hB_5.2.2.2 _ _ h; omega))) (fun c61 => ?_) (fun c61 => ?_)
        · skip
          refine g_iconst (v := nI 0) (q := 77) B dX1_remove_76 rfl (by decide) ?_
          refine g_callS (q := 80) (is := []) (kc2 := 17) (ks2 := 182) B [.int (nI 0)] (ct_X1_can g J (c := False) (dc := instDecidableFalse)  ) dX1_remove_77 rfl q2331 q2332 q77 q2333 rfl rfl moX1_can rfl rfl (by decide) (by decide) (Nat.le_of_ble_eq_true rfl) (Nat.le_of_ble_eq_true rfl) (Nat.le_of_ble_eq_true rfl) (fun E77 L1 hx77 => ?_) (fun v77 L1 hp77 => ?_)
          · skip
            obtain ⟨rfl, hx77⟩ := hx77
            obtain ⟨rfl, hx77⟩ := hx77
            refine gx_cl [7, 0, 5, 0, 0, 3, 0, 0, 0] rfl ?_
            exact g_out B E tb (by first | exact ⟨rfl, Or.inr (Or.inl ⟨rfl, hx77⟩)⟩ | exact ⟨rfl, Or.inr (Or.inl ⟨rfl, ⟨i2, r2, j, rfl, hr_2, rfl, hjj, hne, by rintro ⟨z1, z2, z3⟩; first | exact c48 z1 | exact z2 c61 | exact z3 c69⟩⟩)⟩ | exact ⟨rfl, Or.inr (Or.inl ⟨rfl, by simp_all⟩)⟩)
          obtain ⟨rfl, rfl, ht_77⟩ := hp77
          exact ht_77.elim
        · skip
          obtain ⟨v61, ev61⟩ := Option.ne_none_iff_exists'.mp c61
          refine g_aload_n (q := 65) B dX1_remove_64 rfl rfl (rv_r _) ?_
          refine g_iload_n (q := 66) B dX1_remove_65 rfl rfl ?_
          refine g_callV (q := 69) (is := [7, 2]) (kc2 := 17) (ks2 := 184) B [.int (nI j)] (ct_X1_isToBeRemoved g J (x := x) (lk := lk) (b := b) (lp := lp) (lr := lr) (lt := lt) (ls := ls) (lm := lm) (so := so) (bxs := (zBn C)) (Rs := (zRs C)) (rcap := rcap) (pks := pks) (l := j) hv3 (by omega) (hrb)) dX1_remove_66 rfl (rc_at B (ci := 0) rfl (k := 7) rfl) rfl q2417 q2419 qs31 q77 q2420 rfl rfl moX1_isToBeRemoved rfl rfl (by decide) (by decide) (Nat.le_of_ble_eq_true rfl) (Nat.le_of_ble_eq_true rfl) (Nat.le_of_ble_eq_true rfl) (fun _ _ hx => noX_x hx) (fun v66 L1 hp66 => ?_)
          obtain ⟨rfl, rfl⟩ := hp66
          refine (show Go g κ 69 [some (.ref x), some (.int (nI i2)), some (.int (nI j)), some (.ref a2)] [.int (nI (if rmB (zRs C) j = true then 1 else 0))] [v0, v2, v5, v6, v7, v1, v4, [(x, .inr (0, [.ref b, .ref lp, .ref lk, .ref lr, .ref lt, .ref ls, .ref lm, .ref so, .int (nI (zBn C))]))], v3] 17 184 from ?_)
          refine g_if_ne (tgt := 76) (q := 72) B dX1_remove_69 rfl (by decide) (bo_ne) (fun c69 => ?_) (fun c69 => ?_)
          · skip
            refine g_iconst (v := nI 0) (q := 77) B dX1_remove_76 rfl (by decide) ?_
            refine g_callS (q := 80) (is := []) (kc2 := 16) (ks2 := 178) B [.int (nI 0)] (ct_X1_can g J (c := False) (dc := instDecidableFalse)  ) dX1_remove_77 rfl q2331 q2332 q77 q2333 rfl rfl moX1_can rfl rfl (by decide) (by decide) (Nat.le_of_ble_eq_true rfl) (Nat.le_of_ble_eq_true rfl) (Nat.le_of_ble_eq_true rfl) (fun E77 L1 hx77 => ?_) (fun v77 L1 hp77 => ?_)
            · skip
              obtain ⟨rfl, hx77⟩ := hx77
              obtain ⟨rfl, hx77⟩ := hx77
              refine gx_cl [7, 0, 4, 0, 4, 3, 0, 0, 0] rfl ?_
              exact g_out B E tb (by first | exact ⟨rfl, Or.inr (Or.inl ⟨rfl, hx77⟩)⟩ | exact ⟨rfl, Or.inr (Or.inl ⟨rfl, ⟨i2, r2, j, rfl, hr_2, rfl, hjj, hne, by rintro ⟨z1, z2, z3⟩; first | exact c48 z1 | exact z2 c61 | exact z3 c69⟩⟩)⟩ | exact ⟨rfl, Or.inr (Or.inl ⟨rfl, by simp_all⟩)⟩)
            obtain ⟨rfl, rfl, ht_77⟩ := hp77
            exact ht_77.elim
          · skip
            refine g_iconst (v := nI 1) (q := 73) B dX1_remove_72 rfl (by decide) ?_
            refine g_goto (tgt := 77) B dX1_remove_73 (by decide) ?_
            refine g_callS (q := 80) (is := []) (kc2 := 16) (ks2 := 178) B [.int (nI 1)] (ct_X1_can g J (c := True) (dc := instDecidableTrue)  ) dX1_remove_77 rfl q2331 q2332 q77 q2333 rfl rfl moX1_can rfl rfl (by decide) (by decide) (Nat.le_of_ble_eq_true rfl) (Nat.le_of_ble_eq_true rfl) (Nat.le_of_ble_eq_true rfl) (fun E77 L1 hx77 => ?_) (fun v77 L1 hp77 => ?_)
            · skip
              obtain ⟨rfl, hx77⟩ := hx77
              obtain ⟨rfl, hx77⟩ := hx77
              exact absurd trivial hx77
            obtain ⟨rfl, rfl, ht_77⟩ := hp77
            refine (show Go g κ 80 [some (.ref x), some (.int (nI i2)), some (.int (nI j)), some (.ref a2)] [] [v0, v2, v5, v6, v7, v1, v4, [(x, .inr (0, [.ref b, .ref lp, .ref lk, .ref lr, .ref lt, .ref ls, .ref lm, .ref so, .int (nI (zBn C))]))], v3] 16 178 from ?_)
            refine g_aload_n (q := 81) B dX1_remove_80 rfl rfl (rv_r _) ?_
            refine g_get (q := 84) B (ci := 0) (k := 7) (j := 3) in_X1 rfl dX1_remove_81 rfl rfl (Nat.le_of_ble_eq_true rfl) q280 rfl rfl ?_
            obtain ⟨ps_6, md_6, hli_6, hln_6, hel_6⟩ := LhP.at (Sub.self hv3)
            refine g_callF (q := 89) (is := [8]) (kc2 := 16) (ks2 := 178) B [] (ct_J2_size_s g J (p := lr) (xs := ps_6) (md := md_6) (cap := rcap) (W0 := v3)  (hli_6)) dX1_remove_84 rfl (ci := 21) rfl (rc_in B (ci := 21) rfl (k := 8) rfl (PropL.hm hv3)) q315 q319 q321 q81 q323 q317 q316 q322 q320 q318 rfl rfl mojava_util_List_size___I rfl rfl (by decide) (by decide) (Nat.le_of_ble_eq_true rfl) (Nat.le_of_ble_eq_true rfl) (Nat.le_of_ble_eq_true rfl) (fun _ _ hx => noX_x hx) (fun v84 L1 hp84 => ?_)
            obtain ⟨rfl, rfl⟩ := hp84
            refine (show Go g κ 89 [some (.ref x), some (.int (nI i2)), some (.int (nI j)), some (.ref a2)] [.int (nI ps_6.length)] [v0, v2, v5, v6, v7, v1, v4, [(x, .inr (0, [.ref b, .ref lp, .ref lk, .ref lr, .ref lt, .ref ls, .ref lm, .ref so, .int (nI (zBn C))]))], v3] 16 178 from ?_)
            rw [hln_6.1]
            refine (show Go g κ 89 [some (.ref x), some (.int (nI i2)), some (.int (nI j)), some (.ref a2)] [.int (nI ((zRs C).length))] [v0, v2, v5, v6, v7, v1, v4, [(x, .inr (0, [.ref b, .ref lp, .ref lk, .ref lr, .ref lt, .ref ls, .ref lm, .ref so, .int (nI (zBn C))]))], v3] 16 178 from ?_)
            refine g_bipush (v := nI 8) (q := 91) B dX1_remove_89 rfl (by decide) ?_
            refine g_icmp_ge (tgt := 98) (q := 94) B dX1_remove_91 rfl (by decide) (nI_leI (by omega) (by omega)) (fun c91 => ?_) (fun c91 => ?_)
            · skip
              refine g_iconst (v := nI 0) (q := 99) B dX1_remove_98 rfl (by decide) ?_
              refine g_callS (q := 102) (is := []) (kc2 := 15) (ks2 := 172) B [.int (nI 0)] (ct_X1_ready g J (c := False) (dc := instDecidableFalse)  ) dX1_remove_99 rfl q1839 q1840 q77 q1841 rfl rfl moX1_ready rfl rfl (by decide) (by decide) (Nat.le_of_ble_eq_true rfl) (Nat.le_of_ble_eq_true rfl) (Nat.le_of_ble_eq_true rfl) (fun E99 L1 hx99 => ?_) (fun v99 L1 hp99 => ?_)
              · skip
                obtain ⟨rfl, hx99⟩ := hx99
                obtain ⟨rfl, hx99⟩ := hx99
                refine gx_cl [7, 0, 4, 0, 4, 3, 0, 0, 0] rfl ?_
                exact g_out B E tb (by first | exact ⟨rfl, Or.inr (Or.inr (⟨rfl, hx99⟩))⟩ | exact ⟨rfl, Or.inr (Or.inr (⟨rfl, ⟨i2, r2, j, rfl, hr_2, rfl, hjj, hne, ⟨c48, c61, c69⟩, by omega⟩⟩))⟩ | exact ⟨rfl, Or.inr (Or.inr (⟨rfl, by simp_all⟩))⟩)
              obtain ⟨rfl, rfl, ht_99⟩ := hp99
              exact ht_99.elim
            · skip
              refine g_iconst (v := nI 1) (q := 95) B dX1_remove_94 rfl (by decide) ?_
              refine g_goto (tgt := 99) B dX1_remove_95 (by decide) ?_
              refine g_callS (q := 102) (is := []) (kc2 := 15) (ks2 := 172) B [.int (nI 1)] (ct_X1_ready g J (c := True) (dc := instDecidableTrue)  ) dX1_remove_99 rfl q1839 q1840 q77 q1841 rfl rfl moX1_ready rfl rfl (by decide) (by decide) (Nat.le_of_ble_eq_true rfl) (Nat.le_of_ble_eq_true rfl) (Nat.le_of_ble_eq_true rfl) (fun E99 L1 hx99 => ?_) (fun v99 L1 hp99 => ?_)
              · skip
                obtain ⟨rfl, hx99⟩ := hx99
                obtain ⟨rfl, hx99⟩ := hx99
                exact absurd trivial hx99
              obtain ⟨rfl, rfl, ht_99⟩ := hp99
              refine (show Go g κ 102 [some (.ref x), some (.int (nI i2)), some (.int (nI j)), some (.ref a2)] [] [v0, v2, v5, v6, v7, v1, v4, [(x, .inr (0, [.ref b, .ref lp, .ref lk, .ref lr, .ref lt, .ref ls, .ref lm, .ref so, .int (nI (zBn C))]))], v3] 15 172 from ?_)
              refine g_aload_n (q := 103) B dX1_remove_102 rfl rfl (rv_r _) ?_
              refine g_new (q := 106) (kc2 := 14) (ks2 := 171) (fs := [.int (nI 0)]) B (ci := 9) in_X18 tyX18_ok rfl dX1_remove_103 rfl q2421 q2422 q142 (nwX18) (Nat.le_of_ble_eq_true rfl) (Nat.le_of_ble_eq_true rfl) (fun n103 => ?_)
              refine (show Go g κ 106 [some (.ref x), some (.int (nI i2)), some (.int (nI j)), some (.ref a2)] [.ref n103, .ref x] [v0, v2, v5, v6, v7, v1, v4, [(x, .inr (0, [.ref b, .ref lp, .ref lk, .ref lr, .ref lt, .ref ls, .ref lm, .ref so, .int (nI (zBn C))]))], v3, [(n103, .inr (9, [.int (nI 0)]))]] 14 171 from ?_)
              refine g_dup (q := 107) B dX1_remove_106 rfl rfl ?_
              refine g_iload_n (q := 108) B dX1_remove_107 rfl rfl ?_
              refine g_callI (q := 111) (is := [9]) (kc2 := 14) (ks2 := 171) B [.int (nI j)] (ct_X18_init g J (a := n103) (l := j)  ) dX1_remove_108 rfl rfl q2423 q2424 q142 q2425 rfl rfl moX18_init rfl rfl (by decide) (by decide) (Nat.le_of_ble_eq_true rfl) (Nat.le_of_ble_eq_true rfl) (Nat.le_of_ble_eq_true rfl) (fun _ _ hx => noX_x hx) (fun v108 L1 hp108 => ?_)
              obtain ⟨rfl, rfl⟩ := hp108
              refine (show Go g κ 111 [some (.ref x), some (.int (nI i2)), some (.int (nI j)), some (.ref a2)] [.ref n103, .ref x] [v0, v2, v5, v6, v7, v1, v4, [(x, .inr (0, [.ref b, .ref lp, .ref lk, .ref lr, .ref lt, .ref ls, .ref lm, .ref so, .int (nI (zBn C))]))], v3, [(n103, .inr (9, [.int (nI j)]))]] 14 171 from ?_)
              obtain ⟨wc_7, ewc_7⟩ : ∃ w : va_W, w = ([[(n103, .inr (9, [.int (nI j)]))]] : List va_W).flatten := ⟨_, rfl⟩
              have hwc_7 : PropQ g n103 pks ((1, j, 0) : PrS) wc_7 := by
                rw [ewc_7]
                exact Or.inr (Or.inl ⟨rfl, rfl⟩)
              refine g_close (w := wc_7) [9] rfl ewc_7 rfl ?_
              refine (show Go g κ 111 [some (.ref x), some (.int (nI i2)), some (.int (nI j)), some (.ref a2)] [.ref n103, .ref x] [v0, v2, v5, v6, v7, v1, v4, [(x, .inr (0, [.ref b, .ref lp, .ref lk, .ref lr, .ref lt, .ref ls, .ref lm, .ref so, .int (nI (zBn C))]))], v3, wc_7] 14 171 from ?_)
              refine g_callV (q := 114) (is := [7, 7, 7]) (kc2 := 13) (ks2 := 111) B [.ref n103] (ct_X1_proposes g J (x := x) (lk := lk) (b := b) (lp := lp) (lr := lr) (lt := lt) (ls := ls) (lm := lm) (so := so) (bxs := (zBn C)) (Rs := (zRs C)) (rcap := rcap) (pks := pks) (a := n103) (r := ((1, j, 0) : PrS)) hv3 hwc_7 (by first | assumption | omega | rfl) (by first | assumption | omega | rfl)) dX1_remove_111 rfl (rc_at B (ci := 0) rfl (k := 7) rfl) rfl q2406 q2408 qs30 q77 q2409 rfl rfl moX1_proposes rfl rfl (by decide) (by decide) (Nat.le_of_ble_eq_true rfl) (Nat.le_of_ble_eq_true rfl) (Nat.le_of_ble_eq_true rfl) (fun _ _ hx => noX_x hx) (fun v111 L1 hp111 => ?_)
              obtain ⟨u1_111, rfl, rfl, hu1_111⟩ := hp111
              refine (show Go g κ 114 [some (.ref x), some (.int (nI i2)), some (.int (nI j)), some (.ref a2)] [.int (nI ((zRs C).length + 1))] [v0, v2, v5, v6, v7, v1, v4, [(x, .inr (0, [.ref b, .ref lp, .ref lk, .ref lr, .ref lt, .ref ls, .ref lm, .ref so, .int (nI (zBn C))]))], u1_111] 13 111 from ?_)
              obtain ⟨wc_8, ewc_8⟩ : ∃ w : va_W, w = ([[(x, .inr (0, [.ref b, .ref lp, .ref lk, .ref lr, .ref lt, .ref ls, .ref lm, .ref so, .int (nI (zBn C))]))], v0, v1, v2, u1_111, v4, v5, v6, v7] : List va_W).flatten := ⟨_, rfl⟩
              have hwc_8 : KgP g x ((zSs C, zBx C, zZz C, zPs C, zKs C, (zRs C ++ [(1, j, 0)]), zTs C, zSt C, zMs C, zSo C, zBn C) : KsS) wc_8 := by
                rw [ewc_8]
                exact ⟨b, lp, lk, lr, lt, ls, lm, so, pcap, kcap, (if (zRs C).length = rcap then growN rcap else rcap), tcap, scap, mcap, socap, ps, pks, pmd, _, _, _, _, _, _, _, _, ⟨kc1, kc2, grow_b (by omega) kc3, kc4, kc5, kc6, kc7⟩, hv0, hv1, hv2, hu1_111, hv4, hv5, hv6, hv7, rfl⟩
              refine g_close (w := wc_8) [7, 0, 4, 0, 4, 3, 0, 0, 0] rfl ewc_8 rfl ?_
              refine (show Go g κ 114 [some (.ref x), some (.int (nI i2)), some (.int (nI j)), some (.ref a2)] [.int (nI ((zRs C).length + 1))] [wc_8] 13 111 from ?_)
              exact g_iret B E dX1_remove_114 (⟨i2, r2, j, _, rfl, rfl, hwc_8, rfl, hr_2, rfl, hjj, hne, ⟨c48, c61, c69⟩, by omega⟩)
