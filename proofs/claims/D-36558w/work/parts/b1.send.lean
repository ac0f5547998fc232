set_option maxRecDepth 100000
theorem ct_X1_send_x (g : Gv) (J : Jd g) {x : Nat} {C : KsS} {v : Int32} {w0 : va_W} (hw0 : KgP g x C w0) (hC : KsB C) (hno : ¬ (inR v (zPs C).length = true ∧ ∃ (i : Nat) (r : PeS), v = nI i ∧ (zPs C)[i]? = some r ∧ ¬ pEp r = none ∧ (zMs C).length < 40)) : Ct g yX1_send (ws_ yX1_send cX1_send 5 (some .int)) 17 10 60 [.ref x, .int v] [w0] (fun (rv_ : Option Value) (rL_ : List va_W) => ∃ (u0 : va_W), rv_ = some (.int 0) ∧ rL_ = [u0] ∧ KgP g x C u0 ∧ (False)) (fun (rE_ : String) (rL_ : List va_W) => rL_ = [w0] ∧ ((rE_ = "java/lang/IndexOutOfBoundsException" ∧ (¬ inR v (zPs C).length = true)) ∨ (rE_ = "java/lang/UnsupportedOperationException" ∧ (∃ (i : Nat) (r : PeS), v = nI i ∧ (zPs C)[i]? = some r ∧ pEp r = none)) ∨ (rE_ = "java/lang/IllegalStateException" ∧ (∃ (i : Nat) (r : PeS), v = nI i ∧ (zPs C)[i]? = some r ∧ ¬ pEp r = none ∧ ¬ (zMs C).length < 40)))) := by
  refine Ct.of "Keygrove" [some (.ref x), some (.int v), none, none, none] rfl (by decide) rfl (Nat.le_of_ble_eq_true rfl) rfl ?_
  intro κ B E tb
  have hC0 := hC
  obtain ⟨hc1, hc2, hc3, hc4, hc5, hc6, hc7, hc8, hc9, hc10, hc11⟩ := hC0
  obtain ⟨b, lp, lk, lr, lt, ls, lm, so, pcap, kcap, rcap, tcap, scap, mcap, socap, ps, pks, pmd, v0, v1, v2, v3, v4, v5, v6, v7, hcap, hv0, hv1, hv2, hv3, hv4, hv5, hv6, hv7, rfl⟩ := hw0
  refine g_open 0 rfl rfl rfl ?_
  refine (show Go g κ 0 [some (.ref x), some (.int v), none, none, none] [] [[(x, .inr (0, [.ref b, .ref lp, .ref lk, .ref lr, .ref lt, .ref ls, .ref lm, .ref so, .int (nI (zBn C))]))], v0, v1, v2, v3, v4, v5, v6, v7] 10 60 from ?_)
  refine g_aload_n (q := 1) B dX1_send_0 rfl rfl (rv_r _) ?_
  refine g_iload_n (q := 2) B dX1_send_1 rfl rfl ?_
  refine g_callV (q := 5) (is := [0, 1]) (kc2 := 9) (ks2 := 54) B [.int v] (ct_X1_personWith g J (x := x) (lk := lk) (b := b) (lp := lp) (lr := lr) (lt := lt) (ls := ls) (lm := lm) (so := so) (bxs := zBn C) (ps := ps) (Ps := (zPs C)) (pcap := pcap) (pks := pks) (pmd := pmd) (v := v) hv1 (by first | assumption | omega | rfl)) dX1_send_2 rfl (rc_at B (ci := 0) rfl (k := 0) rfl) rfl q1961 q1963 qs15 q77 q1964 rfl rfl moX1_personWith rfl rfl (by decide) (by decide) (Nat.le_of_ble_eq_true rfl) (Nat.le_of_ble_eq_true rfl) (Nat.le_of_ble_eq_true rfl) (fun E2 L1 hx2 => ?_) (fun v2 L1 hp2 => ?_)
  · skip
    obtain ⟨rfl, hx2⟩ := hx2
    obtain ⟨rfl, hx2⟩ := hx2
    refine gx_cl [7, 0, 6, 0, 0, 0, 0, 0, 0] rfl ?_
    exact g_out B E tb (by first | exact ⟨rfl, Or.inl ⟨rfl, hx2⟩⟩ | exact ⟨rfl, Or.inl ⟨rfl, by simp_all⟩⟩)
  obtain ⟨i2, a2, r2, rfl, rfl, hv_2, ha_2, hr_2⟩ := hp2
  refine (show Go g κ 5 [some (.ref x), some (.int v), none, none, none] [.ref a2] [v0, v2, v3, v4, v5, v6, v7, [(x, .inr (0, [.ref b, .ref lp, .ref lk, .ref lr, .ref lt, .ref ls, .ref lm, .ref so, .int (nI (zBn C))]))], v1] 9 54 from ?_)
  subst hv_2
  obtain ⟨hli_1, hln_1, hel_1⟩ := PersL.at (Sub.self hv1)
  have hE_2 := hel_1 _ _ _ ha_2 hr_2
  refine (show Go g κ 5 [some (.ref x), some (.int (nI i2)), none, none, none] [.ref a2] [v0, v2, v3, v4, v5, v6, v7, [(x, .inr (0, [.ref b, .ref lp, .ref lk, .ref lr, .ref lt, .ref ls, .ref lm, .ref so, .int (nI (zBn C))]))], v1] 9 54 from ?_)
  obtain ⟨kc1, kc2, kc3, kc4, kc5, kc6, kc7⟩ := (show capB pcap kcap rcap tcap scap mcap socap from hcap)
  have hPB := pLf_b (hE_2)
  have hlf16 := hPB.2.1
  refine g_astore_n (q := 6) (lv2 := [some (.ref x), some (.int (nI i2)), some (.ref a2), none, none]) B dX1_send_5 rfl (Nat.le_of_ble_eq_true rfl) (rv_r _) rfl ?_
  refine g_aload_n (q := 7) B dX1_send_6 rfl rfl (rv_r _) ?_
  refine g_callV (q := 10) (is := [8]) (kc2 := 9) (ks2 := 54) B [] (ct_X4_isIn_s g J (a := a2) (x := x) (pks := pks) (r := r2) (W0 := v1)  (hE_2)) dX1_send_7 rfl (rc_in B (ci := 2) rfl (k := 8) rfl (Sub.hm (hE_2) fun _ z => PersP.hm z)) rfl q1211 q1207 q1208 q90 q1209 rfl rfl moX4_isIn rfl rfl (by decide) (by decide) (Nat.le_of_ble_eq_true rfl) (Nat.le_of_ble_eq_true rfl) (Nat.le_of_ble_eq_true rfl) (fun _ _ hx => noX_x hx) (fun v7 L1 hp7 => ?_)
  obtain ⟨rfl, rfl⟩ := hp7
  refine (show Go g κ 10 [some (.ref x), some (.int (nI i2)), some (.ref a2), none, none] [.int (nI (if ¬ pEp r2 = none then 1 else 0))] [v0, v2, v3, v4, v5, v6, v7, [(x, .inr (0, [.ref b, .ref lp, .ref lk, .ref lr, .ref lt, .ref ls, .ref lm, .ref so, .int (nI (zBn C))]))], v1] 9 54 from ?_)
  refine g_callS (q := 13) (is := []) (kc2 := 8) (ks2 := 48) B [.int (nI (if ¬ pEp r2 = none then 1 else 0))] (ct_X1_can g J (c := ¬ pEp r2 = none) (dc := _)  ) dX1_send_10 rfl q2331 q2332 q77 q2333 rfl rfl moX1_can rfl rfl (by decide) (by decide) (Nat.le_of_ble_eq_true rfl) (Nat.le_of_ble_eq_true rfl) (Nat.le_of_ble_eq_true rfl) (fun E10 L1 hx10 => ?_) (fun v10 L1 hp10 => ?_)
  · skip
    obtain ⟨rfl, hx10⟩ := hx10
    obtain ⟨rfl, hx10⟩ := hx10
    refine gx_cl [7, 0, 6, 0, 0, 0, 0, 0, 0] rfl ?_
    exact g_out B E tb (by first | exact ⟨rfl, Or.inr (Or.inl ⟨rfl, hx10⟩)⟩ | exact ⟨rfl, Or.inr (Or.inl ⟨rfl, ⟨i2, r2, rfl, hr_2, Classical.not_not.mp hx10⟩⟩)⟩ | exact ⟨rfl, Or.inr (Or.inl ⟨rfl, by simp_all⟩)⟩)
  obtain ⟨rfl, rfl, ht_10⟩ := hp10
  refine (show Go g κ 13 [some (.ref x), some (.int (nI i2)), some (.ref a2), none, none] [] [v0, v2, v3, v4, v5, v6, v7, [(x, .inr (0, [.ref b, .ref lp, .ref lk, .ref lr, .ref lt, .ref ls, .ref lm, .ref so, .int (nI (zBn C))]))], v1] 8 48 from ?_)
  refine g_aload_n (q := 14) B dX1_send_13 rfl rfl (rv_r _) ?_
  refine g_get (q := 17) B (ci := 0) (k := 7) (j := 6) in_X1 rfl dX1_send_14 rfl rfl (Nat.le_of_ble_eq_true rfl) q284 rfl rfl ?_
  obtain ⟨ps_3, md_3, hli_3, hln_3, hel_3⟩ := LhP.at (Sub.self hv6)
  refine g_callF (q := 22) (is := [5]) (kc2 := 8) (ks2 := 48) B [] (ct_J2_size_s g J (p := lm) (xs := ps_3) (md := md_3) (cap := mcap) (W0 := v6)  (hli_3)) dX1_send_17 rfl (ci := 21) rfl (rc_in B (ci := 21) rfl (k := 5) rfl (LhP.hm hv6)) q315 q319 q321 q81 q323 q317 q316 q322 q320 q318 rfl rfl mojava_util_List_size___I rfl rfl (by decide) (by decide) (Nat.le_of_ble_eq_true rfl) (Nat.le_of_ble_eq_true rfl) (Nat.le_of_ble_eq_true rfl) (fun _ _ hx => noX_x hx) (fun v17 L1 hp17 => ?_)
  obtain ⟨rfl, rfl⟩ := hp17
  refine (show Go g κ 22 [some (.ref x), some (.int (nI i2)), some (.ref a2), none, none] [.int (nI ps_3.length)] [v0, v2, v3, v4, v5, v7, [(x, .inr (0, [.ref b, .ref lp, .ref lk, .ref lr, .ref lt, .ref ls, .ref lm, .ref so, .int (nI (zBn C))]))], v1, v6] 8 48 from ?_)
  rw [hln_3.1]
  refine (show Go g κ 22 [some (.ref x), some (.int (nI i2)), some (.ref a2), none, none] [.int (nI ((zMs C).length))] [v0, v2, v3, v4, v5, v7, [(x, .inr (0, [.ref b, .ref lp, .ref lk, .ref lr, .ref lt, .ref ls, .ref lm, .ref so, .int (nI (zBn C))]))], v1, v6] 8 48 from ?_)
  refine g_bipush (v := nI 40) (q := 24) B dX1_send_22 rfl (by decide) ?_
  refine g_icmp_ge (tgt := 31) (q := 27) B dX1_send_24 rfl (by decide) (nI_leI (by omega) (by omega)) (fun c24 => ?_) (fun c24 => ?_)
  · skip
    refine g_iconst (v := nI 0) (q := 32) B dX1_send_31 rfl (by decide) ?_
    refine g_callS (q := 35) (is := []) (kc2 := 7) (ks2 := 42) B [.int (nI 0)] (ct_X1_ready g J (c := False) (dc := instDecidableFalse)  ) dX1_send_32 rfl q1839 q1840 q77 q1841 rfl rfl moX1_ready rfl rfl (by decide) (by decide) (Nat.le_of_ble_eq_true rfl) (Nat.le_of_ble_eq_true rfl) (Nat.le_of_ble_eq_true rfl) (fun E32 L1 hx32 => ?_) (fun v32 L1 hp32 => ?_)
    · skip
      obtain ⟨rfl, hx32⟩ := hx32
      obtain ⟨rfl, hx32⟩ := hx32
      refine gx_cl [6, 0, 5, 0, 0, 0, 0, 1, 0] rfl ?_
      exact g_out B E tb (by first | exact ⟨rfl, Or.inr (Or.inr (⟨rfl, hx32⟩))⟩ | exact ⟨rfl, Or.inr (Or.inr (⟨rfl, ⟨i2, r2, rfl, hr_2, ht_10, by omega⟩⟩))⟩ | exact ⟨rfl, Or.inr (Or.inr (⟨rfl, by simp_all⟩))⟩)
    obtain ⟨rfl, rfl, ht_32⟩ := hp32
    exact ht_32.elim
  · skip
    refine g_iconst (v := nI 1) (q := 28) B dX1_send_27 rfl (by decide) ?_
    refine g_goto (tgt := 32) B dX1_send_28 (by decide) ?_
    refine g_callS (q := 35) (is := []) (kc2 := 7) (ks2 := 42) B [.int (nI 1)] (ct_X1_ready g J (c := True) (dc := instDecidableTrue)  ) dX1_send_32 rfl q1839 q1840 q77 q1841 rfl rfl moX1_ready rfl rfl (by decide) (by decide) (Nat.le_of_ble_eq_true rfl) (Nat.le_of_ble_eq_true rfl) (Nat.le_of_ble_eq_true rfl) (fun E32 L1 hx32 => ?_) (fun v32 L1 hp32 => ?_)
    · skip
      obtain ⟨rfl, hx32⟩ := hx32
      obtain ⟨rfl, hx32⟩ := hx32
      exact absurd trivial hx32
    obtain ⟨rfl, rfl, ht_32⟩ := hp32
    refine (show Go g κ 35 [some (.ref x), some (.int (nI i2)), some (.ref a2), none, none] [] [v0, v2, v3, v4, v5, v7, [(x, .inr (0, [.ref b, .ref lp, .ref lk, .ref lr, .ref lt, .ref ls, .ref lm, .ref so, .int (nI (zBn C))]))], v1, v6] 7 42 from ?_)
    have hil2 := get_lt2 hr_2
    exact absurd ⟨by rw [inR_k (by omega)]; simpa using get_lt2 hr_2, i2, r2, rfl, hr_2, ht_10, by omega⟩ hno
theorem nwX21 : ∀ j, j < 4 → defaultValue (tyX21 j) = vp_V [.int (nI 0), .int (nI 0), .int (nI 0), .int (nI 0)] j := by
  intro j hj
  match j, hj with
  | 0, _ => rfl
  | 1, _ => rfl
  | 2, _ => rfl
  | 3, _ => rfl
  | n + 4, hj => exact absurd hj (by omega)
theorem moX21_init : Mo yX21_init 4 := by
  refine ⟨by decide, by decide, by decide +kernel⟩
theorem ct_X1_send_y (g : Gv) (J : Jd g) {x : Nat} {C : KsS} {v : Int32} {i : Nat} {r : PeS} {e : Nat} {c : ChS} {q1 : List Sec} {k1 : Nat} {q2 : List Sec} {k2 : Nat} {TA : Nat} {w0 : va_W} (hw0 : KgP g x C w0) (hC : KsB C) (hv : v = nI i) (hr : (zPs C)[i]? = some r) (he : pEp r = some e) (hch : pCh r (pLf r) = some c) (hms : (zMs C).length < 40) (hpl : c.2.1 < 99) (hq1 : frm (zSs C ++ [drw (zZz C)]) (c.1, none, 7) = (q1, k1)) (hq2 : frm q1 (c.1, none, 8) = (q2, k2)) (hfl : q2.length ≤ 980) (hTA : PhS q2 ≤ TA) : Ct g yX1_send (ws_ yX1_send cX1_send 5 (some .int)) 17 (200 + 13 * (TA - PhS (zSs C))) (1200 + 55 * (TA - PhS (zSs C)) + 8 * (capF ((zBx C).length + 1) - capF (zBx C).length)) [.ref x, .int v] [w0] (fun (rv_ : Option Value) (rL_ : List va_W) => ∃ (E : Nat → Bool) (u0 : va_W), rv_ = some (.int (nI ((zMs C).length))) ∧ rL_ = [u0] ∧ KgP g x ((q2, zBx C ++ [(k1, (zSs C).length)], lcg (zZz C), (zPs C).set i ((pNo r, E, pPk r, pEp r, pLf r, pNd r, pOn r, pKy r, fup (pCh r) (pLf r) (some ((k2, c.2.1 + 1, c.2.2) : ChS)), pRn r) : PeS), zKs C, zRs C, zTs C, zSt C, zMs C ++ [(e, pLf r, c.2.1, (zSs C).length)], zSo C, zBn C) : KsS) u0 ∧ (∀ y, E y = true ↔ pEv r y = true ∨ helP (zKs C) ((pNo r, pEv r, pPk r, pEp r, pLf r, pNd r, pOn r, pKy r, fup (pCh r) (pLf r) (some ((k2, c.2.1 + 1, c.2.2) : ChS)), pRn r) : PeS) y)) noX := by
  refine Ct.of "Keygrove" [some (.ref x), some (.int v), none, none, none] rfl (by decide) rfl (Nat.le_of_ble_eq_true rfl) rfl ?_
  intro κ B E tb
  have hC0 := hC
  obtain ⟨hc1, hc2, hc3, hc4, hc5, hc6, hc7, hc8, hc9, hc10, hc11⟩ := hC0
  obtain ⟨b, lp, lk, lr, lt, ls, lm, so, pcap, kcap, rcap, tcap, scap, mcap, socap, ps, pks, pmd, v0, v1, v2, v3, v4, v5, v6, v7, hcap, hv0, hv1, hv2, hv3, hv4, hv5, hv6, hv7, rfl⟩ := hw0
  refine g_open 0 rfl rfl rfl ?_
  refine (show Go g κ 0 [some (.ref x), some (.int v), none, none, none] [] [[(x, .inr (0, [.ref b, .ref lp, .ref lk, .ref lr, .ref lt, .ref ls, .ref lm, .ref so, .int (nI (zBn C))]))], v0, v1, v2, v3, v4, v5, v6, v7] (200 + 13 * (TA - PhS (zSs C))) (1200 + 55 * (TA - PhS (zSs C)) + 8 * (capF ((zBx C).length + 1) - capF (zBx C).length)) from ?_)
  refine g_aload_n (q := 1) B dX1_send_0 rfl rfl (rv_r _) ?_
  refine g_iload_n (q := 2) B dX1_send_1 rfl rfl ?_
  refine g_callV (q := 5) (is := [0, 1]) (kc2 := (200 + 13 * (TA - PhS (zSs C))) - 1) (ks2 := (1200 + 55 * (TA - PhS (zSs C)) + 8 * (capF ((zBx C).length + 1) - capF (zBx C).length)) - 6) B [.int v] (ct_X1_personWith g J (x := x) (lk := lk) (b := b) (lp := lp) (lr := lr) (lt := lt) (ls := ls) (lm := lm) (so := so) (bxs := zBn C) (ps := ps) (Ps := (zPs C)) (pcap := pcap) (pks := pks) (pmd := pmd) (v := v) hv1 (by first | assumption | omega | rfl)) dX1_send_2 rfl (rc_at B (ci := 0) rfl (k := 0) rfl) rfl q1961 q1963 qs15 q77 q1964 rfl rfl moX1_personWith rfl rfl (by decide) (by decide) (Nat.le_of_ble_eq_true rfl) (by omega) (by omega) (fun E2 L1 hx2 => ?_) (fun v2 L1 hp2 => ?_)
  · skip
    obtain ⟨rfl, hx2⟩ := hx2
    obtain ⟨rfl, hx2⟩ := hx2
    exact absurd (by rw [hv, inR_k (by have := get_lt2 hr; omega)]; simpa using get_lt2 hr) hx2
  obtain ⟨i2, a2, r2, rfl, rfl, hv_2, ha_2, hr_2⟩ := hp2
  refine (show Go g κ 5 [some (.ref x), some (.int v), none, none, none] [.ref a2] [v0, v2, v3, v4, v5, v6, v7, [(x, .inr (0, [.ref b, .ref lp, .ref lk, .ref lr, .ref lt, .ref ls, .ref lm, .ref so, .int (nI (zBn C))]))], v1] ((200 + 13 * (TA - PhS (zSs C))) - 1) ((1200 + 55 * (TA - PhS (zSs C)) + 8 * (capF ((zBx C).length + 1) - capF (zBx C).length)) - 6) from ?_)
  have hil := get_lt2 hr
  have hil2 := get_lt2 hr_2
  have hie : i = i2 := (nI_eq (by omega) (by omega)).mp (hv.symm.trans hv_2)
  subst hie
  have hre : r = r2 := Option.some.inj (hr.symm.trans hr_2)
  subst hre
  subst hv
  obtain ⟨kc1, kc2, kc3, kc4, kc5, kc6, kc7⟩ := (show capB pcap kcap rcap tcap scap mcap socap from hcap)
  obtain ⟨hli_1, hln_1, hel_1⟩ := PersL.at (Sub.self hv1)
  have hE_2 := hel_1 _ _ _ ha_2 hr
  have hPB := pLf_b (hE_2)
  obtain ⟨hp0, hp1, hp2, hp3, hp4, hp5, hp6, hp7, hp8⟩ := hPB
  obtain ⟨hno_i, hpk_i, hhl_i, hev_i⟩ := hc11 _ _ hr
  have heb := hp4 _ he
  refine (show Go g κ 5 [some (.ref x), some (.int (nI i)), none, none, none] [.ref a2] [v0, v2, v3, v4, v5, v6, v7, [(x, .inr (0, [.ref b, .ref lp, .ref lk, .ref lr, .ref lt, .ref ls, .ref lm, .ref so, .int (nI (zBn C))]))], v1] ((200 + 13 * (TA - PhS (zSs C))) - 1) ((1200 + 55 * (TA - PhS (zSs C)) + 8 * (capF ((zBx C).length + 1) - capF (zBx C).length)) - 6) from ?_)
  refine g_astore_n (q := 6) (lv2 := [some (.ref x), some (.int (nI i)), some (.ref a2), none, none]) B dX1_send_5 rfl (Nat.le_of_ble_eq_true rfl) (rv_r _) rfl ?_
  refine g_aload_n (q := 7) B dX1_send_6 rfl rfl (rv_r _) ?_
  refine g_callV (q := 10) (is := [8]) (kc2 := (200 + 13 * (TA - PhS (zSs C))) - 1) (ks2 := (1200 + 55 * (TA - PhS (zSs C)) + 8 * (capF ((zBx C).length + 1) - capF (zBx C).length)) - 6) B [] (ct_X4_isIn_s g J (a := a2) (x := x) (pks := pks) (r := r) (W0 := v1)  (hE_2)) dX1_send_7 rfl (rc_in B (ci := 2) rfl (k := 8) rfl (Sub.hm (hE_2) fun _ z => PersP.hm z)) rfl q1211 q1207 q1208 q90 q1209 rfl rfl moX4_isIn rfl rfl (by decide) (by decide) (Nat.le_of_ble_eq_true rfl) (by omega) (by omega) (fun _ _ hx => noX_x hx) (fun v7 L1 hp7 => ?_)
  obtain ⟨rfl, rfl⟩ := hp7
  refine (show Go g κ 10 [some (.ref x), some (.int (nI i)), some (.ref a2), none, none] [.int (nI (if ¬ pEp r = none then 1 else 0))] [v0, v2, v3, v4, v5, v6, v7, [(x, .inr (0, [.ref b, .ref lp, .ref lk, .ref lr, .ref lt, .ref ls, .ref lm, .ref so, .int (nI (zBn C))]))], v1] ((200 + 13 * (TA - PhS (zSs C))) - 1) ((1200 + 55 * (TA - PhS (zSs C)) + 8 * (capF ((zBx C).length + 1) - capF (zBx C).length)) - 6) from ?_)
  refine g_callS (q := 13) (is := []) (kc2 := (200 + 13 * (TA - PhS (zSs C))) - 2) (ks2 := (1200 + 55 * (TA - PhS (zSs C)) + 8 * (capF ((zBx C).length + 1) - capF (zBx C).length)) - 12) B [.int (nI (if ¬ pEp r = none then 1 else 0))] (ct_X1_can g J (c := ¬ pEp r = none) (dc := _)  ) dX1_send_10 rfl q2331 q2332 q77 q2333 rfl rfl moX1_can rfl rfl (by decide) (by decide) (Nat.le_of_ble_eq_true rfl) (by omega) (by omega) (fun E10 L1 hx10 => ?_) (fun v10 L1 hp10 => ?_)
  · skip
    obtain ⟨rfl, hx10⟩ := hx10
    obtain ⟨rfl, hx10⟩ := hx10
    exact absurd (by rw [he]; simp) hx10
  obtain ⟨rfl, rfl, ht_10⟩ := hp10
  refine (show Go g κ 13 [some (.ref x), some (.int (nI i)), some (.ref a2), none, none] [] [v0, v2, v3, v4, v5, v6, v7, [(x, .inr (0, [.ref b, .ref lp, .ref lk, .ref lr, .ref lt, .ref ls, .ref lm, .ref so, .int (nI (zBn C))]))], v1] ((200 + 13 * (TA - PhS (zSs C))) - 2) ((1200 + 55 * (TA - PhS (zSs C)) + 8 * (capF ((zBx C).length + 1) - capF (zBx C).length)) - 12) from ?_)
  refine g_aload_n (q := 14) B dX1_send_13 rfl rfl (rv_r _) ?_
  refine g_get (q := 17) B (ci := 0) (k := 7) (j := 6) in_X1 rfl dX1_send_14 rfl rfl (Nat.le_of_ble_eq_true rfl) q284 rfl rfl ?_
  obtain ⟨ps_3, md_3, hli_3, hln_3, hel_3⟩ := LhP.at (Sub.self hv6)
  refine g_callF (q := 22) (is := [5]) (kc2 := (200 + 13 * (TA - PhS (zSs C))) - 2) (ks2 := (1200 + 55 * (TA - PhS (zSs C)) + 8 * (capF ((zBx C).length + 1) - capF (zBx C).length)) - 12) B [] (ct_J2_size_s g J (p := lm) (xs := ps_3) (md := md_3) (cap := mcap) (W0 := v6)  (hli_3)) dX1_send_17 rfl (ci := 21) rfl (rc_in B (ci := 21) rfl (k := 5) rfl (LhP.hm hv6)) q315 q319 q321 q81 q323 q317 q316 q322 q320 q318 rfl rfl mojava_util_List_size___I rfl rfl (by decide) (by decide) (Nat.le_of_ble_eq_true rfl) (by omega) (by omega) (fun _ _ hx => noX_x hx) (fun v17 L1 hp17 => ?_)
  obtain ⟨rfl, rfl⟩ := hp17
  refine (show Go g κ 22 [some (.ref x), some (.int (nI i)), some (.ref a2), none, none] [.int (nI ps_3.length)] [v0, v2, v3, v4, v5, v7, [(x, .inr (0, [.ref b, .ref lp, .ref lk, .ref lr, .ref lt, .ref ls, .ref lm, .ref so, .int (nI (zBn C))]))], v1, v6] ((200 + 13 * (TA - PhS (zSs C))) - 2) ((1200 + 55 * (TA - PhS (zSs C)) + 8 * (capF ((zBx C).length + 1) - capF (zBx C).length)) - 12) from ?_)
  rw [hln_3.1]
  refine (show Go g κ 22 [some (.ref x), some (.int (nI i)), some (.ref a2), none, none] [.int (nI ((zMs C).length))] [v0, v2, v3, v4, v5, v7, [(x, .inr (0, [.ref b, .ref lp, .ref lk, .ref lr, .ref lt, .ref ls, .ref lm, .ref so, .int (nI (zBn C))]))], v1, v6] ((200 + 13 * (TA - PhS (zSs C))) - 2) ((1200 + 55 * (TA - PhS (zSs C)) + 8 * (capF ((zBx C).length + 1) - capF (zBx C).length)) - 12) from ?_)
  refine g_bipush (v := nI 40) (q := 24) B dX1_send_22 rfl (by decide) ?_
  refine g_icmp_ge (tgt := 31) (q := 27) B dX1_send_24 rfl (by decide) (nI_leI (by omega) (by omega)) (fun c24 => ?_) (fun c24 => ?_)
  · skip
    exact absurd hms (by omega)
  · skip
    refine g_iconst (v := nI 1) (q := 28) B dX1_send_27 rfl (by decide) ?_
    refine g_goto (tgt := 32) B dX1_send_28 (by decide) ?_
    refine g_callS (q := 35) (is := []) (kc2 := (200 + 13 * (TA - PhS (zSs C))) - 3) (ks2 := (1200 + 55 * (TA - PhS (zSs C)) + 8 * (capF ((zBx C).length + 1) - capF (zBx C).length)) - 18) B [.int (nI 1)] (ct_X1_ready g J (c := True) (dc := instDecidableTrue)  ) dX1_send_32 rfl q1839 q1840 q77 q1841 rfl rfl moX1_ready rfl rfl (by decide) (by decide) (Nat.le_of_ble_eq_true rfl) (by omega) (by omega) (fun E32 L1 hx32 => ?_) (fun v32 L1 hp32 => ?_)
    · skip
      obtain ⟨rfl, hx32⟩ := hx32
      obtain ⟨rfl, hx32⟩ := hx32
      exact absurd trivial hx32
    obtain ⟨rfl, rfl, ht_32⟩ := hp32
    refine (show Go g κ 35 [some (.ref x), some (.int (nI i)), some (.ref a2), none, none] [] [v0, v2, v3, v4, v5, v7, [(x, .inr (0, [.ref b, .ref lp, .ref lk, .ref lr, .ref lt, .ref ls, .ref lm, .ref so, .int (nI (zBn C))]))], v1, v6] ((200 + 13 * (TA - PhS (zSs C))) - 3) ((1200 + 55 * (TA - PhS (zSs C)) + 8 * (capF ((zBx C).length + 1) - capF (zBx C).length)) - 18) from ?_)
    obtain ⟨pu1_p, pwi_p, pu2_p, hpwi_p, hpcl_p, hpe_p⟩ := PersL.opn hv1 ha_2 hr
    refine g_open 7 rfl hpe_p rfl ?_
    refine (show Go g κ 35 [some (.ref x), some (.int (nI i)), some (.ref a2), none, none] [] [v0, v2, v3, v4, v5, v7, [(x, .inr (0, [.ref b, .ref lp, .ref lk, .ref lr, .ref lt, .ref ls, .ref lm, .ref so, .int (nI (zBn C))]))], v6, pu1_p, pwi_p, pu2_p] ((200 + 13 * (TA - PhS (zSs C))) - 3) ((1200 + 55 * (TA - PhS (zSs C)) + 8 * (capF ((zBx C).length + 1) - capF (zBx C).length)) - 18) from ?_)
    obtain ⟨ev_p, pl_p, nd_p, ch_p, ecap_p, pcap_p, nn_p, nc_p, plc_p, md_p, v0_p, v1_p, v2_p, v3_p, hP_p, hpl_p, hec_p, hpc_p, hv0_p, hv1_p, hv2_p, hv3_p, rfl⟩ := hpwi_p
    refine g_open 9 rfl rfl rfl ?_
    refine (show Go g κ 35 [some (.ref x), some (.int (nI i)), some (.ref a2), none, none] [] [v0, v2, v3, v4, v5, v7, [(x, .inr (0, [.ref b, .ref lp, .ref lk, .ref lr, .ref lt, .ref ls, .ref lm, .ref so, .int (nI (zBn C))]))], v6, pu1_p, pu2_p, [(a2, .inr (2, [.int (nI (pNo r)), .ref ev_p, .ref pl_p, .int (oI (pEp r)), .int (nI (pLf r)), .ref nd_p, .int (nI (pOn r)), .int (nI (pKy r)), .ref ch_p, .int (oI (pRn r)), .ref x]))], v0_p, v1_p, v2_p, v3_p] ((200 + 13 * (TA - PhS (zSs C))) - 3) ((1200 + 55 * (TA - PhS (zSs C)) + 8 * (capF ((zBx C).length + 1) - capF (zBx C).length)) - 18) from ?_)
    obtain ⟨f_c, mm_c, wm_c, wb_c, hm_c, ho_c, hb_c, he_c⟩ := hv3_p
    refine g_open 14 rfl he_c rfl ?_
    refine (show Go g κ 35 [some (.ref x), some (.int (nI i)), some (.ref a2), none, none] [] [v0, v2, v3, v4, v5, v7, [(x, .inr (0, [.ref b, .ref lp, .ref lk, .ref lr, .ref lt, .ref ls, .ref lm, .ref so, .int (nI (zBn C))]))], v6, pu1_p, pu2_p, [(a2, .inr (2, [.int (nI (pNo r)), .ref ev_p, .ref pl_p, .int (oI (pEp r)), .int (nI (pLf r)), .ref nd_p, .int (nI (pOn r)), .int (nI (pKy r)), .ref ch_p, .int (oI (pRn r)), .ref x]))], v0_p, v1_p, v2_p, wm_c, wb_c] ((200 + 13 * (TA - PhS (zSs C))) - 3) ((1200 + 55 * (TA - PhS (zSs C)) + 8 * (capF ((zBx C).length + 1) - capF (zBx C).length)) - 18) from ?_)
    obtain ⟨ac, hac⟩ : ∃ a, f_c (pLf r) = some a := by
      cases ha9 : f_c (pLf r) with
      | none => have z := (MoE.iffB hb_c ho_c (pLf r)).mp ha9; rw [hch] at z; cases z
      | some a => exact ⟨a, rfl⟩
    obtain ⟨rc9, y1, y2, y3, hrc9, hcc9, hcl9, -, hye⟩ := BgM.opn hb_c ho_c hac
    have hre9 : c = rc9 := Option.some.inj (hch.symm.trans hrc9)
    subst hre9
    refine g_open 15 rfl hye rfl ?_
    refine (show Go g κ 35 [some (.ref x), some (.int (nI i)), some (.ref a2), none, none] [] [v0, v2, v3, v4, v5, v7, [(x, .inr (0, [.ref b, .ref lp, .ref lk, .ref lr, .ref lt, .ref ls, .ref lm, .ref so, .int (nI (zBn C))]))], v6, pu1_p, pu2_p, [(a2, .inr (2, [.int (nI (pNo r)), .ref ev_p, .ref pl_p, .int (oI (pEp r)), .int (nI (pLf r)), .ref nd_p, .int (nI (pOn r)), .int (nI (pKy r)), .ref ch_p, .int (oI (pRn r)), .ref x]))], v0_p, v1_p, v2_p, wm_c, y1, y2, y3] ((200 + 13 * (TA - PhS (zSs C))) - 3) ((1200 + 55 * (TA - PhS (zSs C)) + 8 * (capF ((zBx C).length + 1) - capF (zBx C).length)) - 18) from ?_)
    have hd1 := Ph_d2 (zSs C) (zZz C)
    have hsl1 : (zSs C ++ [drw (zZz C)]).length = (zSs C).length + 1 := by simp
    have hg1 := Ph_fr hq1
    have hg2 := Ph_fr hq2
    have hcb := hhl_i c.1 (Or.inr (Or.inr (Or.inl ⟨by rw [he]; simp, Or.inr (Or.inr ⟨_, c, hch, Or.inl rfl⟩)⟩)))
    have hCB := (hp7 _ _ hch).2
    have hbcap := capF_m (show (zBx C).length ≤ (zBx C).length + 1 by omega)
    refine g_aload_n (q := 36) B dX1_send_35 rfl rfl (rv_r _) ?_
    refine g_getN (q := 39) B (ci := 2) (k := 10) (j := 8) in_X4 rfl dX1_send_36 rfl rfl (Nat.le_of_ble_eq_true rfl) q1911 rfl rfl ?_
    refine g_aload_n (q := 40) B dX1_send_39 rfl rfl (rv_r _) ?_
    refine g_getN (q := 43) B (ci := 2) (k := 10) (j := 4) in_X4 rfl dX1_send_40 rfl rfl (Nat.le_of_ble_eq_true rfl) q1903 rfl rfl ?_
    refine g_callS (q := 46) (is := []) (kc2 := (200 + 13 * (TA - PhS (zSs C))) - 3) (ks2 := (1200 + 55 * (TA - PhS (zSs C)) + 8 * (capF ((zBx C).length + 1) - capF (zBx C).length)) - 18) B [.int (nI (pLf r))] (ct_J26_valueOf_k g J (k := pLf r)  (by omega)) dX1_send_43 rfl q685 q686 q111 q687 rfl rfl moJ26_valueOf rfl rfl (by decide) (by decide) (Nat.le_of_ble_eq_true rfl) (by omega) (by omega) (fun _ _ hx => noX_x hx) (fun v43 L1 hp43 => ?_)
    obtain ⟨rfl, rfl⟩ := hp43
    refine (show Go g κ 46 [some (.ref x), some (.int (nI i)), some (.ref a2), none, none] [.ref (kI g (pLf r)), .ref ch_p] [v0, v2, v3, v4, v5, v7, [(x, .inr (0, [.ref b, .ref lp, .ref lk, .ref lr, .ref lt, .ref ls, .ref lm, .ref so, .int (nI (zBn C))]))], v6, pu1_p, pu2_p, [(a2, .inr (2, [.int (nI (pNo r)), .ref ev_p, .ref pl_p, .int (oI (pEp r)), .int (nI (pLf r)), .ref nd_p, .int (nI (pOn r)), .int (nI (pKy r)), .ref ch_p, .int (oI (pRn r)), .ref x]))], v0_p, v1_p, v2_p, wm_c, y1, y2, y3] ((200 + 13 * (TA - PhS (zSs C))) - 3) ((1200 + 55 * (TA - PhS (zSs C)) + 8 * (capF ((zBx C).length + 1) - capF (zBx C).length)) - 18) from ?_)
    refine g_callV (q := 49) (is := [14]) (kc2 := (200 + 13 * (TA - PhS (zSs C))) - 3) (ks2 := (1200 + 55 * (TA - PhS (zSs C)) + 8 * (capF ((zBx C).length + 1) - capF (zBx C).length)) - 18) B [.ref (kI g (pLf r))] (ct_J10_get g J (t := ch_p) (f := f_c) (n := nc_p) (md := mm_c) (k := pLf r) hm_c (by omega)) dX1_send_46 rfl (rc_in B (ci := 27) rfl (k := 14) rfl (MapP.hm hm_c)) rfl q1825 q1826 q1827 q91 q1828 rfl rfl moJ10_get rfl rfl (by decide) (by decide) (Nat.le_of_ble_eq_true rfl) (by omega) (by omega) (fun _ _ hx => noX_x hx) (fun v46 L1 hp46 => ?_)
    obtain ⟨u0_46, rfl, rfl, hu0_46⟩ := hp46
    rw [(show f_c (pLf r) = some ac from hac)]
    refine (show Go g κ 49 [some (.ref x), some (.int (nI i)), some (.ref a2), none, none] [.ref ac] [v0, v2, v3, v4, v5, v7, [(x, .inr (0, [.ref b, .ref lp, .ref lk, .ref lr, .ref lt, .ref ls, .ref lm, .ref so, .int (nI (zBn C))]))], v6, pu1_p, pu2_p, [(a2, .inr (2, [.int (nI (pNo r)), .ref ev_p, .ref pl_p, .int (oI (pEp r)), .int (nI (pLf r)), .ref nd_p, .int (nI (pOn r)), .int (nI (pKy r)), .ref ch_p, .int (oI (pRn r)), .ref x]))], v0_p, v1_p, v2_p, y1, y2, y3, u0_46] ((200 + 13 * (TA - PhS (zSs C))) - 3) ((1200 + 55 * (TA - PhS (zSs C)) + 8 * (capF ((zBx C).length + 1) - capF (zBx C).length)) - 18) from ?_)
    refine g_castRS (ci := 7) (q := 52) B rfl (rc_in B (ci := 7) rfl (k := 15) rfl (ChnP.hm hcc9)) dX1_send_49 rfl q2867 ?_
    refine g_astore_n (q := 53) (lv2 := [some (.ref x), some (.int (nI i)), some (.ref a2), some (.ref ac), none]) B dX1_send_52 rfl (Nat.le_of_ble_eq_true rfl) (rv_r _) rfl ?_
    obtain ⟨lf_k, nl_k, v0_k, hC_k, hv0_k, rfl⟩ := hcc9
    refine g_open 15 rfl rfl rfl ?_
    refine (show Go g κ 53 [some (.ref x), some (.int (nI i)), some (.ref a2), some (.ref ac), none] [] [v0, v2, v3, v4, v5, v7, [(x, .inr (0, [.ref b, .ref lp, .ref lk, .ref lr, .ref lt, .ref ls, .ref lm, .ref so, .int (nI (zBn C))]))], v6, pu1_p, pu2_p, [(a2, .inr (2, [.int (nI (pNo r)), .ref ev_p, .ref pl_p, .int (oI (pEp r)), .int (nI (pLf r)), .ref nd_p, .int (nI (pOn r)), .int (nI (pKy r)), .ref ch_p, .int (oI (pRn r)), .ref x]))], v0_p, v1_p, v2_p, y1, y3, u0_46, [(ac, .inr (7, [.int (nI c.1), .int (nI c.2.1), .ref lf_k]))], v0_k] ((200 + 13 * (TA - PhS (zSs C))) - 3) ((1200 + 55 * (TA - PhS (zSs C)) + 8 * (capF ((zBx C).length + 1) - capF (zBx C).length)) - 18) from ?_)
    refine g_aload_n (q := 54) B dX1_send_53 rfl rfl (rv_r _) ?_
    refine g_get (q := 57) B (ci := 0) (k := 6) (j := 0) in_X1 rfl dX1_send_54 rfl rfl (Nat.le_of_ble_eq_true rfl) q277 rfl rfl ?_
    refine g_callV (q := 60) (is := [0]) (kc2 := 190 + 13 * (TA - PhS (zSs C ++ [drw (zZz C)]))) (ks2 := 1175 + 55 * (TA - PhS (zSs C ++ [drw (zZz C)])) + 8 * (capF ((zBx C).length + 1) - capF (zBx C).length)) B [] (ct_X2_draw_p g J (b := b) (ss := (zSs C)) (bx := (zBx C)) (z := (zZz C)) hv0 (by omega)) dX1_send_57 rfl (rc_in B (ci := 1) rfl (k := 0) rfl (BookP.hm hv0)) rfl q1976 q1977 q1978 q78 q1979 rfl rfl moX2_draw rfl rfl (by decide) (by decide) (Nat.le_of_ble_eq_true rfl) (by omega) (by omega) (fun _ _ hx => noX_x hx) (fun v57 L1 hp57 => ?_)
    obtain ⟨u0_57, rfl, rfl, hu0_57, hph_57⟩ := hp57
    refine (show Go g κ 60 [some (.ref x), some (.int (nI i)), some (.ref a2), some (.ref ac), none] [.int (nI ((zSs C).length))] [v2, v3, v4, v5, v7, [(x, .inr (0, [.ref b, .ref lp, .ref lk, .ref lr, .ref lt, .ref ls, .ref lm, .ref so, .int (nI (zBn C))]))], v6, pu1_p, pu2_p, [(a2, .inr (2, [.int (nI (pNo r)), .ref ev_p, .ref pl_p, .int (oI (pEp r)), .int (nI (pLf r)), .ref nd_p, .int (nI (pOn r)), .int (nI (pKy r)), .ref ch_p, .int (oI (pRn r)), .ref x]))], v0_p, v1_p, v2_p, y1, y3, u0_46, [(ac, .inr (7, [.int (nI c.1), .int (nI c.2.1), .ref lf_k]))], v0_k, u0_57] (190 + 13 * (TA - PhS (zSs C ++ [drw (zZz C)]))) (1175 + 55 * (TA - PhS (zSs C ++ [drw (zZz C)])) + 8 * (capF ((zBx C).length + 1) - capF (zBx C).length)) from ?_)
    refine g_istore (q := 62) (lv2 := [some (.ref x), some (.int (nI i)), some (.ref a2), some (.ref ac), some (.int (nI ((zSs C).length)))]) B dX1_send_60 rfl (Nat.le_of_ble_eq_true rfl) rfl ?_
    refine g_aload_n (q := 63) B dX1_send_62 rfl rfl (rv_r _) ?_
    refine g_get (q := 66) B (ci := 0) (k := 5) (j := 0) in_X1 rfl dX1_send_63 rfl rfl (Nat.le_of_ble_eq_true rfl) q277 rfl rfl ?_
    refine g_aload_n (q := 67) B dX1_send_66 rfl rfl (rv_r _) ?_
    refine g_get (q := 70) B (ci := 0) (k := 5) (j := 0) in_X1 rfl dX1_send_67 rfl rfl (Nat.le_of_ble_eq_true rfl) q277 rfl rfl ?_
    refine g_aload_n (q := 71) B dX1_send_70 rfl rfl (rv_r _) ?_
    refine g_getN (q := 74) B (ci := 7) (k := 16) (j := 0) in_X12 rfl dX1_send_71 rfl rfl (Nat.le_of_ble_eq_true rfl) q2191 rfl rfl ?_
    refine g_bipush (v := nI 7) (q := 76) B dX1_send_74 rfl (by decide) ?_
    refine g_callV (q := 79) (is := [18]) (kc2 := 150 + 13 * (TA - PhS q1)) (ks2 := 1000 + 55 * (TA - PhS q1) + 8 * (capF ((zBx C).length + 1) - capF (zBx C).length)) B [.int (nI c.1), .int (nI 7)] (ct_X2_from_p g J (b := b) (ss := (zSs C) ++ [drw (zZz C)]) (bx := (zBx C)) (z := (lcg (zZz C))) (one := c.1) (l := 7) (s2 := q1) (i := k1) hu0_57 (by omega) (by omega) (Or.inl (by decide)) (hq1)) dX1_send_76 rfl (rc_in B (ci := 1) rfl (k := 18) rfl (BookP.hm hu0_57)) rfl q1229 q1230 q1231 q78 q1232 rfl rfl moX2_from rfl rfl (by decide) (by decide) (Nat.le_of_ble_eq_true rfl) (by omega) (by omega) (fun _ _ hx => noX_x hx) (fun v76 L1 hp76 => ?_)
    obtain ⟨u0_76, rfl, rfl, hu0_76, hph_76⟩ := hp76
    refine (show Go g κ 79 [some (.ref x), some (.int (nI i)), some (.ref a2), some (.ref ac), some (.int (nI ((zSs C).length)))] [.int (nI k1), .ref b] [v2, v3, v4, v5, v7, [(x, .inr (0, [.ref b, .ref lp, .ref lk, .ref lr, .ref lt, .ref ls, .ref lm, .ref so, .int (nI (zBn C))]))], v6, pu1_p, pu2_p, [(a2, .inr (2, [.int (nI (pNo r)), .ref ev_p, .ref pl_p, .int (oI (pEp r)), .int (nI (pLf r)), .ref nd_p, .int (nI (pOn r)), .int (nI (pKy r)), .ref ch_p, .int (oI (pRn r)), .ref x]))], v0_p, v1_p, v2_p, y1, y3, u0_46, [(ac, .inr (7, [.int (nI c.1), .int (nI c.2.1), .ref lf_k]))], v0_k, u0_76] (150 + 13 * (TA - PhS q1)) (1000 + 55 * (TA - PhS q1) + 8 * (capF ((zBx C).length + 1) - capF (zBx C).length)) from ?_)
    refine g_iload (q := 81) B dX1_send_79 rfl rfl ?_
    refine g_callV (q := 84) (is := [18]) (kc2 := 140 + 13 * (TA - PhS q1)) (ks2 := 900 + 55 * (TA - PhS q1)) B [.int (nI k1), .int (nI ((zSs C).length))] (ct_X2_box g J (b := b) (ss := q1) (bx := (zBx C)) (z := (lcg (zZz C))) (o := k1) (c := (zSs C).length) hu0_76 (by omega) (by omega) (by omega)) dX1_send_81 rfl (rc_in B (ci := 1) rfl (k := 18) rfl (BookP.hm hu0_76)) rfl q2583 q2584 q2585 q78 q2586 rfl rfl moX2_box rfl rfl (by decide) (by decide) (Nat.le_of_ble_eq_true rfl) (by omega) (by omega) (fun _ _ hx => noX_x hx) (fun v81 L1 hp81 => ?_)
    obtain ⟨u0_81, rfl, rfl, hu0_81⟩ := hp81
    refine (show Go g κ 84 [some (.ref x), some (.int (nI i)), some (.ref a2), some (.ref ac), some (.int (nI ((zSs C).length)))] [] [v2, v3, v4, v5, v7, [(x, .inr (0, [.ref b, .ref lp, .ref lk, .ref lr, .ref lt, .ref ls, .ref lm, .ref so, .int (nI (zBn C))]))], v6, pu1_p, pu2_p, [(a2, .inr (2, [.int (nI (pNo r)), .ref ev_p, .ref pl_p, .int (oI (pEp r)), .int (nI (pLf r)), .ref nd_p, .int (nI (pOn r)), .int (nI (pKy r)), .ref ch_p, .int (oI (pRn r)), .ref x]))], v0_p, v1_p, v2_p, y1, y3, u0_46, [(ac, .inr (7, [.int (nI c.1), .int (nI c.2.1), .ref lf_k]))], v0_k, u0_81] (140 + 13 * (TA - PhS q1)) (900 + 55 * (TA - PhS q1)) from ?_)
    refine g_aload_n (q := 85) B dX1_send_84 rfl rfl (rv_r _) ?_
    refine g_get (q := 88) B (ci := 0) (k := 5) (j := 6) in_X1 rfl dX1_send_85 rfl rfl (Nat.le_of_ble_eq_true rfl) q284 rfl rfl ?_
    refine g_new (q := 91) (kc2 := (140 + 13 * (TA - PhS q1)) - 1) (ks2 := (900 + 55 * (TA - PhS q1)) - 4) (fs := [.int (nI 0), .int (nI 0), .int (nI 0), .int (nI 0)]) B (ci := 11) in_X21 tyX21_ok rfl dX1_send_88 rfl q2868 q2869 q147 (nwX21) (by omega) (by omega) (fun n88 => ?_)
    refine (show Go g κ 91 [some (.ref x), some (.int (nI i)), some (.ref a2), some (.ref ac), some (.int (nI ((zSs C).length)))] [.ref n88, .ref lm] [v2, v3, v4, v5, v7, [(x, .inr (0, [.ref b, .ref lp, .ref lk, .ref lr, .ref lt, .ref ls, .ref lm, .ref so, .int (nI (zBn C))]))], v6, pu1_p, pu2_p, [(a2, .inr (2, [.int (nI (pNo r)), .ref ev_p, .ref pl_p, .int (oI (pEp r)), .int (nI (pLf r)), .ref nd_p, .int (nI (pOn r)), .int (nI (pKy r)), .ref ch_p, .int (oI (pRn r)), .ref x]))], v0_p, v1_p, v2_p, y1, y3, u0_46, [(ac, .inr (7, [.int (nI c.1), .int (nI c.2.1), .ref lf_k]))], v0_k, u0_81, [(n88, .inr (11, [.int (nI 0), .int (nI 0), .int (nI 0), .int (nI 0)]))]] ((140 + 13 * (TA - PhS q1)) - 1) ((900 + 55 * (TA - PhS q1)) - 4) from ?_)
    refine g_dup (q := 92) B dX1_send_91 rfl rfl ?_
    refine g_aload_n (q := 93) B dX1_send_92 rfl rfl (rv_r _) ?_
    refine g_getN (q := 96) B (ci := 2) (k := 9) (j := 3) in_X4 rfl dX1_send_93 rfl rfl (Nat.le_of_ble_eq_true rfl) q1901 rfl rfl ?_
    refine g_stk (y := .int (nI e)) (by rw [he]; rfl) ?_
    refine g_aload_n (q := 97) B dX1_send_96 rfl rfl (rv_r _) ?_
    refine g_getN (q := 100) B (ci := 2) (k := 9) (j := 4) in_X4 rfl dX1_send_97 rfl rfl (Nat.le_of_ble_eq_true rfl) q1903 rfl rfl ?_
    refine g_aload_n (q := 101) B dX1_send_100 rfl rfl (rv_r _) ?_
    refine g_getN (q := 104) B (ci := 7) (k := 16) (j := 1) in_X12 rfl dX1_send_101 rfl rfl (Nat.le_of_ble_eq_true rfl) q2192 rfl rfl ?_
    refine g_iload (q := 106) B dX1_send_104 rfl rfl ?_
    refine g_callI (q := 109) (is := [19]) (kc2 := (140 + 13 * (TA - PhS q1)) - 1) (ks2 := (900 + 55 * (TA - PhS q1)) - 4) B [.int (nI e), .int (nI (pLf r)), .int (nI c.2.1), .int (nI ((zSs C).length))] (ct_X21_init g J (a := n88) (e := e) (l := pLf r) (p := c.2.1) (x := (zSs C).length)  ) dX1_send_106 rfl rfl q2870 q2871 q147 q2872 rfl rfl moX21_init rfl rfl (by decide) (by decide) (Nat.le_of_ble_eq_true rfl) (by omega) (by omega) (fun _ _ hx => noX_x hx) (fun v106 L1 hp106 => ?_)
    obtain ⟨u0_106, rfl, rfl, hu0_106⟩ := hp106
    refine (show Go g κ 109 [some (.ref x), some (.int (nI i)), some (.ref a2), some (.ref ac), some (.int (nI ((zSs C).length)))] [.ref n88, .ref lm] [v2, v3, v4, v5, v7, [(x, .inr (0, [.ref b, .ref lp, .ref lk, .ref lr, .ref lt, .ref ls, .ref lm, .ref so, .int (nI (zBn C))]))], v6, pu1_p, pu2_p, [(a2, .inr (2, [.int (nI (pNo r)), .ref ev_p, .ref pl_p, .int (oI (pEp r)), .int (nI (pLf r)), .ref nd_p, .int (nI (pOn r)), .int (nI (pKy r)), .ref ch_p, .int (oI (pRn r)), .ref x]))], v0_p, v1_p, v2_p, y1, y3, u0_46, [(ac, .inr (7, [.int (nI c.1), .int (nI c.2.1), .ref lf_k]))], v0_k, u0_81, u0_106] ((140 + 13 * (TA - PhS q1)) - 1) ((900 + 55 * (TA - PhS q1)) - 4) from ?_)
    refine g_callF (q := 114) (is := [6, 18]) (kc2 := (140 + 13 * (TA - PhS q1)) - 2) (ks2 := (900 + 55 * (TA - PhS q1)) - 64) B [.ref n88] (ct_add_MsgL g J (p := lm) (rs := (zMs C)) (cap := mcap) (a := n88) (r := ((e, (pLf r), c.2.1, ((zSs C).length)) : MsS)) (mc := 1) (ms := 60) hv6 hu0_106 (by omega) (fun h => grow_s (by omega) h)) dX1_send_109 rfl (ci := 21) rfl (rc_in B (ci := 21) rfl (k := 6) rfl (LhP.hm hv6)) q706 q709 q711 q81 q713 q708 q707 q712 q710 q318 rfl rfl mojava_util_List_add__Ljava_lang_Object__Z rfl rfl (by decide) (by decide) (Nat.le_of_ble_eq_true rfl) (by omega) (by omega) (fun _ _ hx => noX_x hx) (fun v109 L1 hp109 => ?_)
    obtain ⟨u0_109, rfl, rfl, hu0_109⟩ := hp109
    refine (show Go g κ 114 [some (.ref x), some (.int (nI i)), some (.ref a2), some (.ref ac), some (.int (nI ((zSs C).length)))] [.int (nI 1)] [v2, v3, v4, v5, v7, [(x, .inr (0, [.ref b, .ref lp, .ref lk, .ref lr, .ref lt, .ref ls, .ref lm, .ref so, .int (nI (zBn C))]))], pu1_p, pu2_p, [(a2, .inr (2, [.int (nI (pNo r)), .ref ev_p, .ref pl_p, .int (oI (pEp r)), .int (nI (pLf r)), .ref nd_p, .int (nI (pOn r)), .int (nI (pKy r)), .ref ch_p, .int (oI (pRn r)), .ref x]))], v0_p, v1_p, v2_p, y1, y3, u0_46, [(ac, .inr (7, [.int (nI c.1), .int (nI c.2.1), .ref lf_k]))], v0_k, u0_81, u0_109] ((140 + 13 * (TA - PhS q1)) - 2) ((900 + 55 * (TA - PhS q1)) - 64) from ?_)
    refine g_pop (q := 115) B dX1_send_114 rfl rfl ?_
    refine g_aload_n (q := 116) B dX1_send_115 rfl rfl (rv_r _) ?_
    refine g_aload_n (q := 117) B dX1_send_116 rfl rfl (rv_r _) ?_
    refine g_get (q := 120) B (ci := 0) (k := 5) (j := 0) in_X1 rfl dX1_send_117 rfl rfl (Nat.le_of_ble_eq_true rfl) q277 rfl rfl ?_
    refine g_aload_n (q := 121) B dX1_send_120 rfl rfl (rv_r _) ?_
    refine g_getN (q := 124) B (ci := 7) (k := 15) (j := 0) in_X12 rfl dX1_send_121 rfl rfl (Nat.le_of_ble_eq_true rfl) q2191 rfl rfl ?_
    refine g_bipush (v := nI 8) (q := 126) B dX1_send_124 rfl (by decide) ?_
    refine g_callV (q := 129) (is := [17]) (kc2 := 90) (ks2 := 400) B [.int (nI c.1), .int (nI 8)] (ct_X2_from_p g J (b := b) (ss := q1) (bx := (zBx C) ++ [(k1, ((zSs C).length))]) (z := (lcg (zZz C))) (one := c.1) (l := 8) (s2 := q2) (i := k2) hu0_81 (by omega) (by omega) (Or.inl (by decide)) (hq2)) dX1_send_126 rfl (rc_in B (ci := 1) rfl (k := 17) rfl (BookP.hm hu0_81)) rfl q1229 q1230 q1231 q78 q1232 rfl rfl moX2_from rfl rfl (by decide) (by decide) (Nat.le_of_ble_eq_true rfl) (by omega) (by omega) (fun _ _ hx => noX_x hx) (fun v126 L1 hp126 => ?_)
    obtain ⟨u0_126, rfl, rfl, hu0_126, hph_126⟩ := hp126
    refine (show Go g κ 129 [some (.ref x), some (.int (nI i)), some (.ref a2), some (.ref ac), some (.int (nI ((zSs C).length)))] [.int (nI k2), .ref ac] [v2, v3, v4, v5, v7, [(x, .inr (0, [.ref b, .ref lp, .ref lk, .ref lr, .ref lt, .ref ls, .ref lm, .ref so, .int (nI (zBn C))]))], pu1_p, pu2_p, [(a2, .inr (2, [.int (nI (pNo r)), .ref ev_p, .ref pl_p, .int (oI (pEp r)), .int (nI (pLf r)), .ref nd_p, .int (nI (pOn r)), .int (nI (pKy r)), .ref ch_p, .int (oI (pRn r)), .ref x]))], v0_p, v1_p, v2_p, y1, y3, u0_46, [(ac, .inr (7, [.int (nI c.1), .int (nI c.2.1), .ref lf_k]))], v0_k, u0_109, u0_126] 90 400 from ?_)
    refine g_putN (q := 132) (L2 := [v2, v3, v4, v5, v7, [(x, .inr (0, [.ref b, .ref lp, .ref lk, .ref lr, .ref lt, .ref ls, .ref lm, .ref so, .int (nI (zBn C))]))], pu1_p, pu2_p, [(a2, .inr (2, [.int (nI (pNo r)), .ref ev_p, .ref pl_p, .int (oI (pEp r)), .int (nI (pLf r)), .ref nd_p, .int (nI (pOn r)), .int (nI (pKy r)), .ref ch_p, .int (oI (pRn r)), .ref x]))], v0_p, v1_p, v2_p, y1, y3, u0_46, [(ac, .inr (7, [.int (nI k2), .int (nI c.2.1), .ref lf_k]))], v0_k, u0_109, u0_126]) B (ci := 7) (k := 15) (j := 0) in_X12 tyX12 tyX12_ok nmX12 rfl dX1_send_129 rfl rfl (Nat.le_of_ble_eq_true rfl) q2191 rfl rfl rfl rfl (Nat.le_of_ble_eq_true rfl) rfl ?_
    refine g_aload_n (q := 133) B dX1_send_132 rfl rfl (rv_r _) ?_
    refine g_dup (q := 134) B dX1_send_133 rfl rfl ?_
    refine g_getN (q := 137) B (ci := 7) (k := 15) (j := 1) in_X12 rfl dX1_send_134 rfl rfl (Nat.le_of_ble_eq_true rfl) q2192 rfl rfl ?_
    refine g_iconst (v := nI 1) (q := 138) B dX1_send_137 rfl (by decide) ?_
    refine g_iadd (v := nI (c.2.1 + 1)) (q := 139) B dX1_send_138 rfl (nI_add _ _) ?_
    refine g_putN (q := 142) (L2 := [v2, v3, v4, v5, v7, [(x, .inr (0, [.ref b, .ref lp, .ref lk, .ref lr, .ref lt, .ref ls, .ref lm, .ref so, .int (nI (zBn C))]))], pu1_p, pu2_p, [(a2, .inr (2, [.int (nI (pNo r)), .ref ev_p, .ref pl_p, .int (oI (pEp r)), .int (nI (pLf r)), .ref nd_p, .int (nI (pOn r)), .int (nI (pKy r)), .ref ch_p, .int (oI (pRn r)), .ref x]))], v0_p, v1_p, v2_p, y1, y3, u0_46, [(ac, .inr (7, [.int (nI k2), .int (nI (c.2.1 + 1)), .ref lf_k]))], v0_k, u0_109, u0_126]) B (ci := 7) (k := 15) (j := 1) in_X12 tyX12 tyX12_ok nmX12 rfl dX1_send_139 rfl rfl (Nat.le_of_ble_eq_true rfl) q2192 rfl rfl rfl rfl (Nat.le_of_ble_eq_true rfl) rfl ?_
    obtain ⟨wc_4, ewc_4⟩ : ∃ w : va_W, w = ([[(ac, .inr (7, [.int (nI k2), .int (nI (c.2.1 + 1)), .ref lf_k]))], v0_k] : List va_W).flatten := ⟨_, rfl⟩
    have hwc_4 : ChnP g ac ((k2, c.2.1 + 1, c.2.2) : ChS) wc_4 := by
      rw [ewc_4]
      exact ⟨lf_k, nl_k, _, ⟨(show k2 < 1000 by omega), (show c.2.1 + 1 < 100 by omega), hC_k.2.2⟩, hv0_k, rfl⟩
    refine g_close (w := wc_4) [15, 15] rfl ewc_4 rfl ?_
    refine (show Go g κ 142 [some (.ref x), some (.int (nI i)), some (.ref a2), some (.ref ac), some (.int (nI ((zSs C).length)))] [] [v2, v3, v4, v5, v7, [(x, .inr (0, [.ref b, .ref lp, .ref lk, .ref lr, .ref lt, .ref ls, .ref lm, .ref so, .int (nI (zBn C))]))], pu1_p, pu2_p, [(a2, .inr (2, [.int (nI (pNo r)), .ref ev_p, .ref pl_p, .int (oI (pEp r)), .int (nI (pLf r)), .ref nd_p, .int (nI (pOn r)), .int (nI (pKy r)), .ref ch_p, .int (oI (pRn r)), .ref x]))], v0_p, v1_p, v2_p, y1, y3, u0_46, u0_109, u0_126, wc_4] 90 400 from ?_)
    obtain ⟨wc_5, ewc_5⟩ : ∃ w : va_W, w = ([y1, wc_4, y3] : List va_W).flatten := ⟨_, rfl⟩
    have hwc_5 : BgM (ChnP g) f_c (fup (pCh r) (pLf r) (some ((k2, c.2.1 + 1, c.2.2) : ChS))) wc_5 := by
      rw [ewc_5]
      exact hcl9 _ _ hwc_4
    refine g_close (w := wc_5) [12, 16, 12] rfl ewc_5 rfl ?_
    refine (show Go g κ 142 [some (.ref x), some (.int (nI i)), some (.ref a2), some (.ref ac), some (.int (nI ((zSs C).length)))] [] [v2, v3, v4, v5, v7, [(x, .inr (0, [.ref b, .ref lp, .ref lk, .ref lr, .ref lt, .ref ls, .ref lm, .ref so, .int (nI (zBn C))]))], pu1_p, pu2_p, [(a2, .inr (2, [.int (nI (pNo r)), .ref ev_p, .ref pl_p, .int (oI (pEp r)), .int (nI (pLf r)), .ref nd_p, .int (nI (pOn r)), .int (nI (pKy r)), .ref ch_p, .int (oI (pRn r)), .ref x]))], v0_p, v1_p, v2_p, u0_46, u0_109, u0_126, wc_5] 90 400 from ?_)
    have hoc9 : ∀ q, 128 ≤ q → f_c q = none ∧ fup (pCh r) (pLf r) (some ((k2, c.2.1 + 1, c.2.2) : ChS)) q = none := by
      intro q hq
      refine ⟨(ho_c q hq).1, ?_⟩
      rw [fup_n (by omega)]; exact (ho_c q hq).2
    obtain ⟨wc_6, ewc_6⟩ : ∃ w : va_W, w = ([u0_46, wc_5] : List va_W).flatten := ⟨_, rfl⟩
    have hwc_6 : MoP g (ChnP g) ch_p (fup (pCh r) (pLf r) (some ((k2, c.2.1 + 1, c.2.2) : ChS))) nc_p wc_6 := by
      rw [ewc_6]
      exact ⟨_, _, _, _, hu0_46, hoc9, hwc_5, rfl⟩
    refine g_close (w := wc_6) [12, 14] rfl ewc_6 rfl ?_
    refine (show Go g κ 142 [some (.ref x), some (.int (nI i)), some (.ref a2), some (.ref ac), some (.int (nI ((zSs C).length)))] [] [v2, v3, v4, v5, v7, [(x, .inr (0, [.ref b, .ref lp, .ref lk, .ref lr, .ref lt, .ref ls, .ref lm, .ref so, .int (nI (zBn C))]))], pu1_p, pu2_p, [(a2, .inr (2, [.int (nI (pNo r)), .ref ev_p, .ref pl_p, .int (oI (pEp r)), .int (nI (pLf r)), .ref nd_p, .int (nI (pOn r)), .int (nI (pKy r)), .ref ch_p, .int (oI (pRn r)), .ref x]))], v0_p, v1_p, v2_p, u0_109, u0_126, wc_6] 90 400 from ?_)
    obtain ⟨wc_7, ewc_7⟩ : ∃ w : va_W, w = ([[(a2, .inr (2, [.int (nI (pNo r)), .ref ev_p, .ref pl_p, .int (oI (pEp r)), .int (nI (pLf r)), .ref nd_p, .int (nI (pOn r)), .int (nI (pKy r)), .ref ch_p, .int (oI (pRn r)), .ref x]))], v0_p, v1_p, v2_p, wc_6] : List va_W).flatten := ⟨_, rfl⟩
    have hwc_7 : PersP g a2 x pks ((pNo r, pEv r, pPk r, pEp r, pLf r, pNd r, pOn r, pKy r, fup (pCh r) (pLf r) (some ((k2, c.2.1 + 1, c.2.2) : ChS)), pRn r) : PeS) wc_7 := by
      rw [ewc_7]
      exact ⟨ev_p, pl_p, nd_p, ch_p, ecap_p, pcap_p, nn_p, nc_p, plc_p, md_p, _, _, _, _, (by exact ⟨hp0, hp1, hp2, hp3, hp4, hp5, hp6, (fun j d h => by have h : fup (pCh r) (pLf r) (some ((k2, c.2.1 + 1, c.2.2) : ChS)) j = some d := h; unfold fup at h; split at h; (rename_i e9; cases h; rw [e9]; exact ⟨hp1, (show k2 < 1000 by omega), (show c.2.1 + 1 < 100 by omega), hCB.2.2⟩); exact hp7 j d h), hp8⟩), hpl_p, hec_p, hpc_p, hv0_p, hv1_p, hv2_p, hwc_6, rfl⟩
    refine g_close (w := wc_7) [8, 8, 8, 8, 10] rfl ewc_7 rfl ?_
    refine (show Go g κ 142 [some (.ref x), some (.int (nI i)), some (.ref a2), some (.ref ac), some (.int (nI ((zSs C).length)))] [] [v2, v3, v4, v5, v7, [(x, .inr (0, [.ref b, .ref lp, .ref lk, .ref lr, .ref lt, .ref ls, .ref lm, .ref so, .int (nI (zBn C))]))], pu1_p, pu2_p, u0_109, u0_126, wc_7] 90 400 from ?_)
    obtain ⟨wc_8, ewc_8⟩ : ∃ w : va_W, w = ([pu1_p, wc_7, pu2_p] : List va_W).flatten := ⟨_, rfl⟩
    have hwc_8 : PersL g lp ps ((zPs C).set i ((pNo r, pEv r, pPk r, pEp r, pLf r, pNd r, pOn r, pKy r, fup (pCh r) (pLf r) (some ((k2, c.2.1 + 1, c.2.2) : ChS)), pRn r) : PeS)) pcap x pks pmd wc_8 := by
      rw [ewc_8]
      exact hpcl_p _ _ hwc_7
    refine g_close (w := wc_8) [6, 9, 6] rfl ewc_8 rfl ?_
    refine (show Go g κ 142 [some (.ref x), some (.int (nI i)), some (.ref a2), some (.ref ac), some (.int (nI ((zSs C).length)))] [] [v2, v3, v4, v5, v7, [(x, .inr (0, [.ref b, .ref lp, .ref lk, .ref lr, .ref lt, .ref ls, .ref lm, .ref so, .int (nI (zBn C))]))], u0_109, u0_126, wc_8] 90 400 from ?_)
    have hr3 : ((zPs C).set i ((pNo r, pEv r, pPk r, pEp r, pLf r, pNd r, pOn r, pKy r, fup (pCh r) (pLf r) (some ((k2, c.2.1 + 1, c.2.2) : ChS)), pRn r) : PeS))[i]? = some ((pNo r, pEv r, pPk r, pEp r, pLf r, pNd r, pOn r, pKy r, fup (pCh r) (pLf r) (some ((k2, c.2.1 + 1, c.2.2) : ChS)), pRn r) : PeS) := set_at hr
    obtain ⟨hli_9, hln_9, hel_9⟩ := PersL.at (Sub.self hwc_8)
    have hE_10 := hel_9 _ _ _ ha_2 hr3
    refine g_aload_n (q := 143) B dX1_send_142 rfl rfl (rv_r _) ?_
    refine g_callV (q := 146) (is := [8, 0]) (kc2 := 13) (ks2 := 130) B [] (ct_X4_notes_L g J (lp := lp) (pps := ps) (Ps := ((zPs C).set i ((pNo r, pEv r, pPk r, pEp r, pLf r, pNd r, pOn r, pKy r, fup (pCh r) (pLf r) (some ((k2, c.2.1 + 1, c.2.2) : ChS)), pRn r) : PeS))) (pcp := pcap) (ix := i) (pmd := pmd) (a := a2) (x := x) (pks := pks) (r := ((pNo r, pEv r, pPk r, pEp r, pLf r, pNd r, pOn r, pKy r, fup (pCh r) (pLf r) (some ((k2, c.2.1 + 1, c.2.2) : ChS)), pRn r) : PeS)) (lk := lk) (Ks := (zKs C)) (kcap := kcap) hwc_8 hv2 (ha_2) (hr3) (hpk_i)) dX1_send_143 rfl (rc_in B (ci := 2) rfl (k := 8) rfl (Sub.hm (hE_10) fun _ z => PersP.hm z)) rfl q2012 q2013 q2014 q90 q2015 rfl rfl moX4_notes rfl rfl (by decide) (by decide) (Nat.le_of_ble_eq_true rfl) (Nat.le_of_ble_eq_true rfl) (Nat.le_of_ble_eq_true rfl) (fun _ _ hx => noX_x hx) (fun v143 L1 hp143 => ?_)
    obtain ⟨E143, u0_143, rfl, rfl, hu0_143, hE_143⟩ := hp143
    refine (show Go g κ 146 [some (.ref x), some (.int (nI i)), some (.ref a2), some (.ref ac), some (.int (nI ((zSs C).length)))] [] [v3, v4, v5, v7, [(x, .inr (0, [.ref b, .ref lp, .ref lk, .ref lr, .ref lt, .ref ls, .ref lm, .ref so, .int (nI (zBn C))]))], u0_109, u0_126, u0_143, v2] 13 130 from ?_)
    have hr_11 : PersL g lp ps ((zPs C).set i ((pNo r, E143, pPk r, pEp r, pLf r, pNd r, pOn r, pKy r, fup (pCh r) (pLf r) (some ((k2, c.2.1 + 1, c.2.2) : ChS)), pRn r) : PeS)) pcap x pks pmd u0_143 := by have z := hu0_143; rw [List.set_set] at z; exact z
    refine g_aload_n (q := 147) B dX1_send_146 rfl rfl (rv_r _) ?_
    refine g_get (q := 150) B (ci := 0) (k := 4) (j := 6) in_X1 rfl dX1_send_147 rfl rfl (Nat.le_of_ble_eq_true rfl) q284 rfl rfl ?_
    obtain ⟨ps_12, md_12, hli_12, hln_12, hel_12⟩ := LhP.at (Sub.self hu0_109)
    refine g_callF (q := 155) (is := [5]) (kc2 := 13) (ks2 := 130) B [] (ct_J2_size_s g J (p := lm) (xs := ps_12) (md := md_12) (cap := (if (zMs C).length = mcap then growN mcap else mcap)) (W0 := u0_109)  (hli_12)) dX1_send_150 rfl (ci := 21) rfl (rc_in B (ci := 21) rfl (k := 5) rfl (LhP.hm hu0_109)) q315 q319 q321 q81 q323 q317 q316 q322 q320 q318 rfl rfl mojava_util_List_size___I rfl rfl (by decide) (by decide) (Nat.le_of_ble_eq_true rfl) (Nat.le_of_ble_eq_true rfl) (Nat.le_of_ble_eq_true rfl) (fun _ _ hx => noX_x hx) (fun v150 L1 hp150 => ?_)
    obtain ⟨rfl, rfl⟩ := hp150
    refine (show Go g κ 155 [some (.ref x), some (.int (nI i)), some (.ref a2), some (.ref ac), some (.int (nI ((zSs C).length)))] [.int (nI ps_12.length)] [v3, v4, v5, v7, [(x, .inr (0, [.ref b, .ref lp, .ref lk, .ref lr, .ref lt, .ref ls, .ref lm, .ref so, .int (nI (zBn C))]))], u0_126, u0_143, v2, u0_109] 13 130 from ?_)
    rw [hln_12.1]
    refine (show Go g κ 155 [some (.ref x), some (.int (nI i)), some (.ref a2), some (.ref ac), some (.int (nI ((zSs C).length)))] [.int (nI (((zMs C) ++ [((e, (pLf r), c.2.1, ((zSs C).length)) : MsS)]).length))] [v3, v4, v5, v7, [(x, .inr (0, [.ref b, .ref lp, .ref lk, .ref lr, .ref lt, .ref ls, .ref lm, .ref so, .int (nI (zBn C))]))], u0_126, u0_143, v2, u0_109] 13 130 from ?_)
    refine g_iconst (v := nI 1) (q := 156) B dX1_send_155 rfl (by decide) ?_
    refine g_isub (v := nI ((zMs C).length)) (q := 157) B dX1_send_156 rfl (by rw [List.length_append]; exact pk_sub (by simp)) ?_
    obtain ⟨wc_13, ewc_13⟩ : ∃ w : va_W, w = ([[(x, .inr (0, [.ref b, .ref lp, .ref lk, .ref lr, .ref lt, .ref ls, .ref lm, .ref so, .int (nI (zBn C))]))], u0_126, u0_143, v2, v3, v4, v5, u0_109, v7] : List va_W).flatten := ⟨_, rfl⟩
    have hwc_13 : KgP g x ((q2, zBx C ++ [(k1, (zSs C).length)], lcg (zZz C), (zPs C).set i ((pNo r, E143, pPk r, pEp r, pLf r, pNd r, pOn r, pKy r, fup (pCh r) (pLf r) (some ((k2, c.2.1 + 1, c.2.2) : ChS)), pRn r) : PeS), zKs C, zRs C, zTs C, zSt C, zMs C ++ [(e, pLf r, c.2.1, (zSs C).length)], zSo C, zBn C) : KsS) wc_13 := by
      rw [ewc_13]
      exact ⟨b, lp, lk, lr, lt, ls, lm, so, pcap, kcap, rcap, tcap, scap, (if (zMs C).length = mcap then growN mcap else mcap), socap, ps, pks, pmd, _, _, _, _, _, _, _, _, ⟨kc1, kc2, kc3, kc4, kc5, by have := grow_b (n := (zMs C).length) (cap := mcap) (by omega); first | omega | (unfold growN; split <;> (try split) <;> omega), kc7⟩, hu0_126, hr_11, hv2, hv3, hv4, hv5, hu0_109, hv7, rfl⟩
    refine g_close (w := wc_13) [4, 4, 4, 4, 0, 0, 0, 1, 0] rfl ewc_13 rfl ?_
    refine (show Go g κ 157 [some (.ref x), some (.int (nI i)), some (.ref a2), some (.ref ac), some (.int (nI ((zSs C).length)))] [.int (nI ((zMs C).length))] [wc_13] 13 130 from ?_)
    exact g_iret B E dX1_send_157 (⟨E143, _, rfl, rfl, hwc_13, hE_143⟩)
def rdCan (r : PeS) (m : MsS) : Prop := ∃ c, pEp r = some m.1 ∧ pCh r m.2.1 = some c ∧ m.2.2.1 ≤ c.2.1 + 4
def rdHas (r : PeS) (m : MsS) : Prop := ∃ c, pCh r m.2.1 = some c ∧ (m.2.2.1 < c.2.1 → c.2.2 m.2.2.1 ≠ none)
theorem ct_X1_read_x (g : Gv) (J : Jd g) {x : Nat} {C : KsS} {v : Int32} {u : Int32} {w0 : va_W} (hw0 : KgP g x C w0) (hC : KsB C) (hchx : ∀ (i : Nat) (r : PeS) (m : MsS), (zPs C)[i]? = some r → m ∈ zMs C → pEp r = some m.1 → ∃ c, pCh r m.2.1 = some c) (hmb : ∀ m ∈ zMs C, m.1 < 100 ∧ m.2.1 < 16 ∧ m.2.2.1 < 100 ∧ m.2.2.2 < (zSs C).length) (hno : ¬ (inR v (zPs C).length = true ∧ inR u (zMs C).length = true ∧ ∃ (i : Nat) (r : PeS) (j : Nat) (m : MsS), v = nI i ∧ (zPs C)[i]? = some r ∧ u = nI j ∧ (zMs C)[j]? = some m ∧ rdCan r m ∧ rdHas r m)) : Ct g yX1_read (ws_ yX1_read cX1_read 7 (some .int)) 17 10 60 [.ref x, .int v, .int u] [w0] (fun (rv_ : Option Value) (rL_ : List va_W) => ∃ (u0 : va_W), rv_ = some (.int 0) ∧ rL_ = [u0] ∧ KgP g x C u0 ∧ (False)) (fun (rE_ : String) (rL_ : List va_W) => rL_ = [w0] ∧ ((rE_ = "java/lang/IndexOutOfBoundsException" ∧ (¬ (inR v (zPs C).length = true ∧ inR u (zMs C).length = true))) ∨ (rE_ = "java/lang/UnsupportedOperationException" ∧ (∃ (i : Nat) (r : PeS) (j : Nat) (m : MsS), v = nI i ∧ (zPs C)[i]? = some r ∧ u = nI j ∧ (zMs C)[j]? = some m ∧ ¬ rdCan r m)) ∨ (rE_ = "java/util/NoSuchElementException" ∧ (∃ (i : Nat) (r : PeS) (j : Nat) (m : MsS), v = nI i ∧ (zPs C)[i]? = some r ∧ u = nI j ∧ (zMs C)[j]? = some m ∧ rdCan r m ∧ ¬ rdHas r m)))) := by
  refine Ct.of "Keygrove" [some (.ref x), some (.int v), some (.int u), none, none, none, none] rfl (by decide) rfl (Nat.le_of_ble_eq_true rfl) rfl ?_
  intro κ B E tb
  have hC0 := hC
  obtain ⟨hc1, hc2, hc3, hc4, hc5, hc6, hc7, hc8, hc9, hc10, hc11⟩ := hC0
  obtain ⟨b, lp, lk, lr, lt, ls, lm, so, pcap, kcap, rcap, tcap, scap, mcap, socap, ps, pks, pmd, v0, v1, v2, v3, v4, v5, v6, v7, hcap, hv0, hv1, hv2, hv3, hv4, hv5, hv6, hv7, rfl⟩ := hw0
  refine g_open 0 rfl rfl rfl ?_
  refine (show Go g κ 0 [some (.ref x), some (.int v), some (.int u), none, none, none, none] [] [[(x, .inr (0, [.ref b, .ref lp, .ref lk, .ref lr, .ref lt, .ref ls, .ref lm, .ref so, .int (nI (zBn C))]))], v0, v1, v2, v3, v4, v5, v6, v7] 10 60 from ?_)
  refine g_aload_n (q := 1) B dX1_read_0 rfl rfl (rv_r _) ?_
  refine g_iload_n (q := 2) B dX1_read_1 rfl rfl ?_
  refine g_callV (q := 5) (is := [0, 1]) (kc2 := 9) (ks2 := 54) B [.int v] (ct_X1_personWith g J (x := x) (lk := lk) (b := b) (lp := lp) (lr := lr) (lt := lt) (ls := ls) (lm := lm) (so := so) (bxs := zBn C) (ps := ps) (Ps := (zPs C)) (pcap := pcap) (pks := pks) (pmd := pmd) (v := v) hv1 (by first | assumption | omega | rfl)) dX1_read_2 rfl (rc_at B (ci := 0) rfl (k := 0) rfl) rfl q1961 q1963 qs15 q77 q1964 rfl rfl moX1_personWith rfl rfl (by decide) (by decide) (Nat.le_of_ble_eq_true rfl) (Nat.le_of_ble_eq_true rfl) (Nat.le_of_ble_eq_true rfl) (fun E2 L1 hx2 => ?_) (fun v2 L1 hp2 => ?_)
  · skip
    obtain ⟨rfl, hx2⟩ := hx2
    obtain ⟨rfl, hx2⟩ := hx2
    refine gx_cl [7, 0, 6, 0, 0, 0, 0, 0, 0] rfl ?_
    exact g_out B E tb (by first | exact ⟨rfl, Or.inl ⟨rfl, hx2⟩⟩ | exact ⟨rfl, Or.inl ⟨rfl, fun z => hx2 z.1⟩⟩ | exact ⟨rfl, Or.inl ⟨rfl, by simp_all⟩⟩)
  obtain ⟨i2, a2, r2, rfl, rfl, hv_2, ha_2, hr_2⟩ := hp2
  refine (show Go g κ 5 [some (.ref x), some (.int v), some (.int u), none, none, none, none] [.ref a2] [v0, v2, v3, v4, v5, v6, v7, [(x, .inr (0, [.ref b, .ref lp, .ref lk, .ref lr, .ref lt, .ref ls, .ref lm, .ref so, .int (nI (zBn C))]))], v1] 9 54 from ?_)
  subst hv_2
  obtain ⟨hli_1, hln_1, hel_1⟩ := PersL.at (Sub.self hv1)
  have hE_2 := hel_1 _ _ _ ha_2 hr_2
  refine (show Go g κ 5 [some (.ref x), some (.int (nI i2)), some (.int u), none, none, none, none] [.ref a2] [v0, v2, v3, v4, v5, v6, v7, [(x, .inr (0, [.ref b, .ref lp, .ref lk, .ref lr, .ref lt, .ref ls, .ref lm, .ref so, .int (nI (zBn C))]))], v1] 9 54 from ?_)
  obtain ⟨kc1, kc2, kc3, kc4, kc5, kc6, kc7⟩ := (show capB pcap kcap rcap tcap scap mcap socap from hcap)
  have hPB := pLf_b (hE_2)
  have hlf16 := hPB.2.1
  refine g_astore_n (q := 6) (lv2 := [some (.ref x), some (.int (nI i2)), some (.int u), some (.ref a2), none, none, none]) B dX1_read_5 rfl (Nat.le_of_ble_eq_true rfl) (rv_r _) rfl ?_
  refine g_aload_n (q := 7) B dX1_read_6 rfl rfl (rv_r _) ?_
  refine g_iload_n (q := 8) B dX1_read_7 rfl rfl ?_
  refine g_callV (q := 11) (is := [7, 5]) (kc2 := 8) (ks2 := 48) B [.int u] (ct_X1_messageWith g J (x := x) (lk := lk) (b := b) (lp := lp) (lr := lr) (lt := lt) (ls := ls) (lm := lm) (so := so) (bxs := (zBn C)) (Ms := (zMs C)) (mcap := mcap) (v := u) hv6 (by first | assumption | omega | rfl)) dX1_read_8 rfl (rc_at B (ci := 0) rfl (k := 7) rfl) rfl q2898 q2900 qs46 q77 q2901 rfl rfl moX1_messageWith rfl rfl (by decide) (by decide) (Nat.le_of_ble_eq_true rfl) (Nat.le_of_ble_eq_true rfl) (Nat.le_of_ble_eq_true rfl) (fun E8 L1 hx8 => ?_) (fun v8 L1 hp8 => ?_)
  · skip
    obtain ⟨rfl, hx8⟩ := hx8
    obtain ⟨rfl, hx8⟩ := hx8
    refine gx_cl [7, 0, 5, 0, 0, 0, 0, 1, 0] rfl ?_
    exact g_out B E tb (by first | exact ⟨rfl, Or.inl ⟨rfl, hx8⟩⟩ | exact ⟨rfl, Or.inl ⟨rfl, fun z => hx8 z.2⟩⟩ | exact ⟨rfl, Or.inl ⟨rfl, by simp_all⟩⟩)
  obtain ⟨i8, a8, r8, rfl, rfl, hv_8, hr_8, hE_8⟩ := hp8
  refine (show Go g κ 11 [some (.ref x), some (.int (nI i2)), some (.int u), some (.ref a2), none, none, none] [.ref a8] [v0, v2, v3, v4, v5, v7, v1, [(x, .inr (0, [.ref b, .ref lp, .ref lk, .ref lr, .ref lt, .ref ls, .ref lm, .ref so, .int (nI (zBn C))]))], v6] 8 48 from ?_)
  subst hv_8
  have hmm := List.mem_of_getElem? hr_8
  obtain ⟨hm1, hm2, hm3, hm4⟩ := hmb _ hmm
  refine (show Go g κ 11 [some (.ref x), some (.int (nI i2)), some (.int (nI i8)), some (.ref a2), none, none, none] [.ref a8] [v0, v2, v3, v4, v5, v7, v1, [(x, .inr (0, [.ref b, .ref lp, .ref lk, .ref lr, .ref lt, .ref ls, .ref lm, .ref so, .int (nI (zBn C))]))], v6] 8 48 from ?_)
  refine g_astore (q := 13) (lv2 := [some (.ref x), some (.int (nI i2)), some (.int (nI i8)), some (.ref a2), some (.ref a8), none, none]) B dX1_read_11 rfl (Nat.le_of_ble_eq_true rfl) (rv_r _) rfl ?_
  refine g_aload_n (q := 14) B dX1_read_13 rfl rfl (rv_r _) ?_
  refine g_callV (q := 17) (is := [6]) (kc2 := 8) (ks2 := 48) B [] (ct_X4_isIn_s g J (a := a2) (x := x) (pks := pks) (r := r2) (W0 := v1)  (hE_2)) dX1_read_14 rfl (rc_in B (ci := 2) rfl (k := 6) rfl (Sub.hm (hE_2) fun _ z => PersP.hm z)) rfl q1211 q1207 q1208 q90 q1209 rfl rfl moX4_isIn rfl rfl (by decide) (by decide) (Nat.le_of_ble_eq_true rfl) (Nat.le_of_ble_eq_true rfl) (Nat.le_of_ble_eq_true rfl) (fun _ _ hx => noX_x hx) (fun v14 L1 hp14 => ?_)
  obtain ⟨rfl, rfl⟩ := hp14
  refine (show Go g κ 17 [some (.ref x), some (.int (nI i2)), some (.int (nI i8)), some (.ref a2), some (.ref a8), none, none] [.int (nI (if ¬ pEp r2 = none then 1 else 0))] [v0, v2, v3, v4, v5, v7, [(x, .inr (0, [.ref b, .ref lp, .ref lk, .ref lr, .ref lt, .ref ls, .ref lm, .ref so, .int (nI (zBn C))]))], v6, v1] 8 48 from ?_)
  refine g_if_eq (tgt := 67) (q := 20) B dX1_read_17 rfl (by decide) (bo_eq) (fun c17 => ?_) (fun c17 => ?_)
  · skip
    refine g_iconst (v := nI 0) (q := 68) B dX1_read_67 rfl (by decide) ?_
    refine g_callS (q := 71) (is := []) (kc2 := 7) (ks2 := 42) B [.int (nI 0)] (ct_X1_can g J (c := False) (dc := instDecidableFalse)  ) dX1_read_68 rfl q2331 q2332 q77 q2333 rfl rfl moX1_can rfl rfl (by decide) (by decide) (Nat.le_of_ble_eq_true rfl) (Nat.le_of_ble_eq_true rfl) (Nat.le_of_ble_eq_true rfl) (fun E68 L1 hx68 => ?_) (fun v68 L1 hp68 => ?_)
    · skip
      obtain ⟨rfl, hx68⟩ := hx68
      obtain ⟨rfl, hx68⟩ := hx68
      refine gx_cl [6, 0, 6, 0, 0, 0, 0, 1, 0] rfl ?_
      exact g_out B E tb (by first | exact ⟨rfl, Or.inr (Or.inl ⟨rfl, hx68⟩)⟩ | exact ⟨rfl, Or.inr (Or.inl ⟨rfl, ⟨i2, r2, i8, r8, rfl, hr_2, rfl, hr_8, by rintro ⟨c9, z1, z2, z3⟩; first | (exact c29 z1) | (rw [Classical.not_not.mp c17] at z1; cases z1) | (rw [hch] at z2; cases z2; omega)⟩⟩)⟩ | exact ⟨rfl, Or.inr (Or.inl ⟨rfl, by simp_all⟩)⟩)
    obtain ⟨rfl, rfl, ht_68⟩ := hp68
    exact ht_68.elim
  · skip
    have c17 := Classical.not_not.mp c17
    refine g_aload_n (q := 21) B dX1_read_20 rfl rfl (rv_r _) ?_
    obtain ⟨ev_3, pl_3, nd_3, ch_3, ecap_3, pcap_3, nn_3, nc_3, plc_3, md_3, hP_3, hpl_3, hec_3, hpc_3, hc_3_0, hs_3_0, hs_3_1, hs_3_2, hs_3_3⟩ := PersP.at (hE_2)
    refine g_getNM (q := 24) B (ci := 2) (k := 8) (j := 3) in_X4 rfl dX1_read_21 rfl rfl (hc_3_0) (Nat.le_of_ble_eq_true rfl) q1901 rfl rfl ?_
    refine g_aload (q := 26) B dX1_read_24 rfl rfl (rv_r _) ?_
    have hc_4_0 := MsgP.at (hE_8)
    refine g_getNM (q := 29) B (ci := 11) (k := 7) (j := 0) in_X21 rfl dX1_read_26 rfl rfl (hc_4_0) (Nat.le_of_ble_eq_true rfl) q2875 rfl rfl ?_
    refine g_icmp_ne (tgt := 67) (q := 32) B dX1_read_29 rfl (by decide) (oI_ne ((fun n h => by have := hP_3.2.2.2.2.1 _ h; omega)) (by omega)) (fun c29 => ?_) (fun c29 => ?_)
    · skip
      refine g_iconst (v := nI 0) (q := 68) B dX1_read_67 rfl (by decide) ?_
      refine g_callS (q := 71) (is := []) (kc2 := 7) (ks2 := 42) B [.int (nI 0)] (ct_X1_can g J (c := False) (dc := instDecidableFalse)  ) dX1_read_68 rfl q2331 q2332 q77 q2333 rfl rfl moX1_can rfl rfl (by decide) (by decide) (Nat.le_of_ble_eq_true rfl) (Nat.le_of_ble_eq_true rfl) (Nat.le_of_ble_eq_true rfl) (fun E68 L1 hx68 => ?_) (fun v68 L1 hp68 => ?_)
      · skip
        obtain ⟨rfl, hx68⟩ := hx68
        obtain ⟨rfl, hx68⟩ := hx68
        refine gx_cl [6, 0, 6, 0, 0, 0, 0, 1, 0] rfl ?_
        exact g_out B E tb (by first | exact ⟨rfl, Or.inr (Or.inl ⟨rfl, hx68⟩)⟩ | exact ⟨rfl, Or.inr (Or.inl ⟨rfl, ⟨i2, r2, i8, r8, rfl, hr_2, rfl, hr_8, by rintro ⟨c9, z1, z2, z3⟩; first | (exact c29 z1) | (rw [Classical.not_not.mp c17] at z1; cases z1) | (rw [hch] at z2; cases z2; omega)⟩⟩)⟩ | exact ⟨rfl, Or.inr (Or.inl ⟨rfl, by simp_all⟩)⟩)
      obtain ⟨rfl, rfl, ht_68⟩ := hp68
      exact ht_68.elim
    · skip
      have c29 := Classical.not_not.mp c29
      obtain ⟨c, hch⟩ := hchx _ _ _ hr_2 hmm c29
      have hCB := (hPB.2.2.2.2.2.2.2.1 _ _ hch).2
      obtain ⟨hcb1, hcb2, hcb3⟩ := hCB
      refine g_aload (q := 34) B dX1_read_32 rfl rfl (rv_r _) ?_
      refine g_getNM (q := 37) B (ci := 11) (k := 7) (j := 2) in_X21 rfl dX1_read_34 rfl rfl (hc_4_0) (Nat.le_of_ble_eq_true rfl) q2879 rfl rfl ?_
      refine g_aload_n (q := 38) B dX1_read_37 rfl rfl (rv_r _) ?_
      refine g_getNM (q := 41) B (ci := 2) (k := 8) (j := 8) in_X4 rfl dX1_read_38 rfl rfl (hc_3_0) (Nat.le_of_ble_eq_true rfl) q1911 rfl rfl ?_
      refine g_aload (q := 43) B dX1_read_41 rfl rfl (rv_r _) ?_
      refine g_getNM (q := 46) B (ci := 11) (k := 7) (j := 1) in_X21 rfl dX1_read_43 rfl rfl (hc_4_0) (Nat.le_of_ble_eq_true rfl) q2877 rfl rfl ?_
      refine g_callS (q := 49) (is := []) (kc2 := 8) (ks2 := 48) B [.int (nI r8.2.1)] (ct_J26_valueOf_k g J (k := r8.2.1)  (by omega)) dX1_read_46 rfl q685 q686 q111 q687 rfl rfl moJ26_valueOf rfl rfl (by decide) (by decide) (Nat.le_of_ble_eq_true rfl) (Nat.le_of_ble_eq_true rfl) (Nat.le_of_ble_eq_true rfl) (fun _ _ hx => noX_x hx) (fun v46 L1 hp46 => ?_)
      obtain ⟨rfl, rfl⟩ := hp46
      refine (show Go g κ 49 [some (.ref x), some (.int (nI i2)), some (.int (nI i8)), some (.ref a2), some (.ref a8), none, none] [.ref (kI g r8.2.1), .ref ch_3, .int (nI r8.2.2.1)] [v0, v2, v3, v4, v5, v7, [(x, .inr (0, [.ref b, .ref lp, .ref lk, .ref lr, .ref lt, .ref ls, .ref lm, .ref so, .int (nI (zBn C))]))], v6, v1] 8 48 from ?_)
      refine g_callV (q := 52) (is := [8]) (kc2 := 8) (ks2 := 48) B [.ref (kI g r8.2.1)] (ct_CmP_getS g J (t := ch_3) (F := (pCh r2)) (n := nc_3) (k := r8.2.1) (r := c) (W0 := v1)  (hs_3_3) (hch) (by omega)) dX1_read_49 rfl (rc_in B (ci := 27) rfl (k := 8) rfl (Sub.hm (hs_3_3) fun _ z => MoP.hm z)) rfl q1825 q1826 q1827 q91 q1828 rfl rfl moJ10_get rfl rfl (by decide) (by decide) (Nat.le_of_ble_eq_true rfl) (Nat.le_of_ble_eq_true rfl) (Nat.le_of_ble_eq_true rfl) (fun _ _ hx => noX_x hx) (fun v49 L1 hp49 => ?_)
      obtain ⟨a49, rfl, rfl, hE_49⟩ := hp49
      refine (show Go g κ 52 [some (.ref x), some (.int (nI i2)), some (.int (nI i8)), some (.ref a2), some (.ref a8), none, none] [.ref a49, .int (nI r8.2.2.1)] [v0, v2, v3, v4, v5, v7, [(x, .inr (0, [.ref b, .ref lp, .ref lk, .ref lr, .ref lt, .ref ls, .ref lm, .ref so, .int (nI (zBn C))]))], v6, v1] 8 48 from ?_)
      refine g_castRS (ci := 7) (q := 55) B rfl (rc_in B (ci := 7) rfl (k := 8) rfl (Sub.hm (hE_49) fun _ z => ChnP.hm z)) dX1_read_52 rfl q2867 ?_
      obtain ⟨lf_5, nl_5, hC_5, hc_5_0, hs_5_0⟩ := ChnP.at (hE_49)
      refine g_getNM (q := 58) B (ci := 7) (k := 8) (j := 1) in_X12 rfl dX1_read_55 rfl rfl (hc_5_0) (Nat.le_of_ble_eq_true rfl) q2192 rfl rfl ?_
      refine g_iconst (v := nI 4) (q := 59) B dX1_read_58 rfl (by decide) ?_
      refine g_iadd (v := nI (c.2.1 + 4)) (q := 60) B dX1_read_59 rfl (nI_add _ _) ?_
      refine g_icmp_gt (tgt := 67) (q := 63) B dX1_read_60 rfl (by decide) (nI_ltI (by omega) (by omega)) (fun c60 => ?_) (fun c60 => ?_)
      · skip
        refine g_iconst (v := nI 0) (q := 68) B dX1_read_67 rfl (by decide) ?_
        refine g_callS (q := 71) (is := []) (kc2 := 7) (ks2 := 42) B [.int (nI 0)] (ct_X1_can g J (c := False) (dc := instDecidableFalse)  ) dX1_read_68 rfl q2331 q2332 q77 q2333 rfl rfl moX1_can rfl rfl (by decide) (by decide) (Nat.le_of_ble_eq_true rfl) (Nat.le_of_ble_eq_true rfl) (Nat.le_of_ble_eq_true rfl) (fun E68 L1 hx68 => ?_) (fun v68 L1 hp68 => ?_)
        · skip
          obtain ⟨rfl, hx68⟩ := hx68
          obtain ⟨rfl, hx68⟩ := hx68
          refine gx_cl [6, 0, 6, 0, 0, 0, 0, 1, 0] rfl ?_
          exact g_out B E tb (by first | exact ⟨rfl, Or.inr (Or.inl ⟨rfl, hx68⟩)⟩ | exact ⟨rfl, Or.inr (Or.inl ⟨rfl, ⟨i2, r2, i8, r8, rfl, hr_2, rfl, hr_8, by rintro ⟨c9, z1, z2, z3⟩; first | (exact c29 z1) | (rw [Classical.not_not.mp c17] at z1; cases z1) | (rw [hch] at z2; cases z2; omega)⟩⟩)⟩ | exact ⟨rfl, Or.inr (Or.inl ⟨rfl, by simp_all⟩)⟩)
        obtain ⟨rfl, rfl, ht_68⟩ := hp68
        exact ht_68.elim
      · skip
        refine g_iconst (v := nI 1) (q := 64) B dX1_read_63 rfl (by decide) ?_
        refine g_goto (tgt := 68) B dX1_read_64 (by decide) ?_
        refine g_callS (q := 71) (is := []) (kc2 := 7) (ks2 := 42) B [.int (nI 1)] (ct_X1_can g J (c := True) (dc := instDecidableTrue)  ) dX1_read_68 rfl q2331 q2332 q77 q2333 rfl rfl moX1_can rfl rfl (by decide) (by decide) (Nat.le_of_ble_eq_true rfl) (Nat.le_of_ble_eq_true rfl) (Nat.le_of_ble_eq_true rfl) (fun E68 L1 hx68 => ?_) (fun v68 L1 hp68 => ?_)
        · skip
          obtain ⟨rfl, hx68⟩ := hx68
          obtain ⟨rfl, hx68⟩ := hx68
          exact absurd trivial hx68
        obtain ⟨rfl, rfl, ht_68⟩ := hp68
        refine (show Go g κ 71 [some (.ref x), some (.int (nI i2)), some (.int (nI i8)), some (.ref a2), some (.ref a8), none, none] [] [v0, v2, v3, v4, v5, v7, [(x, .inr (0, [.ref b, .ref lp, .ref lk, .ref lr, .ref lt, .ref ls, .ref lm, .ref so, .int (nI (zBn C))]))], v6, v1] 7 42 from ?_)
        refine g_aload_n (q := 72) B dX1_read_71 rfl rfl (rv_r _) ?_
        refine g_getNM (q := 75) B (ci := 2) (k := 8) (j := 8) in_X4 rfl dX1_read_72 rfl rfl (hc_3_0) (Nat.le_of_ble_eq_true rfl) q1911 rfl rfl ?_
        refine g_aload (q := 77) B dX1_read_75 rfl rfl (rv_r _) ?_
        refine g_getNM (q := 80) B (ci := 11) (k := 7) (j := 1) in_X21 rfl dX1_read_77 rfl rfl (hc_4_0) (Nat.le_of_ble_eq_true rfl) q2877 rfl rfl ?_
        refine g_callS (q := 83) (is := []) (kc2 := 7) (ks2 := 42) B [.int (nI r8.2.1)] (ct_J26_valueOf_k g J (k := r8.2.1)  (by omega)) dX1_read_80 rfl q685 q686 q111 q687 rfl rfl moJ26_valueOf rfl rfl (by decide) (by decide) (Nat.le_of_ble_eq_true rfl) (Nat.le_of_ble_eq_true rfl) (Nat.le_of_ble_eq_true rfl) (fun _ _ hx => noX_x hx) (fun v80 L1 hp80 => ?_)
        obtain ⟨rfl, rfl⟩ := hp80
        refine (show Go g κ 83 [some (.ref x), some (.int (nI i2)), some (.int (nI i8)), some (.ref a2), some (.ref a8), none, none] [.ref (kI g r8.2.1), .ref ch_3] [v0, v2, v3, v4, v5, v7, [(x, .inr (0, [.ref b, .ref lp, .ref lk, .ref lr, .ref lt, .ref ls, .ref lm, .ref so, .int (nI (zBn C))]))], v6, v1] 7 42 from ?_)
        refine g_callV (q := 86) (is := [8]) (kc2 := 7) (ks2 := 42) B [.ref (kI g r8.2.1)] (ct_CmP_getS g J (t := ch_3) (F := (pCh r2)) (n := nc_3) (k := r8.2.1) (r := c) (W0 := v1)  (hs_3_3) (hch) (by omega)) dX1_read_83 rfl (rc_in B (ci := 27) rfl (k := 8) rfl (Sub.hm (hs_3_3) fun _ z => MoP.hm z)) rfl q1825 q1826 q1827 q91 q1828 rfl rfl moJ10_get rfl rfl (by decide) (by decide) (Nat.le_of_ble_eq_true rfl) (Nat.le_of_ble_eq_true rfl) (Nat.le_of_ble_eq_true rfl) (fun _ _ hx => noX_x hx) (fun v83 L1 hp83 => ?_)
        obtain ⟨a83, rfl, rfl, hE_83⟩ := hp83
        refine (show Go g κ 86 [some (.ref x), some (.int (nI i2)), some (.int (nI i8)), some (.ref a2), some (.ref a8), none, none] [.ref a83] [v0, v2, v3, v4, v5, v7, [(x, .inr (0, [.ref b, .ref lp, .ref lk, .ref lr, .ref lt, .ref ls, .ref lm, .ref so, .int (nI (zBn C))]))], v6, v1] 7 42 from ?_)
        refine g_castRS (ci := 7) (q := 89) B rfl (rc_in B (ci := 7) rfl (k := 8) rfl (Sub.hm (hE_83) fun _ z => ChnP.hm z)) dX1_read_86 rfl q2867 ?_
        refine g_astore (q := 91) (lv2 := [some (.ref x), some (.int (nI i2)), some (.int (nI i8)), some (.ref a2), some (.ref a8), some (.ref a83), none]) B dX1_read_89 rfl (Nat.le_of_ble_eq_true rfl) (rv_r _) rfl ?_
        refine g_aload (q := 93) B dX1_read_91 rfl rfl (rv_r _) ?_
        refine g_getNM (q := 96) B (ci := 11) (k := 7) (j := 2) in_X21 rfl dX1_read_93 rfl rfl (hc_4_0) (Nat.le_of_ble_eq_true rfl) q2879 rfl rfl ?_
        refine g_aload (q := 98) B dX1_read_96 rfl rfl (rv_r _) ?_
        obtain ⟨lf_6, nl_6, hC_6, hc_6_0, hs_6_0⟩ := ChnP.at (hE_83)
        refine g_getNM (q := 101) B (ci := 7) (k := 8) (j := 1) in_X12 rfl dX1_read_98 rfl rfl (hc_6_0) (Nat.le_of_ble_eq_true rfl) q2192 rfl rfl ?_
        refine g_icmp_ge (tgt := 123) (q := 104) B dX1_read_101 rfl (by decide) (nI_leI (by omega) (by omega)) (fun c101 => ?_) (fun c101 => ?_)
        · skip
          refine g_iconst (v := nI 1) (q := 124) B dX1_read_123 rfl (by decide) ?_
          refine g_goto (tgt := 128) B dX1_read_124 (by decide) ?_
          refine g_callS (q := 131) (is := []) (kc2 := 6) (ks2 := 36) B [.int (nI 1)] (ct_X1_found_2 g J (c := True) (dc := instDecidableTrue)  ) dX1_read_128 rfl q2357 q2358 q77 q2359 rfl rfl moX1_found_2 rfl rfl (by decide) (by decide) (Nat.le_of_ble_eq_true rfl) (Nat.le_of_ble_eq_true rfl) (Nat.le_of_ble_eq_true rfl) (fun E128 L1 hx128 => ?_) (fun v128 L1 hp128 => ?_)
          · skip
            obtain ⟨rfl, hx128⟩ := hx128
            obtain ⟨rfl, hx128⟩ := hx128
            exact absurd trivial hx128
          obtain ⟨rfl, rfl, ht_128⟩ := hp128
          refine (show Go g κ 131 [some (.ref x), some (.int (nI i2)), some (.int (nI i8)), some (.ref a2), some (.ref a8), some (.ref a83), none] [] [v0, v2, v3, v4, v5, v7, [(x, .inr (0, [.ref b, .ref lp, .ref lk, .ref lr, .ref lt, .ref ls, .ref lm, .ref so, .int (nI (zBn C))]))], v6, v1] 6 36 from ?_)
          have hil2 := get_lt2 hr_2
          have hil8 := get_lt2 hr_8
          exact absurd ⟨by rw [inR_k (by omega)]; simpa using get_lt2 hr_2, by rw [inR_k (by omega)]; simpa using get_lt2 hr_8, i2, r2, i8, r8, rfl, hr_2, rfl, hr_8, ⟨c, c29, hch, by omega⟩, ⟨c, hch, fun z => by first | omega | (intro z2; rw [z2] at c120; exact absurd c120 (by simp))⟩⟩ hno
        · skip
          refine g_aload (q := 106) B dX1_read_104 rfl rfl (rv_r _) ?_
          refine g_getNM (q := 109) B (ci := 7) (k := 8) (j := 2) in_X12 rfl dX1_read_106 rfl rfl (hc_6_0) (Nat.le_of_ble_eq_true rfl) q2195 rfl rfl ?_
          refine g_aload (q := 111) B dX1_read_109 rfl rfl (rv_r _) ?_
          refine g_getNM (q := 114) B (ci := 11) (k := 7) (j := 2) in_X21 rfl dX1_read_111 rfl rfl (hc_4_0) (Nat.le_of_ble_eq_true rfl) q2879 rfl rfl ?_
          refine g_callS (q := 117) (is := []) (kc2 := 7) (ks2 := 42) B [.int (nI r8.2.2.1)] (ct_J26_valueOf_k g J (k := r8.2.2.1)  (by omega)) dX1_read_114 rfl q685 q686 q111 q687 rfl rfl moJ26_valueOf rfl rfl (by decide) (by decide) (Nat.le_of_ble_eq_true rfl) (Nat.le_of_ble_eq_true rfl) (Nat.le_of_ble_eq_true rfl) (fun _ _ hx => noX_x hx) (fun v114 L1 hp114 => ?_)
          obtain ⟨rfl, rfl⟩ := hp114
          refine (show Go g κ 117 [some (.ref x), some (.int (nI i2)), some (.int (nI i8)), some (.ref a2), some (.ref a8), some (.ref a83), none] [.ref (kI g r8.2.2.1), .ref lf_6] [v0, v2, v3, v4, v5, v7, [(x, .inr (0, [.ref b, .ref lp, .ref lk, .ref lr, .ref lt, .ref ls, .ref lm, .ref so, .int (nI (zBn C))]))], v6, v1] 7 42 from ?_)
          refine g_callV (q := 120) (is := [8]) (kc2 := 7) (ks2 := 42) B [.ref (kI g r8.2.2.1)] (ct_NmP_has g J (t := lf_6) (F := c.2.2) (n := nl_6) (k := r8.2.2.1) (W0 := v1)  (hs_6_0) (by omega)) dX1_read_117 rfl (rc_in B (ci := 27) rfl (k := 8) rfl (Sub.hm (hs_6_0) fun _ z => MoP.hm z)) rfl q1803 q1804 q1805 q91 q1806 rfl rfl moJ10_containsKey rfl rfl (by decide) (by decide) (Nat.le_of_ble_eq_true rfl) (Nat.le_of_ble_eq_true rfl) (Nat.le_of_ble_eq_true rfl) (fun _ _ hx => noX_x hx) (fun v117 L1 hp117 => ?_)
          obtain ⟨rfl, rfl⟩ := hp117
          refine (show Go g κ 120 [some (.ref x), some (.int (nI i2)), some (.int (nI i8)), some (.ref a2), some (.ref a8), some (.ref a83), none] [.int (nI (if (c.2.2 r8.2.2.1).isSome = true then 1 else 0))] [v0, v2, v3, v4, v5, v7, [(x, .inr (0, [.ref b, .ref lp, .ref lk, .ref lr, .ref lt, .ref ls, .ref lm, .ref so, .int (nI (zBn C))]))], v6, v1] 7 42 from ?_)
          refine g_if_eq (tgt := 127) (q := 123) B dX1_read_120 rfl (by decide) (bo_eq) (fun c120 => ?_) (fun c120 => ?_)
          · skip
            refine g_iconst (v := nI 0) (q := 128) B dX1_read_127 rfl (by decide) ?_
            refine g_callS (q := 131) (is := []) (kc2 := 6) (ks2 := 36) B [.int (nI 0)] (ct_X1_found_2 g J (c := False) (dc := instDecidableFalse)  ) dX1_read_128 rfl q2357 q2358 q77 q2359 rfl rfl moX1_found_2 rfl rfl (by decide) (by decide) (Nat.le_of_ble_eq_true rfl) (Nat.le_of_ble_eq_true rfl) (Nat.le_of_ble_eq_true rfl) (fun E128 L1 hx128 => ?_) (fun v128 L1 hp128 => ?_)
            · skip
              obtain ⟨rfl, hx128⟩ := hx128
              obtain ⟨rfl, hx128⟩ := hx128
              refine gx_cl [6, 0, 6, 0, 0, 0, 0, 1, 0] rfl ?_
              exact g_out B E tb (by first | exact ⟨rfl, Or.inr (Or.inr (⟨rfl, hx128⟩))⟩ | exact ⟨rfl, Or.inr (Or.inr (⟨rfl, ⟨i2, r2, i8, r8, rfl, hr_2, rfl, hr_8, ⟨c, c29, hch, by omega⟩, by rintro ⟨c9, z1, z2⟩; rw [hch] at z1; cases z1; exact z2 (by omega) (by simpa using c120)⟩⟩))⟩ | exact ⟨rfl, Or.inr (Or.inr (⟨rfl, by simp_all⟩))⟩)
            obtain ⟨rfl, rfl, ht_128⟩ := hp128
            exact ht_128.elim
          · skip
            have c120 := Classical.not_not.mp c120
            refine g_iconst (v := nI 1) (q := 124) B dX1_read_123 rfl (by decide) ?_
            refine g_goto (tgt := 128) B dX1_read_124 (by decide) ?_
            refine g_callS (q := 131) (is := []) (kc2 := 6) (ks2 := 36) B [.int (nI 1)] (ct_X1_found_2 g J (c := True) (dc := instDecidableTrue)  ) dX1_read_128 rfl q2357 q2358 q77 q2359 rfl rfl moX1_found_2 rfl rfl (by decide) (by decide) (Nat.le_of_ble_eq_true rfl) (Nat.le_of_ble_eq_true rfl) (Nat.le_of_ble_eq_true rfl) (fun E128 L1 hx128 => ?_) (fun v128 L1 hp128 => ?_)
            · skip
              obtain ⟨rfl, hx128⟩ := hx128
              obtain ⟨rfl, hx128⟩ := hx128
              exact absurd trivial hx128
            obtain ⟨rfl, rfl, ht_128⟩ := hp128
            refine (show Go g κ 131 [some (.ref x), some (.int (nI i2)), some (.int (nI i8)), some (.ref a2), some (.ref a8), some (.ref a83), none] [] [v0, v2, v3, v4, v5, v7, [(x, .inr (0, [.ref b, .ref lp, .ref lk, .ref lr, .ref lt, .ref ls, .ref lm, .ref so, .int (nI (zBn C))]))], v6, v1] 6 36 from ?_)
            have hil2 := get_lt2 hr_2
            have hil8 := get_lt2 hr_8
            exact absurd ⟨by rw [inR_k (by omega)]; simpa using get_lt2 hr_2, by rw [inR_k (by omega)]; simpa using get_lt2 hr_8, i2, r2, i8, r8, rfl, hr_2, rfl, hr_8, ⟨c, c29, hch, by omega⟩, ⟨c, hch, fun z => by first | omega | (intro z2; rw [z2] at c120; exact absurd c120 (by simp))⟩⟩ hno
/-- a chain goes on past places that are left -/
abbrev RdS : Type := List Sec × ChS
def rd1 (S : RdS) : RdS := ((frm (frm S.1 (S.2.1, none, 7)).1 (S.2.1, none, 8)).1, ((frm (frm S.1 (S.2.1, none, 7)).1 (S.2.1, none, 8)).2, S.2.2.1 + 1, fup S.2.2.2 S.2.2.1 (some (frm S.1 (S.2.1, none, 7)).2)))
def rdK (S : RdS) : Nat → RdS
  | 0 => S
  | k + 1 => rd1 (rdK S k)
def rdF (S : RdS) (p : Nat) : RdS := if p < S.2.2.1 then (S.1, (S.2.1, S.2.2.1, fup S.2.2.2 p none)) else
  ((frm (rdK S (p - S.2.2.1)).1 ((rdK S (p - S.2.2.1)).2.1, none, 8)).1, ((frm (rdK S (p - S.2.2.1)).1 ((rdK S (p - S.2.2.1)).2.1, none, 8)).2, (rdK S (p - S.2.2.1)).2.2.1 + 1, (rdK S (p - S.2.2.1)).2.2.2))
theorem rd1_m (S : RdS) : PhS S.1 ≤ PhS (rd1 S).1 ∧ S.1.length ≤ (rd1 S).1.length := by
  have h1 := Ph_frm S.1 (S.2.1, none, 7)
  have h2 := Ph_frm (frm S.1 (S.2.1, none, 7)).1 (S.2.1, none, 8)
  have h3 := @frm_le S.1 (S.2.1, none, 7)
  have h4 := @frm_le (frm S.1 (S.2.1, none, 7)).1 (S.2.1, none, 8)
  exact ⟨Nat.le_trans h1.1 h2.1, Nat.le_trans h3.1 h4.1⟩
theorem rdK_m (S : RdS) {k m : Nat} (h : k ≤ m) : PhS (rdK S k).1 ≤ PhS (rdK S m).1 ∧ (rdK S k).1.length ≤ (rdK S m).1.length := by
  induction m with
  | zero => rw [Nat.le_zero.mp h]; exact ⟨Nat.le_refl _, Nat.le_refl _⟩
  | succ m ih =>
    rcases Nat.lt_or_ge m k with z | z
    · rw [show k = m + 1 by omega]; exact ⟨Nat.le_refl _, Nat.le_refl _⟩
    · have h1 := ih z
      have h2 := rd1_m (rdK S m)
      exact ⟨Nat.le_trans h1.1 h2.1, Nat.le_trans h1.2 h2.2⟩
theorem rdK_p (S : RdS) : ∀ k, (rdK S k).2.2.1 = S.2.2.1 + k
  | 0 => rfl
  | k + 1 => by show (rdK S k).2.2.1 + 1 = _; rw [rdK_p S k]; rfl
theorem rdF_o {S : RdS} {p : Nat} (h : p < S.2.2.1) : rdF S p = (S.1, (S.2.1, S.2.2.1, fup S.2.2.2 p none)) := by unfold rdF; rw [if_pos h]
theorem rdF_n {S : RdS} {p : Nat} {q : List Sec} {i : Nat} (h : ¬ p < S.2.2.1) (hf : frm (rdK S (p - S.2.2.1)).1 ((rdK S (p - S.2.2.1)).2.1, none, 8) = (q, i)) : rdF S p = (q, (i, (rdK S (p - S.2.2.1)).2.2.1 + 1, (rdK S (p - S.2.2.1)).2.2.2)) := by unfold rdF; rw [if_neg h, hf]
theorem rdF_l (S : RdS) (p : Nat) : S.1.length ≤ (rdF S p).1.length ∧ PhS S.1 ≤ PhS (rdF S p).1 := by
  by_cases h : p < S.2.2.1
  · rw [rdF_o h]; exact ⟨Nat.le_refl _, Nat.le_refl _⟩
  · rw [rdF_n h (q := (frm (rdK S (p - S.2.2.1)).1 ((rdK S (p - S.2.2.1)).2.1, none, 8)).1) (i := (frm (rdK S (p - S.2.2.1)).1 ((rdK S (p - S.2.2.1)).2.1, none, 8)).2) rfl]
    have h1 := rdK_m S (Nat.zero_le (p - S.2.2.1))
    exact ⟨Nat.le_trans h1.2 (@frm_le _ _).1, Nat.le_trans h1.1 (Ph_frm _ _).1⟩
theorem moX1_goesAlong : Mo yX1_goesAlong 1 := by
  refine ⟨by decide, by decide, by decide +kernel⟩
theorem moJ10_remove : Mo yJ10_remove 1 := by
  refine ⟨by decide, by decide, by decide +kernel⟩
set_option maxHeartbeats 16000000 in
theorem ct_X1_read_y (g : Gv) (J : Jd g) {x : Nat} {C : KsS} {v : Int32} {u : Int32} {i : Nat} {r : PeS} {j : Nat} {m : MsS} {c : ChS} {F : RdS} {TA : Nat} {w0 : va_W} (hw0 : KgP g x C w0) (hC : KsB C) (hmb : ∀ m ∈ zMs C, m.1 < 100 ∧ m.2.1 < 16 ∧ m.2.2.1 < 100 ∧ m.2.2.2 < (zSs C).length) (hv : v = nI i) (hr : (zPs C)[i]? = some r) (hu : u = nI j) (hm : (zMs C)[j]? = some m) (he : pEp r = some m.1) (hch : pCh r m.2.1 = some c) (hle : m.2.2.1 ≤ c.2.1 + 4) (hlf : m.2.2.1 < c.2.1 → ∃ k, c.2.2 m.2.2.1 = some k) (hF : rdF ((zSs C, c) : RdS) m.2.2.1 = F) (hpl : m.2.2.1 < 98) (hsc : ∀ k, k ≤ (m.2.2.1 - c.2.1) → (rdK ((zSs C, c) : RdS) k).2.1 < (rdK ((zSs C, c) : RdS) k).1.length ∧ (rdK ((zSs C, c) : RdS) k).1.length ≤ 970) (hfl : F.1.length ≤ 980) (hTA : PhS F.1 ≤ TA) : Ct g yX1_read (ws_ yX1_read cX1_read 7 (some .int)) 17 (520 + 13 * (TA - PhS (zSs C))) (3300 + 55 * (TA - PhS (zSs C))) [.ref x, .int v, .int u] [w0] (fun (rv_ : Option Value) (rL_ : List va_W) => ∃ (E : Nat → Bool) (u0 : va_W), rv_ = some (.int (vl F.1 m.2.2.2)) ∧ rL_ = [u0] ∧ KgP g x ((F.1, zBx C, zZz C, (zPs C).set i ((pNo r, E, pPk r, pEp r, pLf r, pNd r, pOn r, pKy r, fup (pCh r) m.2.1 (some F.2), pRn r) : PeS), zKs C, zRs C, zTs C, zSt C, zMs C, zSo C, zBn C) : KsS) u0 ∧ (∀ y, E y = true ↔ pEv r y = true ∨ helP (zKs C) ((pNo r, pEv r, pPk r, pEp r, pLf r, pNd r, pOn r, pKy r, fup (pCh r) m.2.1 (some F.2), pRn r) : PeS) y)) noX := by
  refine Ct.of "Keygrove" [some (.ref x), some (.int v), some (.int u), none, none, none, none] rfl (by decide) rfl (Nat.le_of_ble_eq_true rfl) rfl ?_
  intro κ B E tb
  have hC0 := hC
  obtain ⟨hc1, hc2, hc3, hc4, hc5, hc6, hc7, hc8, hc9, hc10, hc11⟩ := hC0
  obtain ⟨b, lp, lk, lr, lt, ls, lm, so, pcap, kcap, rcap, tcap, scap, mcap, socap, ps, pks, pmd, v0, v1, v2, v3, v4, v5, v6, v7, hcap, hv0, hv1, hv2, hv3, hv4, hv5, hv6, hv7, rfl⟩ := hw0
  refine g_open 0 rfl rfl rfl ?_
  refine (show Go g κ 0 [some (.ref x), some (.int v), some (.int u), none, none, none, none] [] [[(x, .inr (0, [.ref b, .ref lp, .ref lk, .ref lr, .ref lt, .ref ls, .ref lm, .ref so, .int (nI (zBn C))]))], v0, v1, v2, v3, v4, v5, v6, v7] (520 + 13 * (TA - PhS (zSs C))) (3300 + 55 * (TA - PhS (zSs C))) from ?_)
  refine g_aload_n (q := 1) B dX1_read_0 rfl rfl (rv_r _) ?_
  refine g_iload_n (q := 2) B dX1_read_1 rfl rfl ?_
  refine g_callV (q := 5) (is := [0, 1]) (kc2 := (520 + 13 * (TA - PhS (zSs C))) - 1) (ks2 := (3300 + 55 * (TA - PhS (zSs C))) - 6) B [.int v] (ct_X1_personWith g J (x := x) (lk := lk) (b := b) (lp := lp) (lr := lr) (lt := lt) (ls := ls) (lm := lm) (so := so) (bxs := zBn C) (ps := ps) (Ps := (zPs C)) (pcap := pcap) (pks := pks) (pmd := pmd) (v := v) hv1 (by first | assumption | omega | rfl)) dX1_read_2 rfl (rc_at B (ci := 0) rfl (k := 0) rfl) rfl q1961 q1963 qs15 q77 q1964 rfl rfl moX1_personWith rfl rfl (by decide) (by decide) (Nat.le_of_ble_eq_true rfl) (by omega) (by omega) (fun E2 L1 hx2 => ?_) (fun v2 L1 hp2 => ?_)
  · skip
    obtain ⟨rfl, hx2⟩ := hx2
    obtain ⟨rfl, hx2⟩ := hx2
    exact absurd (by rw [hv, inR_k (by have := get_lt2 hr; omega)]; simpa using get_lt2 hr) hx2
  obtain ⟨i2, a2, r2, rfl, rfl, hv_2, ha_2, hr_2⟩ := hp2
  refine (show Go g κ 5 [some (.ref x), some (.int v), some (.int u), none, none, none, none] [.ref a2] [v0, v2, v3, v4, v5, v6, v7, [(x, .inr (0, [.ref b, .ref lp, .ref lk, .ref lr, .ref lt, .ref ls, .ref lm, .ref so, .int (nI (zBn C))]))], v1] ((520 + 13 * (TA - PhS (zSs C))) - 1) ((3300 + 55 * (TA - PhS (zSs C))) - 6) from ?_)
  have hil := get_lt2 hr
  have hil2 := get_lt2 hr_2
  have hie : i = i2 := (nI_eq (by omega) (by omega)).mp (hv.symm.trans hv_2)
  subst hie
  have hre : r = r2 := Option.some.inj (hr.symm.trans hr_2)
  subst hre
  subst hv
  obtain ⟨kc1, kc2, kc3, kc4, kc5, kc6, kc7⟩ := (show capB pcap kcap rcap tcap scap mcap socap from hcap)
  obtain ⟨hli_1, hln_1, hel_1⟩ := PersL.at (Sub.self hv1)
  have hE_2 := hel_1 _ _ _ ha_2 hr
  have hPB := pLf_b (hE_2)
  obtain ⟨hp0, hp1, hp2, hp3, hp4, hp5, hp6, hp7, hp8⟩ := hPB
  obtain ⟨hno_i, hpk_i, hhl_i, hev_i⟩ := hc11 _ _ hr
  have hFl := rdF_l ((zSs C, c) : RdS) m.2.2.1
  rw [hF] at hFl
  obtain ⟨hFl1, hFl2⟩ := hFl
  have hFl1 : (zSs C).length ≤ F.1.length := hFl1
  have hFl2 : PhS (zSs C) ≤ PhS F.1 := hFl2
  refine (show Go g κ 5 [some (.ref x), some (.int (nI i)), some (.int u), none, none, none, none] [.ref a2] [v0, v2, v3, v4, v5, v6, v7, [(x, .inr (0, [.ref b, .ref lp, .ref lk, .ref lr, .ref lt, .ref ls, .ref lm, .ref so, .int (nI (zBn C))]))], v1] ((520 + 13 * (TA - PhS (zSs C))) - 1) ((3300 + 55 * (TA - PhS (zSs C))) - 6) from ?_)
  refine g_astore_n (q := 6) (lv2 := [some (.ref x), some (.int (nI i)), some (.int u), some (.ref a2), none, none, none]) B dX1_read_5 rfl (Nat.le_of_ble_eq_true rfl) (rv_r _) rfl ?_
  refine g_aload_n (q := 7) B dX1_read_6 rfl rfl (rv_r _) ?_
  refine g_iload_n (q := 8) B dX1_read_7 rfl rfl ?_
  refine g_callV (q := 11) (is := [7, 5]) (kc2 := (520 + 13 * (TA - PhS (zSs C))) - 2) (ks2 := (3300 + 55 * (TA - PhS (zSs C))) - 12) B [.int u] (ct_X1_messageWith g J (x := x) (lk := lk) (b := b) (lp := lp) (lr := lr) (lt := lt) (ls := ls) (lm := lm) (so := so) (bxs := (zBn C)) (Ms := (zMs C)) (mcap := mcap) (v := u) hv6 (by first | assumption | omega | rfl)) dX1_read_8 rfl (rc_at B (ci := 0) rfl (k := 7) rfl) rfl q2898 q2900 qs46 q77 q2901 rfl rfl moX1_messageWith rfl rfl (by decide) (by decide) (Nat.le_of_ble_eq_true rfl) (by omega) (by omega) (fun E8 L1 hx8 => ?_) (fun v8 L1 hp8 => ?_)
  · skip
    obtain ⟨rfl, hx8⟩ := hx8
    obtain ⟨rfl, hx8⟩ := hx8
    exact absurd (by rw [hu, inR_k (by have := get_lt2 hm; omega)]; simpa using get_lt2 hm) hx8
  obtain ⟨i8, a8, r8, rfl, rfl, hv_8, hr_8, hE_8⟩ := hp8
  refine (show Go g κ 11 [some (.ref x), some (.int (nI i)), some (.int u), some (.ref a2), none, none, none] [.ref a8] [v0, v2, v3, v4, v5, v7, v1, [(x, .inr (0, [.ref b, .ref lp, .ref lk, .ref lr, .ref lt, .ref ls, .ref lm, .ref so, .int (nI (zBn C))]))], v6] ((520 + 13 * (TA - PhS (zSs C))) - 2) ((3300 + 55 * (TA - PhS (zSs C))) - 12) from ?_)
  have hjl := get_lt2 hm
  have hjl8 := get_lt2 hr_8
  have hje : j = i8 := (nI_eq (by omega) (by omega)).mp (hu.symm.trans hv_8)
  subst hje
  have hme : m = r8 := Option.some.inj (hm.symm.trans hr_8)
  subst hme
  subst hu
  have hmm := List.mem_of_getElem? hm
  obtain ⟨hm1, hm2, hm3, hm4⟩ := hmb _ hmm
  have hCB := (hp7 _ _ hch).2
  obtain ⟨hcb1, hcb2, hcb3⟩ := hCB
  have hcb := hhl_i c.1 (Or.inr (Or.inr (Or.inl ⟨by rw [he]; simp, Or.inr (Or.inr ⟨_, c, hch, Or.inl rfl⟩)⟩)))
  refine (show Go g κ 11 [some (.ref x), some (.int (nI i)), some (.int (nI j)), some (.ref a2), none, none, none] [.ref a8] [v0, v2, v3, v4, v5, v7, v1, [(x, .inr (0, [.ref b, .ref lp, .ref lk, .ref lr, .ref lt, .ref ls, .ref lm, .ref so, .int (nI (zBn C))]))], v6] ((520 + 13 * (TA - PhS (zSs C))) - 2) ((3300 + 55 * (TA - PhS (zSs C))) - 12) from ?_)
  refine g_astore (q := 13) (lv2 := [some (.ref x), some (.int (nI i)), some (.int (nI j)), some (.ref a2), some (.ref a8), none, none]) B dX1_read_11 rfl (Nat.le_of_ble_eq_true rfl) (rv_r _) rfl ?_
  refine g_aload_n (q := 14) B dX1_read_13 rfl rfl (rv_r _) ?_
  refine g_callV (q := 17) (is := [6]) (kc2 := (520 + 13 * (TA - PhS (zSs C))) - 2) (ks2 := (3300 + 55 * (TA - PhS (zSs C))) - 12) B [] (ct_X4_isIn_s g J (a := a2) (x := x) (pks := pks) (r := r) (W0 := v1)  (hE_2)) dX1_read_14 rfl (rc_in B (ci := 2) rfl (k := 6) rfl (Sub.hm (hE_2) fun _ z => PersP.hm z)) rfl q1211 q1207 q1208 q90 q1209 rfl rfl moX4_isIn rfl rfl (by decide) (by decide) (Nat.le_of_ble_eq_true rfl) (by omega) (by omega) (fun _ _ hx => noX_x hx) (fun v14 L1 hp14 => ?_)
  obtain ⟨rfl, rfl⟩ := hp14
  refine (show Go g κ 17 [some (.ref x), some (.int (nI i)), some (.int (nI j)), some (.ref a2), some (.ref a8), none, none] [.int (nI (if ¬ pEp r = none then 1 else 0))] [v0, v2, v3, v4, v5, v7, [(x, .inr (0, [.ref b, .ref lp, .ref lk, .ref lr, .ref lt, .ref ls, .ref lm, .ref so, .int (nI (zBn C))]))], v6, v1] ((520 + 13 * (TA - PhS (zSs C))) - 2) ((3300 + 55 * (TA - PhS (zSs C))) - 12) from ?_)
  refine g_if_eq (tgt := 67) (q := 20) B dX1_read_17 rfl (by decide) (bo_eq) (fun c17 => ?_) (fun c17 => ?_)
  · skip
    exact absurd (by rw [he]; simp) c17
  · skip
    have c17 := Classical.not_not.mp c17
    refine g_aload_n (q := 21) B dX1_read_20 rfl rfl (rv_r _) ?_
    obtain ⟨ev_3, pl_3, nd_3, ch_3, ecap_3, pcap_3, nn_3, nc_3, plc_3, md_3, hP_3, hpl_3, hec_3, hpc_3, hc_3_0, hs_3_0, hs_3_1, hs_3_2, hs_3_3⟩ := PersP.at (hE_2)
    refine g_getNM (q := 24) B (ci := 2) (k := 8) (j := 3) in_X4 rfl dX1_read_21 rfl rfl (hc_3_0) (Nat.le_of_ble_eq_true rfl) q1901 rfl rfl ?_
    refine g_stk (y := .int (nI m.1)) (by rw [he]; rfl) ?_
    refine g_aload (q := 26) B dX1_read_24 rfl rfl (rv_r _) ?_
    have hc_4_0 := MsgP.at (hE_8)
    refine g_getNM (q := 29) B (ci := 11) (k := 7) (j := 0) in_X21 rfl dX1_read_26 rfl rfl (hc_4_0) (Nat.le_of_ble_eq_true rfl) q2875 rfl rfl ?_
    refine g_icmp_ne (tgt := 67) (q := 32) B dX1_read_29 rfl (by decide) (not_congr (nI_eq (by omega) (by omega))) (fun c29 => ?_) (fun c29 => ?_)
    · skip
      exact absurd rfl c29
    · skip
      refine g_aload (q := 34) B dX1_read_32 rfl rfl (rv_r _) ?_
      refine g_getNM (q := 37) B (ci := 11) (k := 7) (j := 2) in_X21 rfl dX1_read_34 rfl rfl (hc_4_0) (Nat.le_of_ble_eq_true rfl) q2879 rfl rfl ?_
      refine g_aload_n (q := 38) B dX1_read_37 rfl rfl (rv_r _) ?_
      refine g_getNM (q := 41) B (ci := 2) (k := 8) (j := 8) in_X4 rfl dX1_read_38 rfl rfl (hc_3_0) (Nat.le_of_ble_eq_true rfl) q1911 rfl rfl ?_
      refine g_aload (q := 43) B dX1_read_41 rfl rfl (rv_r _) ?_
      refine g_getNM (q := 46) B (ci := 11) (k := 7) (j := 1) in_X21 rfl dX1_read_43 rfl rfl (hc_4_0) (Nat.le_of_ble_eq_true rfl) q2877 rfl rfl ?_
      refine g_callS (q := 49) (is := []) (kc2 := (520 + 13 * (TA - PhS (zSs C))) - 2) (ks2 := (3300 + 55 * (TA - PhS (zSs C))) - 12) B [.int (nI m.2.1)] (ct_J26_valueOf_k g J (k := m.2.1)  (by omega)) dX1_read_46 rfl q685 q686 q111 q687 rfl rfl moJ26_valueOf rfl rfl (by decide) (by decide) (Nat.le_of_ble_eq_true rfl) (by omega) (by omega) (fun _ _ hx => noX_x hx) (fun v46 L1 hp46 => ?_)
      obtain ⟨rfl, rfl⟩ := hp46
      refine (show Go g κ 49 [some (.ref x), some (.int (nI i)), some (.int (nI j)), some (.ref a2), some (.ref a8), none, none] [.ref (kI g m.2.1), .ref ch_3, .int (nI m.2.2.1)] [v0, v2, v3, v4, v5, v7, [(x, .inr (0, [.ref b, .ref lp, .ref lk, .ref lr, .ref lt, .ref ls, .ref lm, .ref so, .int (nI (zBn C))]))], v6, v1] ((520 + 13 * (TA - PhS (zSs C))) - 2) ((3300 + 55 * (TA - PhS (zSs C))) - 12) from ?_)
      refine g_callV (q := 52) (is := [8]) (kc2 := (520 + 13 * (TA - PhS (zSs C))) - 2) (ks2 := (3300 + 55 * (TA - PhS (zSs C))) - 12) B [.ref (kI g m.2.1)] (ct_CmP_getS g J (t := ch_3) (F := (pCh r)) (n := nc_3) (k := m.2.1) (r := c) (W0 := v1)  (hs_3_3) (hch) (by omega)) dX1_read_49 rfl (rc_in B (ci := 27) rfl (k := 8) rfl (Sub.hm (hs_3_3) fun _ z => MoP.hm z)) rfl q1825 q1826 q1827 q91 q1828 rfl rfl moJ10_get rfl rfl (by decide) (by decide) (Nat.le_of_ble_eq_true rfl) (by omega) (by omega) (fun _ _ hx => noX_x hx) (fun v49 L1 hp49 => ?_)
      obtain ⟨a49, rfl, rfl, hE_49⟩ := hp49
      refine (show Go g κ 52 [some (.ref x), some (.int (nI i)), some (.int (nI j)), some (.ref a2), some (.ref a8), none, none] [.ref a49, .int (nI m.2.2.1)] [v0, v2, v3, v4, v5, v7, [(x, .inr (0, [.ref b, .ref lp, .ref lk, .ref lr, .ref lt, .ref ls, .ref lm, .ref so, .int (nI (zBn C))]))], v6, v1] ((520 + 13 * (TA - PhS (zSs C))) - 2) ((3300 + 55 * (TA - PhS (zSs C))) - 12) from ?_)
      refine g_castRS (ci := 7) (q := 55) B rfl (rc_in B (ci := 7) rfl (k := 8) rfl (Sub.hm (hE_49) fun _ z => ChnP.hm z)) dX1_read_52 rfl q2867 ?_
      obtain ⟨lf_5, nl_5, hC_5, hc_5_0, hs_5_0⟩ := ChnP.at (hE_49)
      refine g_getNM (q := 58) B (ci := 7) (k := 8) (j := 1) in_X12 rfl dX1_read_55 rfl rfl (hc_5_0) (Nat.le_of_ble_eq_true rfl) q2192 rfl rfl ?_
      refine g_iconst (v := nI 4) (q := 59) B dX1_read_58 rfl (by decide) ?_
      refine g_iadd (v := nI (c.2.1 + 4)) (q := 60) B dX1_read_59 rfl (nI_add _ _) ?_
      refine g_icmp_gt (tgt := 67) (q := 63) B dX1_read_60 rfl (by decide) (nI_ltI (by omega) (by omega)) (fun c60 => ?_) (fun c60 => ?_)
      · skip
        exact absurd hle (by omega)
      · skip
        refine g_iconst (v := nI 1) (q := 64) B dX1_read_63 rfl (by decide) ?_
        refine g_goto (tgt := 68) B dX1_read_64 (by decide) ?_
        refine g_callS (q := 71) (is := []) (kc2 := (520 + 13 * (TA - PhS (zSs C))) - 3) (ks2 := (3300 + 55 * (TA - PhS (zSs C))) - 18) B [.int (nI 1)] (ct_X1_can g J (c := True) (dc := instDecidableTrue)  ) dX1_read_68 rfl q2331 q2332 q77 q2333 rfl rfl moX1_can rfl rfl (by decide) (by decide) (Nat.le_of_ble_eq_true rfl) (by omega) (by omega) (fun E68 L1 hx68 => ?_) (fun v68 L1 hp68 => ?_)
        · skip
          obtain ⟨rfl, hx68⟩ := hx68
          obtain ⟨rfl, hx68⟩ := hx68
          exact absurd trivial hx68
        obtain ⟨rfl, rfl, ht_68⟩ := hp68
        refine (show Go g κ 71 [some (.ref x), some (.int (nI i)), some (.int (nI j)), some (.ref a2), some (.ref a8), none, none] [] [v0, v2, v3, v4, v5, v7, [(x, .inr (0, [.ref b, .ref lp, .ref lk, .ref lr, .ref lt, .ref ls, .ref lm, .ref so, .int (nI (zBn C))]))], v6, v1] ((520 + 13 * (TA - PhS (zSs C))) - 3) ((3300 + 55 * (TA - PhS (zSs C))) - 18) from ?_)
        have hkp := rdK_p ((zSs C, c) : RdS)
        obtain ⟨pu1_p, pwi_p, pu2_p, hpwi_p, hpcl_p, hpe_p⟩ := PersL.opn hv1 ha_2 hr
        refine g_open 8 rfl hpe_p rfl ?_
        refine (show Go g κ 71 [some (.ref x), some (.int (nI i)), some (.int (nI j)), some (.ref a2), some (.ref a8), none, none] [] [v0, v2, v3, v4, v5, v7, [(x, .inr (0, [.ref b, .ref lp, .ref lk, .ref lr, .ref lt, .ref ls, .ref lm, .ref so, .int (nI (zBn C))]))], v6, pu1_p, pwi_p, pu2_p] ((520 + 13 * (TA - PhS (zSs C))) - 3) ((3300 + 55 * (TA - PhS (zSs C))) - 18) from ?_)
        obtain ⟨ev_p, pl_p, nd_p, ch_p, ecap_p, pcap_p, nn_p, nc_p, plc_p, md_p, v0_p, v1_p, v2_p, v3_p, hP_p, hpl_p, hec_p, hpc_p, hv0_p, hv1_p, hv2_p, hv3_p, rfl⟩ := hpwi_p
        refine g_open 9 rfl rfl rfl ?_
        refine (show Go g κ 71 [some (.ref x), some (.int (nI i)), some (.int (nI j)), some (.ref a2), some (.ref a8), none, none] [] [v0, v2, v3, v4, v5, v7, [(x, .inr (0, [.ref b, .ref lp, .ref lk, .ref lr, .ref lt, .ref ls, .ref lm, .ref so, .int (nI (zBn C))]))], v6, pu1_p, pu2_p, [(a2, .inr (2, [.int (nI (pNo r)), .ref ev_p, .ref pl_p, .int (oI (pEp r)), .int (nI (pLf r)), .ref nd_p, .int (nI (pOn r)), .int (nI (pKy r)), .ref ch_p, .int (oI (pRn r)), .ref x]))], v0_p, v1_p, v2_p, v3_p] ((520 + 13 * (TA - PhS (zSs C))) - 3) ((3300 + 55 * (TA - PhS (zSs C))) - 18) from ?_)
        obtain ⟨f_c, mm_c, wm_c, wb_c, hm_c, ho_c, hb_c, he_c⟩ := hv3_p
        refine g_open 14 rfl he_c rfl ?_
        refine (show Go g κ 71 [some (.ref x), some (.int (nI i)), some (.int (nI j)), some (.ref a2), some (.ref a8), none, none] [] [v0, v2, v3, v4, v5, v7, [(x, .inr (0, [.ref b, .ref lp, .ref lk, .ref lr, .ref lt, .ref ls, .ref lm, .ref so, .int (nI (zBn C))]))], v6, pu1_p, pu2_p, [(a2, .inr (2, [.int (nI (pNo r)), .ref ev_p, .ref pl_p, .int (oI (pEp r)), .int (nI (pLf r)), .ref nd_p, .int (nI (pOn r)), .int (nI (pKy r)), .ref ch_p, .int (oI (pRn r)), .ref x]))], v0_p, v1_p, v2_p, wm_c, wb_c] ((520 + 13 * (TA - PhS (zSs C))) - 3) ((3300 + 55 * (TA - PhS (zSs C))) - 18) from ?_)
        obtain ⟨ac, hac⟩ : ∃ a, f_c m.2.1 = some a := by
          cases ha9 : f_c m.2.1 with
          | none => have z := (MoE.iffB hb_c ho_c m.2.1).mp ha9; rw [hch] at z; cases z
          | some a => exact ⟨a, rfl⟩
        obtain ⟨rc9, y1, y2, y3, hrc9, hcc9, hcl9, -, hye⟩ := BgM.opn hb_c ho_c hac
        have hre9 : c = rc9 := Option.some.inj (hch.symm.trans hrc9)
        subst hre9
        refine g_open 15 rfl hye rfl ?_
        refine (show Go g κ 71 [some (.ref x), some (.int (nI i)), some (.int (nI j)), some (.ref a2), some (.ref a8), none, none] [] [v0, v2, v3, v4, v5, v7, [(x, .inr (0, [.ref b, .ref lp, .ref lk, .ref lr, .ref lt, .ref ls, .ref lm, .ref so, .int (nI (zBn C))]))], v6, pu1_p, pu2_p, [(a2, .inr (2, [.int (nI (pNo r)), .ref ev_p, .ref pl_p, .int (oI (pEp r)), .int (nI (pLf r)), .ref nd_p, .int (nI (pOn r)), .int (nI (pKy r)), .ref ch_p, .int (oI (pRn r)), .ref x]))], v0_p, v1_p, v2_p, wm_c, y1, y2, y3] ((520 + 13 * (TA - PhS (zSs C))) - 3) ((3300 + 55 * (TA - PhS (zSs C))) - 18) from ?_)
        refine g_aload_n (q := 72) B dX1_read_71 rfl rfl (rv_r _) ?_
        refine g_getN (q := 75) B (ci := 2) (k := 10) (j := 8) in_X4 rfl dX1_read_72 rfl rfl (Nat.le_of_ble_eq_true rfl) q1911 rfl rfl ?_
        refine g_aload (q := 77) B dX1_read_75 rfl rfl (rv_r _) ?_
        refine g_getNM (q := 80) B (ci := 11) (k := 7) (j := 1) in_X21 rfl dX1_read_77 rfl rfl (hc_4_0) (Nat.le_of_ble_eq_true rfl) q2877 rfl rfl ?_
        refine g_callS (q := 83) (is := []) (kc2 := (520 + 13 * (TA - PhS (zSs C))) - 3) (ks2 := (3300 + 55 * (TA - PhS (zSs C))) - 18) B [.int (nI m.2.1)] (ct_J26_valueOf_k g J (k := m.2.1)  (by omega)) dX1_read_80 rfl q685 q686 q111 q687 rfl rfl moJ26_valueOf rfl rfl (by decide) (by decide) (Nat.le_of_ble_eq_true rfl) (by omega) (by omega) (fun _ _ hx => noX_x hx) (fun v80 L1 hp80 => ?_)
        obtain ⟨rfl, rfl⟩ := hp80
        refine (show Go g κ 83 [some (.ref x), some (.int (nI i)), some (.int (nI j)), some (.ref a2), some (.ref a8), none, none] [.ref (kI g m.2.1), .ref ch_p] [v0, v2, v3, v4, v5, v7, [(x, .inr (0, [.ref b, .ref lp, .ref lk, .ref lr, .ref lt, .ref ls, .ref lm, .ref so, .int (nI (zBn C))]))], v6, pu1_p, pu2_p, [(a2, .inr (2, [.int (nI (pNo r)), .ref ev_p, .ref pl_p, .int (oI (pEp r)), .int (nI (pLf r)), .ref nd_p, .int (nI (pOn r)), .int (nI (pKy r)), .ref ch_p, .int (oI (pRn r)), .ref x]))], v0_p, v1_p, v2_p, wm_c, y1, y2, y3] ((520 + 13 * (TA - PhS (zSs C))) - 3) ((3300 + 55 * (TA - PhS (zSs C))) - 18) from ?_)
        refine g_callV (q := 86) (is := [14]) (kc2 := (520 + 13 * (TA - PhS (zSs C))) - 3) (ks2 := (3300 + 55 * (TA - PhS (zSs C))) - 18) B [.ref (kI g m.2.1)] (ct_J10_get g J (t := ch_p) (f := f_c) (n := nc_p) (md := mm_c) (k := m.2.1) hm_c (by omega)) dX1_read_83 rfl (rc_in B (ci := 27) rfl (k := 14) rfl (MapP.hm hm_c)) rfl q1825 q1826 q1827 q91 q1828 rfl rfl moJ10_get rfl rfl (by decide) (by decide) (Nat.le_of_ble_eq_true rfl) (by omega) (by omega) (fun _ _ hx => noX_x hx) (fun v83 L1 hp83 => ?_)
        obtain ⟨u0_83, rfl, rfl, hu0_83⟩ := hp83
        rw [(show f_c m.2.1 = some ac from hac)]
        refine (show Go g κ 86 [some (.ref x), some (.int (nI i)), some (.int (nI j)), some (.ref a2), some (.ref a8), none, none] [.ref ac] [v0, v2, v3, v4, v5, v7, [(x, .inr (0, [.ref b, .ref lp, .ref lk, .ref lr, .ref lt, .ref ls, .ref lm, .ref so, .int (nI (zBn C))]))], v6, pu1_p, pu2_p, [(a2, .inr (2, [.int (nI (pNo r)), .ref ev_p, .ref pl_p, .int (oI (pEp r)), .int (nI (pLf r)), .ref nd_p, .int (nI (pOn r)), .int (nI (pKy r)), .ref ch_p, .int (oI (pRn r)), .ref x]))], v0_p, v1_p, v2_p, y1, y2, y3, u0_83] ((520 + 13 * (TA - PhS (zSs C))) - 3) ((3300 + 55 * (TA - PhS (zSs C))) - 18) from ?_)
        refine g_castRS (ci := 7) (q := 89) B rfl (rc_in B (ci := 7) rfl (k := 15) rfl (ChnP.hm hcc9)) dX1_read_86 rfl q2867 ?_
        refine g_astore (q := 91) (lv2 := [some (.ref x), some (.int (nI i)), some (.int (nI j)), some (.ref a2), some (.ref a8), some (.ref ac), none]) B dX1_read_89 rfl (Nat.le_of_ble_eq_true rfl) (rv_r _) rfl ?_
        refine g_aload (q := 93) B dX1_read_91 rfl rfl (rv_r _) ?_
        refine g_getNM (q := 96) B (ci := 11) (k := 7) (j := 2) in_X21 rfl dX1_read_93 rfl rfl (hc_4_0) (Nat.le_of_ble_eq_true rfl) q2879 rfl rfl ?_
        refine g_aload (q := 98) B dX1_read_96 rfl rfl (rv_r _) ?_
        obtain ⟨lf_6, nl_6, hC_6, hc_6_0, hs_6_0⟩ := ChnP.at (Sub.self hcc9)
        refine g_getNM (q := 101) B (ci := 7) (k := 15) (j := 1) in_X12 rfl dX1_read_98 rfl rfl (hc_6_0) (Nat.le_of_ble_eq_true rfl) q2192 rfl rfl ?_
        refine g_icmp_ge (tgt := 123) (q := 104) B dX1_read_101 rfl (by decide) (nI_leI (by omega) (by omega)) (fun c101 => ?_) (fun c101 => ?_)
        · skip
          refine g_iconst (v := nI 1) (q := 124) B dX1_read_123 rfl (by decide) ?_
          refine g_goto (tgt := 128) B dX1_read_124 (by decide) ?_
          refine g_callS (q := 131) (is := []) (kc2 := (520 + 13 * (TA - PhS (zSs C))) - 4) (ks2 := (3300 + 55 * (TA - PhS (zSs C))) - 24) B [.int (nI 1)] (ct_X1_found_2 g J (c := True) (dc := instDecidableTrue)  ) dX1_read_128 rfl q2357 q2358 q77 q2359 rfl rfl moX1_found_2 rfl rfl (by decide) (by decide) (Nat.le_of_ble_eq_true rfl) (by omega) (by omega) (fun E128 L1 hx128 => ?_) (fun v128 L1 hp128 => ?_)
          · skip
            obtain ⟨rfl, hx128⟩ := hx128
            obtain ⟨rfl, hx128⟩ := hx128
            exact absurd trivial hx128
          obtain ⟨rfl, rfl, ht_128⟩ := hp128
          refine (show Go g κ 131 [some (.ref x), some (.int (nI i)), some (.int (nI j)), some (.ref a2), some (.ref a8), some (.ref ac), none] [] [v0, v2, v3, v4, v5, v7, [(x, .inr (0, [.ref b, .ref lp, .ref lk, .ref lr, .ref lt, .ref ls, .ref lm, .ref so, .int (nI (zBn C))]))], v6, pu1_p, pu2_p, [(a2, .inr (2, [.int (nI (pNo r)), .ref ev_p, .ref pl_p, .int (oI (pEp r)), .int (nI (pLf r)), .ref nd_p, .int (nI (pOn r)), .int (nI (pKy r)), .ref ch_p, .int (oI (pRn r)), .ref x]))], v0_p, v1_p, v2_p, y1, y2, y3, u0_83] ((520 + 13 * (TA - PhS (zSs C))) - 4) ((3300 + 55 * (TA - PhS (zSs C))) - 24) from ?_)
          refine g_aload (q := 133) B dX1_read_131 rfl rfl (rv_r _) ?_
          refine g_getNM (q := 136) B (ci := 11) (k := 7) (j := 2) in_X21 rfl dX1_read_133 rfl rfl (hc_4_0) (Nat.le_of_ble_eq_true rfl) q2879 rfl rfl ?_
          refine g_aload (q := 138) B dX1_read_136 rfl rfl (rv_r _) ?_
          refine g_getNM (q := 141) B (ci := 7) (k := 15) (j := 1) in_X12 rfl dX1_read_138 rfl rfl (hc_6_0) (Nat.le_of_ble_eq_true rfl) q2192 rfl rfl ?_
          refine g_icmp_ge (tgt := 171) (q := 144) B dX1_read_141 rfl (by decide) (nI_leI (by omega) (by omega)) (fun c141 => ?_) (fun c141 => ?_)
          · skip
            have lp171 : ∀ (n171 : Nat) (k : Nat) (S : RdS) (l171_0 : va_W) (l171_15 : va_W), BookP g b S.1 (zBx C) (zZz C) l171_0 → ChnP g ac S.2 l171_15 → (k ≤ (m.2.2.1 - c.2.1)) → (S = rdK ((zSs C, c) : RdS) k) → (∀ i n, S.2.2.2 i = some n → n < 1000) → (m.2.2.1 - c.2.1) - k = n171 → Go g κ 171 [some (.ref x), some (.int (nI i)), some (.int (nI j)), some (.ref a2), some (.ref a8), some (.ref ac), none] [] [l171_0, v2, v3, v4, v5, v7, [(x, .inr (0, [.ref b, .ref lp, .ref lk, .ref lr, .ref lt, .ref ls, .ref lm, .ref so, .int (nI (zBn C))]))], v6, pu1_p, pu2_p, [(a2, .inr (2, [.int (nI (pNo r)), .ref ev_p, .ref pl_p, .int (oI (pEp r)), .int (nI (pLf r)), .ref nd_p, .int (nI (pOn r)), .int (nI (pKy r)), .ref ch_p, .int (oI (pRn r)), .ref x]))], v0_p, v1_p, v2_p, y1, l171_15, y3, u0_83] (20 + 80 * (4 - k) + 40 + 80 + 13 * (TA - PhS S.1)) (100 + 500 * (4 - k) + 300 + 300 + 55 * (TA - PhS S.1)) := by
              intro n171
              induction n171 using Nat.strongRecOn with
              | _ n171 ih171 =>
              intro k S l171_0 l171_15 hl171_0 hl171_15 hk hS hSb hmu171
              have hnlt : ¬ m.2.2.1 < c.2.1 := by omega
              have hRF : PhS (rdK ((zSs C, c) : RdS) (m.2.2.1 - c.2.1)).1 ≤ PhS F.1 := by rw [← hF, rdF_n (S := ((zSs C, c) : RdS)) hnlt rfl]; exact (Ph_frm _ _).1
              have hkp2 := hkp k
              rw [← hS] at hkp2
              have hkp2 : S.2.2.1 = c.2.1 + k := hkp2
              have hmS := rdK_m ((zSs C, c) : RdS) (show k ≤ (m.2.2.1 - c.2.1) from hk)
              rw [← hS] at hmS
              have hmS1 : PhS S.1 ≤ PhS (rdK ((zSs C, c) : RdS) (m.2.2.1 - c.2.1)).1 := hmS.1
              obtain ⟨hs1, hs2⟩ := hsc k hk
              rw [← hS] at hs1 hs2
              refine g_aload (q := 173) B dX1_read_171 rfl rfl (rv_r _) ?_
              obtain ⟨lf_7, nl_7, hC_7, hc_7_0, hs_7_0⟩ := ChnP.at (Sub.self hl171_15)
              refine g_getNM (q := 176) B (ci := 7) (k := 15) (j := 1) in_X12 rfl dX1_read_173 rfl rfl (hc_7_0) (Nat.le_of_ble_eq_true rfl) q2192 rfl rfl ?_
              refine g_aload (q := 178) B dX1_read_176 rfl rfl (rv_r _) ?_
              refine g_getNM (q := 181) B (ci := 11) (k := 7) (j := 2) in_X21 rfl dX1_read_178 rfl rfl (hc_4_0) (Nat.le_of_ble_eq_true rfl) q2879 rfl rfl ?_
              refine g_icmp_ge (tgt := 227) (q := 184) B dX1_read_181 rfl (by decide) (nI_leI (by omega) (by omega)) (fun c181 => ?_) (fun c181 => ?_)
              · skip
                have hkN : k = (m.2.2.1 - c.2.1) := by omega
                have hSF : S = rdK ((zSs C, c) : RdS) (m.2.2.1 - (((zSs C, c) : RdS)).2.2.1) := by rw [hS, hkN]
                obtain ⟨⟨q2, k2⟩, hq2⟩ : ∃ p, frm S.1 (S.2.1, none, 8) = p := ⟨_, rfl⟩
                have hFe := hF.symm.trans (rdF_n (S := ((zSs C, c) : RdS)) (q := q2) (i := k2) hnlt (by rw [← hSF]; exact hq2))
                rw [← hSF] at hFe
                have hg2 := Ph_fr hq2
                have hfl2 : q2.length ≤ 980 := by rw [hFe] at hfl; exact hfl
                have hTA2 : PhS q2 ≤ TA := by rw [hFe] at hTA; exact hTA
                refine g_aload_n (q := 228) B dX1_read_227 rfl rfl (rv_r _) ?_
                refine g_aload (q := 230) B dX1_read_228 rfl rfl (rv_r _) ?_
                refine g_callV (q := 233) (is := [6, 0, 13]) (kc2 := 85) (ks2 := 300) B [.ref ac] (ct_X1_goesAlong g J (x := x) (lk := lk) (b := b) (lp := lp) (lr := lr) (lt := lt) (ls := ls) (lm := lm) (so := so) (bxs := (zBn C)) (ss := S.1) (bx := (zBx C)) (z := (zZz C)) (c := ac) (r := S.2) (s2 := q2) (i := k2) hl171_0 hl171_15 (by omega) (by omega) (by omega) (hq2)) dX1_read_230 rfl (rc_at B (ci := 0) rfl (k := 6) rfl) rfl q2907 q2909 qs47 q77 q2910 rfl rfl moX1_goesAlong rfl rfl (by decide) (by decide) (Nat.le_of_ble_eq_true rfl) (by omega) (by omega) (fun _ _ hx => noX_x hx) (fun v230 L1 hp230 => ?_)
                obtain ⟨u1_230, u2_230, rfl, rfl, hu1_230, hu2_230, hph_230⟩ := hp230
                refine (show Go g κ 233 [some (.ref x), some (.int (nI i)), some (.int (nI j)), some (.ref a2), some (.ref a8), some (.ref ac), none] [] [v2, v3, v4, v5, v7, v6, pu1_p, pu2_p, [(a2, .inr (2, [.int (nI (pNo r)), .ref ev_p, .ref pl_p, .int (oI (pEp r)), .int (nI (pLf r)), .ref nd_p, .int (nI (pOn r)), .int (nI (pKy r)), .ref ch_p, .int (oI (pRn r)), .ref x]))], v0_p, v1_p, v2_p, y1, y3, u0_83, [(x, .inr (0, [.ref b, .ref lp, .ref lk, .ref lr, .ref lt, .ref ls, .ref lm, .ref so, .int (nI (zBn C))]))], u1_230, u2_230] 85 300 from ?_)
                have hr_8 : ChnP g ac F.2 u2_230 := by rw [hFe]; exact hu2_230
                have hr_9 : BookP g b F.1 (zBx C) (zZz C) u1_230 := by rw [hFe]; exact hu1_230
                have hC9 : ChB F.2 := by
                  obtain ⟨_, _, _, h9, -⟩ := hr_8
                  exact h9
                obtain ⟨wc_10, ewc_10⟩ : ∃ w : va_W, w = ([y1, u2_230, y3] : List va_W).flatten := ⟨_, rfl⟩
                have hwc_10 : BgM (ChnP g) f_c (fup (pCh r) m.2.1 (some F.2)) wc_10 := by
                  rw [ewc_10]
                  exact hcl9 _ _ hr_8
                refine g_close (w := wc_10) [12, 16, 12] rfl ewc_10 rfl ?_
                refine (show Go g κ 233 [some (.ref x), some (.int (nI i)), some (.int (nI j)), some (.ref a2), some (.ref a8), some (.ref ac), none] [] [v2, v3, v4, v5, v7, v6, pu1_p, pu2_p, [(a2, .inr (2, [.int (nI (pNo r)), .ref ev_p, .ref pl_p, .int (oI (pEp r)), .int (nI (pLf r)), .ref nd_p, .int (nI (pOn r)), .int (nI (pKy r)), .ref ch_p, .int (oI (pRn r)), .ref x]))], v0_p, v1_p, v2_p, u0_83, [(x, .inr (0, [.ref b, .ref lp, .ref lk, .ref lr, .ref lt, .ref ls, .ref lm, .ref so, .int (nI (zBn C))]))], u1_230, wc_10] 85 300 from ?_)
                have hoc9 : ∀ q, 128 ≤ q → f_c q = none ∧ fup (pCh r) m.2.1 (some F.2) q = none := by
                  intro q hq
                  refine ⟨(ho_c q hq).1, ?_⟩
                  rw [fup_n (by omega)]; exact (ho_c q hq).2
                obtain ⟨wc_11, ewc_11⟩ : ∃ w : va_W, w = ([u0_83, wc_10] : List va_W).flatten := ⟨_, rfl⟩
                have hwc_11 : MoP g (ChnP g) ch_p (fup (pCh r) m.2.1 (some F.2)) nc_p wc_11 := by
                  rw [ewc_11]
                  exact ⟨_, _, _, _, hu0_83, hoc9, hwc_10, rfl⟩
                refine g_close (w := wc_11) [12, 14] rfl ewc_11 rfl ?_
                refine (show Go g κ 233 [some (.ref x), some (.int (nI i)), some (.int (nI j)), some (.ref a2), some (.ref a8), some (.ref ac), none] [] [v2, v3, v4, v5, v7, v6, pu1_p, pu2_p, [(a2, .inr (2, [.int (nI (pNo r)), .ref ev_p, .ref pl_p, .int (oI (pEp r)), .int (nI (pLf r)), .ref nd_p, .int (nI (pOn r)), .int (nI (pKy r)), .ref ch_p, .int (oI (pRn r)), .ref x]))], v0_p, v1_p, v2_p, [(x, .inr (0, [.ref b, .ref lp, .ref lk, .ref lr, .ref lt, .ref ls, .ref lm, .ref so, .int (nI (zBn C))]))], u1_230, wc_11] 85 300 from ?_)
                obtain ⟨wc_12, ewc_12⟩ : ∃ w : va_W, w = ([[(a2, .inr (2, [.int (nI (pNo r)), .ref ev_p, .ref pl_p, .int (oI (pEp r)), .int (nI (pLf r)), .ref nd_p, .int (nI (pOn r)), .int (nI (pKy r)), .ref ch_p, .int (oI (pRn r)), .ref x]))], v0_p, v1_p, v2_p, wc_11] : List va_W).flatten := ⟨_, rfl⟩
                have hwc_12 : PersP g a2 x pks ((pNo r, pEv r, pPk r, pEp r, pLf r, pNd r, pOn r, pKy r, fup (pCh r) m.2.1 (some F.2), pRn r) : PeS) wc_12 := by
                  rw [ewc_12]
                  exact ⟨ev_p, pl_p, nd_p, ch_p, ecap_p, pcap_p, nn_p, nc_p, plc_p, md_p, _, _, _, _, (by exact ⟨hp0, hp1, hp2, hp3, hp4, hp5, hp6, (fun j d h => by have h : fup (pCh r) m.2.1 (some F.2) j = some d := h; unfold fup at h; split at h; (rename_i e9; cases h; rw [e9]; exact ⟨hm2, hC9⟩); exact hp7 j d h), hp8⟩), hpl_p, hec_p, hpc_p, hv0_p, hv1_p, hv2_p, hwc_11, rfl⟩
                refine g_close (w := wc_12) [8, 8, 8, 8, 10] rfl ewc_12 rfl ?_
                refine (show Go g κ 233 [some (.ref x), some (.int (nI i)), some (.int (nI j)), some (.ref a2), some (.ref a8), some (.ref ac), none] [] [v2, v3, v4, v5, v7, v6, pu1_p, pu2_p, [(x, .inr (0, [.ref b, .ref lp, .ref lk, .ref lr, .ref lt, .ref ls, .ref lm, .ref so, .int (nI (zBn C))]))], u1_230, wc_12] 85 300 from ?_)
                obtain ⟨wc_13, ewc_13⟩ : ∃ w : va_W, w = ([pu1_p, wc_12, pu2_p] : List va_W).flatten := ⟨_, rfl⟩
                have hwc_13 : PersL g lp ps ((zPs C).set i ((pNo r, pEv r, pPk r, pEp r, pLf r, pNd r, pOn r, pKy r, fup (pCh r) m.2.1 (some F.2), pRn r) : PeS)) pcap x pks pmd wc_13 := by
                  rw [ewc_13]
                  exact hpcl_p _ _ hwc_12
                refine g_close (w := wc_13) [6, 9, 6] rfl ewc_13 rfl ?_
                refine (show Go g κ 233 [some (.ref x), some (.int (nI i)), some (.int (nI j)), some (.ref a2), some (.ref a8), some (.ref ac), none] [] [v2, v3, v4, v5, v7, v6, [(x, .inr (0, [.ref b, .ref lp, .ref lk, .ref lr, .ref lt, .ref ls, .ref lm, .ref so, .int (nI (zBn C))]))], u1_230, wc_13] 85 300 from ?_)
                have hr3 : ((zPs C).set i ((pNo r, pEv r, pPk r, pEp r, pLf r, pNd r, pOn r, pKy r, fup (pCh r) m.2.1 (some F.2), pRn r) : PeS))[i]? = some ((pNo r, pEv r, pPk r, pEp r, pLf r, pNd r, pOn r, pKy r, fup (pCh r) m.2.1 (some F.2), pRn r) : PeS) := set_at hr
                obtain ⟨hli_14, hln_14, hel_14⟩ := PersL.at (Sub.self hwc_13)
                have hE_15 := hel_14 _ _ _ ha_2 hr3
                refine g_aload_n (q := 234) B dX1_read_233 rfl rfl (rv_r _) ?_
                refine g_callV (q := 237) (is := [8, 0]) (kc2 := 8) (ks2 := 30) B [] (ct_X4_notes_L g J (lp := lp) (pps := ps) (Ps := ((zPs C).set i ((pNo r, pEv r, pPk r, pEp r, pLf r, pNd r, pOn r, pKy r, fup (pCh r) m.2.1 (some F.2), pRn r) : PeS))) (pcp := pcap) (ix := i) (pmd := pmd) (a := a2) (x := x) (pks := pks) (r := ((pNo r, pEv r, pPk r, pEp r, pLf r, pNd r, pOn r, pKy r, fup (pCh r) m.2.1 (some F.2), pRn r) : PeS)) (lk := lk) (Ks := (zKs C)) (kcap := kcap) hwc_13 hv2 (ha_2) (hr3) (hpk_i)) dX1_read_234 rfl (rc_in B (ci := 2) rfl (k := 8) rfl (Sub.hm (hE_15) fun _ z => PersP.hm z)) rfl q2012 q2013 q2014 q90 q2015 rfl rfl moX4_notes rfl rfl (by decide) (by decide) (Nat.le_of_ble_eq_true rfl) (Nat.le_of_ble_eq_true rfl) (Nat.le_of_ble_eq_true rfl) (fun _ _ hx => noX_x hx) (fun v234 L1 hp234 => ?_)
                obtain ⟨E234, u0_234, rfl, rfl, hu0_234, hE_234⟩ := hp234
                refine (show Go g κ 237 [some (.ref x), some (.int (nI i)), some (.int (nI j)), some (.ref a2), some (.ref a8), some (.ref ac), none] [] [v3, v4, v5, v7, v6, [(x, .inr (0, [.ref b, .ref lp, .ref lk, .ref lr, .ref lt, .ref ls, .ref lm, .ref so, .int (nI (zBn C))]))], u1_230, u0_234, v2] 8 30 from ?_)
                have hr_16 : PersL g lp ps ((zPs C).set i ((pNo r, E234, pPk r, pEp r, pLf r, pNd r, pOn r, pKy r, fup (pCh r) m.2.1 (some F.2), pRn r) : PeS)) pcap x pks pmd u0_234 := by have z := hu0_234; rw [List.set_set] at z; exact z
                refine g_aload_n (q := 238) B dX1_read_237 rfl rfl (rv_r _) ?_
                refine g_get (q := 241) B (ci := 0) (k := 5) (j := 0) in_X1 rfl dX1_read_238 rfl rfl (Nat.le_of_ble_eq_true rfl) q277 rfl rfl ?_
                refine g_aload (q := 243) B dX1_read_241 rfl rfl (rv_r _) ?_
                refine g_getNM (q := 246) B (ci := 11) (k := 4) (j := 3) in_X21 rfl dX1_read_243 rfl rfl (hc_4_0) (Nat.le_of_ble_eq_true rfl) q2881 rfl rfl ?_
                refine g_callV (q := 249) (is := [6]) (kc2 := 8) (ks2 := 30) B [.int (nI m.2.2.2)] (ct_X2_value g J (b := b) (ss := F.1) (bx := (zBx C)) (z := (zZz C)) (i := m.2.2.2) hr_9 (by omega)) dX1_read_246 rfl (rc_in B (ci := 1) rfl (k := 6) rfl (BookP.hm hr_9)) rfl q1148 q1149 q1150 q78 q1151 rfl rfl moX2_value rfl rfl (by decide) (by decide) (Nat.le_of_ble_eq_true rfl) (Nat.le_of_ble_eq_true rfl) (Nat.le_of_ble_eq_true rfl) (fun _ _ hx => noX_x hx) (fun v246 L1 hp246 => ?_)
                obtain ⟨rfl, rfl⟩ := hp246
                refine (show Go g κ 249 [some (.ref x), some (.int (nI i)), some (.int (nI j)), some (.ref a2), some (.ref a8), some (.ref ac), none] [.int (vl F.1 m.2.2.2)] [v3, v4, v5, v7, v6, [(x, .inr (0, [.ref b, .ref lp, .ref lk, .ref lr, .ref lt, .ref ls, .ref lm, .ref so, .int (nI (zBn C))]))], u0_234, v2, u1_230] 8 30 from ?_)
                obtain ⟨wc_17, ewc_17⟩ : ∃ w : va_W, w = ([[(x, .inr (0, [.ref b, .ref lp, .ref lk, .ref lr, .ref lt, .ref ls, .ref lm, .ref so, .int (nI (zBn C))]))], u1_230, u0_234, v2, v3, v4, v5, v6, v7] : List va_W).flatten := ⟨_, rfl⟩
                have hwc_17 : KgP g x ((F.1, zBx C, zZz C, (zPs C).set i ((pNo r, E234, pPk r, pEp r, pLf r, pNd r, pOn r, pKy r, fup (pCh r) m.2.1 (some F.2), pRn r) : PeS), zKs C, zRs C, zTs C, zSt C, zMs C, zSo C, zBn C) : KsS) wc_17 := by
                  rw [ewc_17]
                  exact ⟨b, lp, lk, lr, lt, ls, lm, so, pcap, kcap, rcap, tcap, scap, mcap, socap, ps, pks, pmd, _, _, _, _, _, _, _, _, hcap, hr_9, hr_16, hv2, hv3, hv4, hv5, hv6, hv7, rfl⟩
                refine g_close (w := wc_17) [5, 7, 5, 5, 0, 0, 0, 1, 0] rfl ewc_17 rfl ?_
                refine (show Go g κ 249 [some (.ref x), some (.int (nI i)), some (.int (nI j)), some (.ref a2), some (.ref a8), some (.ref ac), none] [.int (vl F.1 m.2.2.2)] [wc_17] 8 30 from ?_)
                exact g_iret B E dX1_read_249 (⟨E234, _, rfl, rfl, hwc_17, hE_234⟩)
              · skip
                have hkn : k + 1 ≤ (m.2.2.1 - c.2.1) := by have := hkp k; rw [← hS] at this; have h9 : S.2.2.1 = c.2.1 + k := this; omega
                obtain ⟨hs1, hs2⟩ := hsc k (by omega)
                rw [← hS] at hs1 hs2
                obtain ⟨hs3, hs4⟩ := hsc (k + 1) hkn
                have hSe : rdK ((zSs C, c) : RdS) (k + 1) = rd1 S := by rw [hS]; rfl
                rw [hSe] at hs3 hs4
                obtain ⟨⟨q1, k1⟩, hq1⟩ : ∃ p, frm S.1 (S.2.1, none, 7) = p := ⟨_, rfl⟩
                obtain ⟨⟨q2, k2⟩, hq2⟩ : ∃ p, frm q1 (S.2.1, none, 8) = p := ⟨_, rfl⟩
                have hg1 := Ph_fr hq1
                have hg2 := Ph_fr hq2
                have hrd : rd1 S = (q2, (k2, S.2.2.1 + 1, fup S.2.2.2 S.2.2.1 (some k1))) := by unfold rd1; rw [hq1, hq2]
                rw [hrd] at hs3 hs4
                have hs3 : k2 < q2.length := hs3
                have hs4 : q2.length ≤ 970 := hs4
                have hmF := rdK_m ((zSs C, c) : RdS) (show k + 1 ≤ (m.2.2.1 - c.2.1) from hkn)
                rw [hSe, hrd] at hmF
                have hmF1 : PhS q2 ≤ PhS (rdK ((zSs C, c) : RdS) (m.2.2.1 - c.2.1)).1 := hmF.1
                obtain ⟨lf_v, nl_v, v0_v, hC_v, hv0_v, rfl⟩ := hl171_15
                refine g_open 15 rfl rfl rfl ?_
                refine (show Go g κ 184 [some (.ref x), some (.int (nI i)), some (.int (nI j)), some (.ref a2), some (.ref a8), some (.ref ac), none] [] [l171_0, v2, v3, v4, v5, v7, [(x, .inr (0, [.ref b, .ref lp, .ref lk, .ref lr, .ref lt, .ref ls, .ref lm, .ref so, .int (nI (zBn C))]))], v6, pu1_p, pu2_p, [(a2, .inr (2, [.int (nI (pNo r)), .ref ev_p, .ref pl_p, .int (oI (pEp r)), .int (nI (pLf r)), .ref nd_p, .int (nI (pOn r)), .int (nI (pKy r)), .ref ch_p, .int (oI (pRn r)), .ref x]))], v0_p, v1_p, v2_p, y1, y3, u0_83, [(ac, .inr (7, [.int (nI S.2.1), .int (nI S.2.2.1), .ref lf_v]))], v0_v] (20 + 80 * (4 - k) + 40 + 80 + 13 * (TA - PhS S.1)) (100 + 500 * (4 - k) + 300 + 300 + 55 * (TA - PhS S.1)) from ?_)
                refine g_aload (q := 186) B dX1_read_184 rfl rfl (rv_r _) ?_
                refine g_getN (q := 189) B (ci := 7) (k := 17) (j := 2) in_X12 rfl dX1_read_186 rfl rfl (Nat.le_of_ble_eq_true rfl) q2195 rfl rfl ?_
                refine g_aload (q := 191) B dX1_read_189 rfl rfl (rv_r _) ?_
                refine g_getN (q := 194) B (ci := 7) (k := 17) (j := 1) in_X12 rfl dX1_read_191 rfl rfl (Nat.le_of_ble_eq_true rfl) q2192 rfl rfl ?_
                refine g_callS (q := 197) (is := []) (kc2 := 20 + 80 * (4 - k) + 40 + 80 + 13 * (TA - PhS S.1)) (ks2 := 100 + 500 * (4 - k) + 300 + 300 + 55 * (TA - PhS S.1)) B [.int (nI S.2.2.1)] (ct_J26_valueOf_k g J (k := S.2.2.1)  (by omega)) dX1_read_194 rfl q685 q686 q111 q687 rfl rfl moJ26_valueOf rfl rfl (by decide) (by decide) (Nat.le_of_ble_eq_true rfl) (by omega) (by omega) (fun _ _ hx => noX_x hx) (fun v194 L1 hp194 => ?_)
                obtain ⟨rfl, rfl⟩ := hp194
                refine (show Go g κ 197 [some (.ref x), some (.int (nI i)), some (.int (nI j)), some (.ref a2), some (.ref a8), some (.ref ac), none] [.ref (kI g S.2.2.1), .ref lf_v] [l171_0, v2, v3, v4, v5, v7, [(x, .inr (0, [.ref b, .ref lp, .ref lk, .ref lr, .ref lt, .ref ls, .ref lm, .ref so, .int (nI (zBn C))]))], v6, pu1_p, pu2_p, [(a2, .inr (2, [.int (nI (pNo r)), .ref ev_p, .ref pl_p, .int (oI (pEp r)), .int (nI (pLf r)), .ref nd_p, .int (nI (pOn r)), .int (nI (pKy r)), .ref ch_p, .int (oI (pRn r)), .ref x]))], v0_p, v1_p, v2_p, y1, y3, u0_83, [(ac, .inr (7, [.int (nI S.2.1), .int (nI S.2.2.1), .ref lf_v]))], v0_v] (20 + 80 * (4 - k) + 40 + 80 + 13 * (TA - PhS S.1)) (100 + 500 * (4 - k) + 300 + 300 + 55 * (TA - PhS S.1)) from ?_)
                refine g_aload_n (q := 198) B dX1_read_197 rfl rfl (rv_r _) ?_
                refine g_get (q := 201) B (ci := 0) (k := 6) (j := 0) in_X1 rfl dX1_read_198 rfl rfl (Nat.le_of_ble_eq_true rfl) q277 rfl rfl ?_
                refine g_aload (q := 203) B dX1_read_201 rfl rfl (rv_r _) ?_
                refine g_getN (q := 206) B (ci := 7) (k := 17) (j := 0) in_X12 rfl dX1_read_203 rfl rfl (Nat.le_of_ble_eq_true rfl) q2191 rfl rfl ?_
                refine g_bipush (v := nI 7) (q := 208) B dX1_read_206 rfl (by decide) ?_
                refine g_callV (q := 211) (is := [0]) (kc2 := 40 + 20 + 80 * (4 - (k + 1)) + 40 + 80 + 13 * (TA - PhS q1)) (ks2 := 250 + 100 + 500 * (4 - (k + 1)) + 300 + 300 + 55 * (TA - PhS q1)) B [.int (nI S.2.1), .int (nI 7)] (ct_X2_from_p g J (b := b) (ss := S.1) (bx := (zBx C)) (z := (zZz C)) (one := S.2.1) (l := 7) (s2 := q1) (i := k1) hl171_0 (hs1) (by omega) (Or.inl (by decide)) (hq1)) dX1_read_208 rfl (rc_in B (ci := 1) rfl (k := 0) rfl (BookP.hm hl171_0)) rfl q1229 q1230 q1231 q78 q1232 rfl rfl moX2_from rfl rfl (by decide) (by decide) (Nat.le_of_ble_eq_true rfl) (by omega) (by omega) (fun _ _ hx => noX_x hx) (fun v208 L1 hp208 => ?_)
                obtain ⟨u0_208, rfl, rfl, hu0_208, hph_208⟩ := hp208
                refine (show Go g κ 211 [some (.ref x), some (.int (nI i)), some (.int (nI j)), some (.ref a2), some (.ref a8), some (.ref ac), none] [.int (nI k1), .ref (kI g S.2.2.1), .ref lf_v] [v2, v3, v4, v5, v7, [(x, .inr (0, [.ref b, .ref lp, .ref lk, .ref lr, .ref lt, .ref ls, .ref lm, .ref so, .int (nI (zBn C))]))], v6, pu1_p, pu2_p, [(a2, .inr (2, [.int (nI (pNo r)), .ref ev_p, .ref pl_p, .int (oI (pEp r)), .int (nI (pLf r)), .ref nd_p, .int (nI (pOn r)), .int (nI (pKy r)), .ref ch_p, .int (oI (pRn r)), .ref x]))], v0_p, v1_p, v2_p, y1, y3, u0_83, [(ac, .inr (7, [.int (nI S.2.1), .int (nI S.2.2.1), .ref lf_v]))], v0_v, u0_208] (40 + 20 + 80 * (4 - (k + 1)) + 40 + 80 + 13 * (TA - PhS q1)) (250 + 100 + 500 * (4 - (k + 1)) + 300 + 300 + 55 * (TA - PhS q1)) from ?_)
                refine g_callS (q := 214) (is := []) (kc2 := (40 + 20 + 80 * (4 - (k + 1)) + 40 + 80 + 13 * (TA - PhS q1)) - 1) (ks2 := (250 + 100 + 500 * (4 - (k + 1)) + 300 + 300 + 55 * (TA - PhS q1)) - 1) B [.int (nI k1)] (ct_J26_valueOf g J (v := nI k1)  ) dX1_read_211 rfl q685 q686 q111 q687 rfl rfl moJ26_valueOf rfl rfl (by decide) (by decide) (Nat.le_of_ble_eq_true rfl) (by omega) (by omega) (fun _ _ hx => noX_x hx) (fun v211 L1 hp211 => ?_)
                obtain ⟨a211, u0_211, rfl, rfl, hu0_211⟩ := hp211
                refine (show Go g κ 214 [some (.ref x), some (.int (nI i)), some (.int (nI j)), some (.ref a2), some (.ref a8), some (.ref ac), none] [.ref a211, .ref (kI g S.2.2.1), .ref lf_v] [v2, v3, v4, v5, v7, [(x, .inr (0, [.ref b, .ref lp, .ref lk, .ref lr, .ref lt, .ref ls, .ref lm, .ref so, .int (nI (zBn C))]))], v6, pu1_p, pu2_p, [(a2, .inr (2, [.int (nI (pNo r)), .ref ev_p, .ref pl_p, .int (oI (pEp r)), .int (nI (pLf r)), .ref nd_p, .int (nI (pOn r)), .int (nI (pKy r)), .ref ch_p, .int (oI (pRn r)), .ref x]))], v0_p, v1_p, v2_p, y1, y3, u0_83, [(ac, .inr (7, [.int (nI S.2.1), .int (nI S.2.2.1), .ref lf_v]))], v0_v, u0_208, u0_211] ((40 + 20 + 80 * (4 - (k + 1)) + 40 + 80 + 13 * (TA - PhS q1)) - 1) ((250 + 100 + 500 * (4 - (k + 1)) + 300 + 300 + 55 * (TA - PhS q1)) - 1) from ?_)
                refine g_callV (q := 217) (is := [17, 18]) (kc2 := (40 + 20 + 80 * (4 - (k + 1)) + 40 + 80 + 13 * (TA - PhS q1)) - 2) (ks2 := (250 + 100 + 500 * (4 - (k + 1)) + 300 + 300 + 55 * (TA - PhS q1)) - 7) B [.ref (kI g S.2.2.1), .ref a211] (ct_NmP_put g J (t := lf_v) (F := S.2.2.2) (n := nl_v) (k := S.2.2.1) (a := a211) (r := k1) hv0_v hu0_211 (by omega)) dX1_read_214 rfl (rc_in B (ci := 27) rfl (k := 17) rfl (MoP.hm hv0_v)) rfl q2084 q2085 q2086 q91 q2087 rfl rfl moJ10_put rfl rfl (by decide) (by decide) (Nat.le_of_ble_eq_true rfl) (by omega) (by omega) (fun _ _ hx => noX_x hx) (fun v214 L1 hp214 => ?_)
                obtain ⟨o214, u0_214, rfl, rfl, hu0_214⟩ := hp214
                refine (show Go g κ 217 [some (.ref x), some (.int (nI i)), some (.int (nI j)), some (.ref a2), some (.ref a8), some (.ref ac), none] [va_rf o214] [v2, v3, v4, v5, v7, [(x, .inr (0, [.ref b, .ref lp, .ref lk, .ref lr, .ref lt, .ref ls, .ref lm, .ref so, .int (nI (zBn C))]))], v6, pu1_p, pu2_p, [(a2, .inr (2, [.int (nI (pNo r)), .ref ev_p, .ref pl_p, .int (oI (pEp r)), .int (nI (pLf r)), .ref nd_p, .int (nI (pOn r)), .int (nI (pKy r)), .ref ch_p, .int (oI (pRn r)), .ref x]))], v0_p, v1_p, v2_p, y1, y3, u0_83, [(ac, .inr (7, [.int (nI S.2.1), .int (nI S.2.2.1), .ref lf_v]))], u0_208, u0_214] ((40 + 20 + 80 * (4 - (k + 1)) + 40 + 80 + 13 * (TA - PhS q1)) - 2) ((250 + 100 + 500 * (4 - (k + 1)) + 300 + 300 + 55 * (TA - PhS q1)) - 7) from ?_)
                refine g_pop (q := 218) B dX1_read_217 rfl (rv_c (rv_o _)) ?_
                obtain ⟨wc_18, ewc_18⟩ : ∃ w : va_W, w = ([[(ac, .inr (7, [.int (nI S.2.1), .int (nI S.2.2.1), .ref lf_v]))], u0_214] : List va_W).flatten := ⟨_, rfl⟩
                have hwc_18 : ChnP g ac ((S.2.1, S.2.2.1, fup S.2.2.2 S.2.2.1 (some k1)) : ChS) wc_18 := by
                  rw [ewc_18]
                  exact ⟨lf_v, (nl_v + (if S.2.2.2 S.2.2.1 = none then 1 else 0)), _, ⟨(show S.2.1 < 1000 by omega), (show S.2.2.1 < 100 by omega), fup_bd hSb (by omega)⟩, hu0_214, rfl⟩
                refine g_close (w := wc_18) [16, 17] rfl ewc_18 rfl ?_
                refine (show Go g κ 218 [some (.ref x), some (.int (nI i)), some (.int (nI j)), some (.ref a2), some (.ref a8), some (.ref ac), none] [] [v2, v3, v4, v5, v7, [(x, .inr (0, [.ref b, .ref lp, .ref lk, .ref lr, .ref lt, .ref ls, .ref lm, .ref so, .int (nI (zBn C))]))], v6, pu1_p, pu2_p, [(a2, .inr (2, [.int (nI (pNo r)), .ref ev_p, .ref pl_p, .int (oI (pEp r)), .int (nI (pLf r)), .ref nd_p, .int (nI (pOn r)), .int (nI (pKy r)), .ref ch_p, .int (oI (pRn r)), .ref x]))], v0_p, v1_p, v2_p, y1, y3, u0_83, u0_208, wc_18] ((40 + 20 + 80 * (4 - (k + 1)) + 40 + 80 + 13 * (TA - PhS q1)) - 2) ((250 + 100 + 500 * (4 - (k + 1)) + 300 + 300 + 55 * (TA - PhS q1)) - 7) from ?_)
                refine g_aload_n (q := 219) B dX1_read_218 rfl rfl (rv_r _) ?_
                refine g_aload (q := 221) B dX1_read_219 rfl rfl (rv_r _) ?_
                refine g_callV (q := 224) (is := [5, 15, 15]) (kc2 := 20 + 80 * (4 - (k + 1)) + 40 + 80 + 13 * (TA - PhS q2)) (ks2 := 100 + 500 * (4 - (k + 1)) + 300 + 300 + 55 * (TA - PhS q2)) B [.ref ac] (ct_X1_goesAlong g J (x := x) (lk := lk) (b := b) (lp := lp) (lr := lr) (lt := lt) (ls := ls) (lm := lm) (so := so) (bxs := (zBn C)) (ss := q1) (bx := (zBx C)) (z := (zZz C)) (c := ac) (r := ((S.2.1, S.2.2.1, fup S.2.2.2 S.2.2.1 (some k1)) : ChS)) (s2 := q2) (i := k2) hu0_208 hwc_18 (by omega) (by show S.2.1 < q1.length; omega) (by show S.2.2.1 < 99; omega) (hq2)) dX1_read_221 rfl (rc_at B (ci := 0) rfl (k := 5) rfl) rfl q2907 q2909 qs47 q77 q2910 rfl rfl moX1_goesAlong rfl rfl (by decide) (by decide) (Nat.le_of_ble_eq_true rfl) (by omega) (by omega) (fun _ _ hx => noX_x hx) (fun v221 L1 hp221 => ?_)
                obtain ⟨u1_221, u2_221, rfl, rfl, hu1_221, hu2_221, hph_221⟩ := hp221
                refine (show Go g κ 224 [some (.ref x), some (.int (nI i)), some (.int (nI j)), some (.ref a2), some (.ref a8), some (.ref ac), none] [] [v2, v3, v4, v5, v7, v6, pu1_p, pu2_p, [(a2, .inr (2, [.int (nI (pNo r)), .ref ev_p, .ref pl_p, .int (oI (pEp r)), .int (nI (pLf r)), .ref nd_p, .int (nI (pOn r)), .int (nI (pKy r)), .ref ch_p, .int (oI (pRn r)), .ref x]))], v0_p, v1_p, v2_p, y1, y3, u0_83, [(x, .inr (0, [.ref b, .ref lp, .ref lk, .ref lr, .ref lt, .ref ls, .ref lm, .ref so, .int (nI (zBn C))]))], u1_221, u2_221] (20 + 80 * (4 - (k + 1)) + 40 + 80 + 13 * (TA - PhS q2)) (100 + 500 * (4 - (k + 1)) + 300 + 300 + 55 * (TA - PhS q2)) from ?_)
                have hr_19 : ChnP g ac ((rd1 S).2) u2_221 := by rw [hrd]; exact hu2_221
                have hr_20 : BookP g b ((rd1 S).1) (zBx C) (zZz C) u1_221 := by rw [hrd]; exact hu1_221
                have hx9 : PhS (rd1 S).1 = PhS q2 := by rw [hrd]
                refine g_goto (tgt := 171) B dX1_read_224 (by decide) ?_
                refine g_pk [16, 0, 0, 0, 0, 0, 10, 0, 0, 0, 0, 0, 0, 0, 0, 2, 0, 0] rfl rfl ?_
                refine (show Go g κ 171 [some (.ref x), some (.int (nI i)), some (.int (nI j)), some (.ref a2), some (.ref a8), some (.ref ac), none] [] [u1_221, v2, v3, v4, v5, v7, [(x, .inr (0, [.ref b, .ref lp, .ref lk, .ref lr, .ref lt, .ref ls, .ref lm, .ref so, .int (nI (zBn C))]))], v6, pu1_p, pu2_p, [(a2, .inr (2, [.int (nI (pNo r)), .ref ev_p, .ref pl_p, .int (oI (pEp r)), .int (nI (pLf r)), .ref nd_p, .int (nI (pOn r)), .int (nI (pKy r)), .ref ch_p, .int (oI (pRn r)), .ref x]))], v0_p, v1_p, v2_p, y1, u2_221, y3, u0_83] (20 + 80 * (4 - (k + 1)) + 40 + 80 + 13 * (TA - PhS q2)) (100 + 500 * (4 - (k + 1)) + 300 + 300 + 55 * (TA - PhS q2)) from ?_)
                refine g_room (kc2 := 20 + 80 * (4 - (k + 1)) + 40 + 80 + 13 * (TA - PhS (rd1 S).1)) (ks2 := 100 + 500 * (4 - (k + 1)) + 300 + 300 + 55 * (TA - PhS (rd1 S).1)) (by omega) (by omega) ?_
                exact ih171 _ (by omega) (k + 1) (rd1 S) u1_221 u2_221 hr_20 hr_19 (hkn) (by rw [hS]; rfl) (by rw [hrd]; exact fup_bd hSb (by omega)) rfl
            have hq42 : PhS ((zSs C, c) : RdS).1 = PhS (zSs C) := rfl
            refine g_room (kc2 := 20 + 80 * (4 - 0) + 40 + 80 + 13 * (TA - PhS ((zSs C, c) : RdS).1)) (ks2 := 100 + 500 * (4 - 0) + 300 + 300 + 55 * (TA - PhS ((zSs C, c) : RdS).1)) (by omega) (by omega) ?_
            exact lp171 _ 0 ((zSs C, c) : RdS) v0 y2 hv0 hcc9 (Nat.zero_le _) (rfl) (hcb3) rfl
          · skip
            obtain ⟨kx, hkx⟩ := hlf (by omega)
            have hkxb := hcb3 _ _ hkx
            obtain ⟨lf_w, nl_w, v0_w, hC_w, hv0_w, rfl⟩ := hcc9
            refine g_open 15 rfl rfl rfl ?_
            refine (show Go g κ 144 [some (.ref x), some (.int (nI i)), some (.int (nI j)), some (.ref a2), some (.ref a8), some (.ref ac), none] [] [v0, v2, v3, v4, v5, v7, [(x, .inr (0, [.ref b, .ref lp, .ref lk, .ref lr, .ref lt, .ref ls, .ref lm, .ref so, .int (nI (zBn C))]))], v6, pu1_p, pu2_p, [(a2, .inr (2, [.int (nI (pNo r)), .ref ev_p, .ref pl_p, .int (oI (pEp r)), .int (nI (pLf r)), .ref nd_p, .int (nI (pOn r)), .int (nI (pKy r)), .ref ch_p, .int (oI (pRn r)), .ref x]))], v0_p, v1_p, v2_p, y1, y3, u0_83, [(ac, .inr (7, [.int (nI c.1), .int (nI c.2.1), .ref lf_w]))], v0_w] ((520 + 13 * (TA - PhS (zSs C))) - 4) ((3300 + 55 * (TA - PhS (zSs C))) - 24) from ?_)
            refine g_aload (q := 146) B dX1_read_144 rfl rfl (rv_r _) ?_
            refine g_getN (q := 149) B (ci := 7) (k := 17) (j := 2) in_X12 rfl dX1_read_146 rfl rfl (Nat.le_of_ble_eq_true rfl) q2195 rfl rfl ?_
            refine g_aload (q := 151) B dX1_read_149 rfl rfl (rv_r _) ?_
            refine g_getNM (q := 154) B (ci := 11) (k := 7) (j := 2) in_X21 rfl dX1_read_151 rfl rfl (hc_4_0) (Nat.le_of_ble_eq_true rfl) q2879 rfl rfl ?_
            refine g_callS (q := 157) (is := []) (kc2 := (520 + 13 * (TA - PhS (zSs C))) - 4) (ks2 := (3300 + 55 * (TA - PhS (zSs C))) - 24) B [.int (nI m.2.2.1)] (ct_J26_valueOf_k g J (k := m.2.2.1)  (by omega)) dX1_read_154 rfl q685 q686 q111 q687 rfl rfl moJ26_valueOf rfl rfl (by decide) (by decide) (Nat.le_of_ble_eq_true rfl) (by omega) (by omega) (fun _ _ hx => noX_x hx) (fun v154 L1 hp154 => ?_)
            obtain ⟨rfl, rfl⟩ := hp154
            refine (show Go g κ 157 [some (.ref x), some (.int (nI i)), some (.int (nI j)), some (.ref a2), some (.ref a8), some (.ref ac), none] [.ref (kI g m.2.2.1), .ref lf_w] [v0, v2, v3, v4, v5, v7, [(x, .inr (0, [.ref b, .ref lp, .ref lk, .ref lr, .ref lt, .ref ls, .ref lm, .ref so, .int (nI (zBn C))]))], v6, pu1_p, pu2_p, [(a2, .inr (2, [.int (nI (pNo r)), .ref ev_p, .ref pl_p, .int (oI (pEp r)), .int (nI (pLf r)), .ref nd_p, .int (nI (pOn r)), .int (nI (pKy r)), .ref ch_p, .int (oI (pRn r)), .ref x]))], v0_p, v1_p, v2_p, y1, y3, u0_83, [(ac, .inr (7, [.int (nI c.1), .int (nI c.2.1), .ref lf_w]))], v0_w] ((520 + 13 * (TA - PhS (zSs C))) - 4) ((3300 + 55 * (TA - PhS (zSs C))) - 24) from ?_)
            refine g_callV (q := 160) (is := [18]) (kc2 := (520 + 13 * (TA - PhS (zSs C))) - 4) (ks2 := (3300 + 55 * (TA - PhS (zSs C))) - 24) B [.ref (kI g m.2.2.1)] (ct_NmP_remove g J (t := lf_w) (F := c.2.2) (n := nl_w) (k := m.2.2.1) (r := kx) hv0_w (hkx) (by omega)) dX1_read_157 rfl (rc_in B (ci := 27) rfl (k := 18) rfl (MoP.hm hv0_w)) rfl q2902 q2903 q2904 q91 q2905 rfl rfl moJ10_remove rfl rfl (by decide) (by decide) (Nat.le_of_ble_eq_true rfl) (by omega) (by omega) (fun _ _ hx => noX_x hx) (fun v157 L1 hp157 => ?_)
            obtain ⟨a157, n2157, u0_157, u1_157, rfl, rfl, hu0_157, hu1_157⟩ := hp157
            refine (show Go g κ 160 [some (.ref x), some (.int (nI i)), some (.int (nI j)), some (.ref a2), some (.ref a8), some (.ref ac), none] [.ref a157] [v0, v2, v3, v4, v5, v7, [(x, .inr (0, [.ref b, .ref lp, .ref lk, .ref lr, .ref lt, .ref ls, .ref lm, .ref so, .int (nI (zBn C))]))], v6, pu1_p, pu2_p, [(a2, .inr (2, [.int (nI (pNo r)), .ref ev_p, .ref pl_p, .int (oI (pEp r)), .int (nI (pLf r)), .ref nd_p, .int (nI (pOn r)), .int (nI (pKy r)), .ref ch_p, .int (oI (pRn r)), .ref x]))], v0_p, v1_p, v2_p, y1, y3, u0_83, [(ac, .inr (7, [.int (nI c.1), .int (nI c.2.1), .ref lf_w]))], u0_157, u1_157] ((520 + 13 * (TA - PhS (zSs C))) - 4) ((3300 + 55 * (TA - PhS (zSs C))) - 24) from ?_)
            refine g_castRS (ci := 35) (q := 163) B rfl (rc_bxat B J (k := 19) rfl (Sub.box (Sub.self hu1_157))) dX1_read_160 rfl q1829 ?_
            refine g_callV (q := 166) (is := [19]) (kc2 := (520 + 13 * (TA - PhS (zSs C))) - 4) (ks2 := (3300 + 55 * (TA - PhS (zSs C))) - 24) B [] (ct_J26_intValue_b g J (a := a157) (v := nI kx) (wb := u1_157)  ((Sub.box (Sub.self hu1_157)))) dX1_read_163 rfl (rc_bxat B J (k := 19) rfl (Sub.box (Sub.self hu1_157))) rfl q1830 q1052 q1053 q111 q1054 rfl rfl moJ26_intValue rfl rfl (by decide) (by decide) (Nat.le_of_ble_eq_true rfl) (by omega) (by omega) (fun _ _ hx => noX_x hx) (fun v163 L1 hp163 => ?_)
            obtain ⟨rfl, rfl⟩ := hp163
            refine (show Go g κ 166 [some (.ref x), some (.int (nI i)), some (.int (nI j)), some (.ref a2), some (.ref a8), some (.ref ac), none] [.int (nI kx)] [v0, v2, v3, v4, v5, v7, [(x, .inr (0, [.ref b, .ref lp, .ref lk, .ref lr, .ref lt, .ref ls, .ref lm, .ref so, .int (nI (zBn C))]))], v6, pu1_p, pu2_p, [(a2, .inr (2, [.int (nI (pNo r)), .ref ev_p, .ref pl_p, .int (oI (pEp r)), .int (nI (pLf r)), .ref nd_p, .int (nI (pOn r)), .int (nI (pKy r)), .ref ch_p, .int (oI (pRn r)), .ref x]))], v0_p, v1_p, v2_p, y1, y3, u0_83, [(ac, .inr (7, [.int (nI c.1), .int (nI c.2.1), .ref lf_w]))], u0_157, u1_157] ((520 + 13 * (TA - PhS (zSs C))) - 4) ((3300 + 55 * (TA - PhS (zSs C))) - 24) from ?_)
            have hFe := hF.symm.trans (rdF_o (S := ((zSs C, c) : RdS)) (show m.2.2.1 < c.2.1 by omega))
            refine g_istore (q := 168) (lv2 := [some (.ref x), some (.int (nI i)), some (.int (nI j)), some (.ref a2), some (.ref a8), some (.ref ac), some (.int (nI kx))]) B dX1_read_166 rfl (Nat.le_of_ble_eq_true rfl) rfl ?_
            obtain ⟨wc_21, ewc_21⟩ : ∃ w : va_W, w = ([[(ac, .inr (7, [.int (nI c.1), .int (nI c.2.1), .ref lf_w]))], u0_157] : List va_W).flatten := ⟨_, rfl⟩
            have hwc_21 : ChnP g ac ((c.1, c.2.1, fup c.2.2 m.2.2.1 none) : ChS) wc_21 := by
              rw [ewc_21]
              exact ⟨lf_w, n2157, _, ⟨hcb1, hcb2, fun i n h => by have h : fup c.2.2 m.2.2.1 none i = some n := h; unfold fup at h; split at h; cases h; exact hcb3 i n h⟩, hu0_157, rfl⟩
            refine g_close (w := wc_21) [17, 17] rfl ewc_21 rfl ?_
            refine (show Go g κ 168 [some (.ref x), some (.int (nI i)), some (.int (nI j)), some (.ref a2), some (.ref a8), some (.ref ac), some (.int (nI kx))] [] [v0, v2, v3, v4, v5, v7, [(x, .inr (0, [.ref b, .ref lp, .ref lk, .ref lr, .ref lt, .ref ls, .ref lm, .ref so, .int (nI (zBn C))]))], v6, pu1_p, pu2_p, [(a2, .inr (2, [.int (nI (pNo r)), .ref ev_p, .ref pl_p, .int (oI (pEp r)), .int (nI (pLf r)), .ref nd_p, .int (nI (pOn r)), .int (nI (pKy r)), .ref ch_p, .int (oI (pRn r)), .ref x]))], v0_p, v1_p, v2_p, y1, y3, u0_83, u1_157, wc_21] ((520 + 13 * (TA - PhS (zSs C))) - 4) ((3300 + 55 * (TA - PhS (zSs C))) - 24) from ?_)
            refine g_goto (tgt := 233) B dX1_read_168 (by decide) ?_
            have hr_22 : ChnP g ac F.2 wc_21 := by rw [hFe]; exact hwc_21
            have hr_23 : BookP g b F.1 (zBx C) (zZz C) v0 := by rw [hFe]; exact hv0
            have hC9 : ChB F.2 := by
              obtain ⟨_, _, _, h9, -⟩ := hr_22
              exact h9
            obtain ⟨wc_24, ewc_24⟩ : ∃ w : va_W, w = ([y1, wc_21, y3] : List va_W).flatten := ⟨_, rfl⟩
            have hwc_24 : BgM (ChnP g) f_c (fup (pCh r) m.2.1 (some F.2)) wc_24 := by
              rw [ewc_24]
              exact hcl9 _ _ hr_22
            refine g_close (w := wc_24) [14, 17, 14] rfl ewc_24 rfl ?_
            refine (show Go g κ 233 [some (.ref x), some (.int (nI i)), some (.int (nI j)), some (.ref a2), some (.ref a8), some (.ref ac), some (.int (nI kx))] [] [v0, v2, v3, v4, v5, v7, [(x, .inr (0, [.ref b, .ref lp, .ref lk, .ref lr, .ref lt, .ref ls, .ref lm, .ref so, .int (nI (zBn C))]))], v6, pu1_p, pu2_p, [(a2, .inr (2, [.int (nI (pNo r)), .ref ev_p, .ref pl_p, .int (oI (pEp r)), .int (nI (pLf r)), .ref nd_p, .int (nI (pOn r)), .int (nI (pKy r)), .ref ch_p, .int (oI (pRn r)), .ref x]))], v0_p, v1_p, v2_p, u0_83, u1_157, wc_24] ((520 + 13 * (TA - PhS (zSs C))) - 4) ((3300 + 55 * (TA - PhS (zSs C))) - 24) from ?_)
            have hoc9 : ∀ q, 128 ≤ q → f_c q = none ∧ fup (pCh r) m.2.1 (some F.2) q = none := by
              intro q hq
              refine ⟨(ho_c q hq).1, ?_⟩
              rw [fup_n (by omega)]; exact (ho_c q hq).2
            obtain ⟨wc_25, ewc_25⟩ : ∃ w : va_W, w = ([u0_83, wc_24] : List va_W).flatten := ⟨_, rfl⟩
            have hwc_25 : MoP g (ChnP g) ch_p (fup (pCh r) m.2.1 (some F.2)) nc_p wc_25 := by
              rw [ewc_25]
              exact ⟨_, _, _, _, hu0_83, hoc9, hwc_24, rfl⟩
            refine g_close (w := wc_25) [14, 15] rfl ewc_25 rfl ?_
            refine (show Go g κ 233 [some (.ref x), some (.int (nI i)), some (.int (nI j)), some (.ref a2), some (.ref a8), some (.ref ac), some (.int (nI kx))] [] [v0, v2, v3, v4, v5, v7, [(x, .inr (0, [.ref b, .ref lp, .ref lk, .ref lr, .ref lt, .ref ls, .ref lm, .ref so, .int (nI (zBn C))]))], v6, pu1_p, pu2_p, [(a2, .inr (2, [.int (nI (pNo r)), .ref ev_p, .ref pl_p, .int (oI (pEp r)), .int (nI (pLf r)), .ref nd_p, .int (nI (pOn r)), .int (nI (pKy r)), .ref ch_p, .int (oI (pRn r)), .ref x]))], v0_p, v1_p, v2_p, u1_157, wc_25] ((520 + 13 * (TA - PhS (zSs C))) - 4) ((3300 + 55 * (TA - PhS (zSs C))) - 24) from ?_)
            obtain ⟨wc_26, ewc_26⟩ : ∃ w : va_W, w = ([[(a2, .inr (2, [.int (nI (pNo r)), .ref ev_p, .ref pl_p, .int (oI (pEp r)), .int (nI (pLf r)), .ref nd_p, .int (nI (pOn r)), .int (nI (pKy r)), .ref ch_p, .int (oI (pRn r)), .ref x]))], v0_p, v1_p, v2_p, wc_25] : List va_W).flatten := ⟨_, rfl⟩
            have hwc_26 : PersP g a2 x pks ((pNo r, pEv r, pPk r, pEp r, pLf r, pNd r, pOn r, pKy r, fup (pCh r) m.2.1 (some F.2), pRn r) : PeS) wc_26 := by
              rw [ewc_26]
              exact ⟨ev_p, pl_p, nd_p, ch_p, ecap_p, pcap_p, nn_p, nc_p, plc_p, md_p, _, _, _, _, (by exact ⟨hp0, hp1, hp2, hp3, hp4, hp5, hp6, (fun j d h => by have h : fup (pCh r) m.2.1 (some F.2) j = some d := h; unfold fup at h; split at h; (rename_i e9; cases h; rw [e9]; exact ⟨hm2, hC9⟩); exact hp7 j d h), hp8⟩), hpl_p, hec_p, hpc_p, hv0_p, hv1_p, hv2_p, hwc_25, rfl⟩
            refine g_close (w := wc_26) [10, 10, 10, 10, 11] rfl ewc_26 rfl ?_
            refine (show Go g κ 233 [some (.ref x), some (.int (nI i)), some (.int (nI j)), some (.ref a2), some (.ref a8), some (.ref ac), some (.int (nI kx))] [] [v0, v2, v3, v4, v5, v7, [(x, .inr (0, [.ref b, .ref lp, .ref lk, .ref lr, .ref lt, .ref ls, .ref lm, .ref so, .int (nI (zBn C))]))], v6, pu1_p, pu2_p, u1_157, wc_26] ((520 + 13 * (TA - PhS (zSs C))) - 4) ((3300 + 55 * (TA - PhS (zSs C))) - 24) from ?_)
            obtain ⟨wc_27, ewc_27⟩ : ∃ w : va_W, w = ([pu1_p, wc_26, pu2_p] : List va_W).flatten := ⟨_, rfl⟩
            have hwc_27 : PersL g lp ps ((zPs C).set i ((pNo r, pEv r, pPk r, pEp r, pLf r, pNd r, pOn r, pKy r, fup (pCh r) m.2.1 (some F.2), pRn r) : PeS)) pcap x pks pmd wc_27 := by
              rw [ewc_27]
              exact hpcl_p _ _ hwc_26
            refine g_close (w := wc_27) [8, 10, 8] rfl ewc_27 rfl ?_
            refine (show Go g κ 233 [some (.ref x), some (.int (nI i)), some (.int (nI j)), some (.ref a2), some (.ref a8), some (.ref ac), some (.int (nI kx))] [] [v0, v2, v3, v4, v5, v7, [(x, .inr (0, [.ref b, .ref lp, .ref lk, .ref lr, .ref lt, .ref ls, .ref lm, .ref so, .int (nI (zBn C))]))], v6, u1_157, wc_27] ((520 + 13 * (TA - PhS (zSs C))) - 4) ((3300 + 55 * (TA - PhS (zSs C))) - 24) from ?_)
            have hr3 : ((zPs C).set i ((pNo r, pEv r, pPk r, pEp r, pLf r, pNd r, pOn r, pKy r, fup (pCh r) m.2.1 (some F.2), pRn r) : PeS))[i]? = some ((pNo r, pEv r, pPk r, pEp r, pLf r, pNd r, pOn r, pKy r, fup (pCh r) m.2.1 (some F.2), pRn r) : PeS) := set_at hr
            obtain ⟨hli_28, hln_28, hel_28⟩ := PersL.at (Sub.self hwc_27)
            have hE_29 := hel_28 _ _ _ ha_2 hr3
            refine g_aload_n (q := 234) B dX1_read_233 rfl rfl (rv_r _) ?_
            refine g_callV (q := 237) (is := [9, 1]) (kc2 := (520 + 13 * (TA - PhS (zSs C))) - 81) (ks2 := (3300 + 55 * (TA - PhS (zSs C))) - 294) B [] (ct_X4_notes_L g J (lp := lp) (pps := ps) (Ps := ((zPs C).set i ((pNo r, pEv r, pPk r, pEp r, pLf r, pNd r, pOn r, pKy r, fup (pCh r) m.2.1 (some F.2), pRn r) : PeS))) (pcp := pcap) (ix := i) (pmd := pmd) (a := a2) (x := x) (pks := pks) (r := ((pNo r, pEv r, pPk r, pEp r, pLf r, pNd r, pOn r, pKy r, fup (pCh r) m.2.1 (some F.2), pRn r) : PeS)) (lk := lk) (Ks := (zKs C)) (kcap := kcap) hwc_27 hv2 (ha_2) (hr3) (hpk_i)) dX1_read_234 rfl (rc_in B (ci := 2) rfl (k := 9) rfl (Sub.hm (hE_29) fun _ z => PersP.hm z)) rfl q2012 q2013 q2014 q90 q2015 rfl rfl moX4_notes rfl rfl (by decide) (by decide) (Nat.le_of_ble_eq_true rfl) (by omega) (by omega) (fun _ _ hx => noX_x hx) (fun v234 L1 hp234 => ?_)
            obtain ⟨E234, u0_234, rfl, rfl, hu0_234, hE_234⟩ := hp234
            refine (show Go g κ 237 [some (.ref x), some (.int (nI i)), some (.int (nI j)), some (.ref a2), some (.ref a8), some (.ref ac), some (.int (nI kx))] [] [v0, v3, v4, v5, v7, [(x, .inr (0, [.ref b, .ref lp, .ref lk, .ref lr, .ref lt, .ref ls, .ref lm, .ref so, .int (nI (zBn C))]))], v6, u1_157, u0_234, v2] ((520 + 13 * (TA - PhS (zSs C))) - 81) ((3300 + 55 * (TA - PhS (zSs C))) - 294) from ?_)
            have hr_30 : PersL g lp ps ((zPs C).set i ((pNo r, E234, pPk r, pEp r, pLf r, pNd r, pOn r, pKy r, fup (pCh r) m.2.1 (some F.2), pRn r) : PeS)) pcap x pks pmd u0_234 := by have z := hu0_234; rw [List.set_set] at z; exact z
            refine g_aload_n (q := 238) B dX1_read_237 rfl rfl (rv_r _) ?_
            refine g_get (q := 241) B (ci := 0) (k := 5) (j := 0) in_X1 rfl dX1_read_238 rfl rfl (Nat.le_of_ble_eq_true rfl) q277 rfl rfl ?_
            refine g_aload (q := 243) B dX1_read_241 rfl rfl (rv_r _) ?_
            refine g_getNM (q := 246) B (ci := 11) (k := 6) (j := 3) in_X21 rfl dX1_read_243 rfl rfl (hc_4_0) (Nat.le_of_ble_eq_true rfl) q2881 rfl rfl ?_
            refine g_callV (q := 249) (is := [0]) (kc2 := (520 + 13 * (TA - PhS (zSs C))) - 81) (ks2 := (3300 + 55 * (TA - PhS (zSs C))) - 294) B [.int (nI m.2.2.2)] (ct_X2_value g J (b := b) (ss := F.1) (bx := (zBx C)) (z := (zZz C)) (i := m.2.2.2) hr_23 (by omega)) dX1_read_246 rfl (rc_in B (ci := 1) rfl (k := 0) rfl (BookP.hm hr_23)) rfl q1148 q1149 q1150 q78 q1151 rfl rfl moX2_value rfl rfl (by decide) (by decide) (Nat.le_of_ble_eq_true rfl) (by omega) (by omega) (fun _ _ hx => noX_x hx) (fun v246 L1 hp246 => ?_)
            obtain ⟨rfl, rfl⟩ := hp246
            refine (show Go g κ 249 [some (.ref x), some (.int (nI i)), some (.int (nI j)), some (.ref a2), some (.ref a8), some (.ref ac), some (.int (nI kx))] [.int (vl F.1 m.2.2.2)] [v3, v4, v5, v7, [(x, .inr (0, [.ref b, .ref lp, .ref lk, .ref lr, .ref lt, .ref ls, .ref lm, .ref so, .int (nI (zBn C))]))], v6, u1_157, u0_234, v2, v0] ((520 + 13 * (TA - PhS (zSs C))) - 81) ((3300 + 55 * (TA - PhS (zSs C))) - 294) from ?_)
            obtain ⟨wc_31, ewc_31⟩ : ∃ w : va_W, w = ([[(x, .inr (0, [.ref b, .ref lp, .ref lk, .ref lr, .ref lt, .ref ls, .ref lm, .ref so, .int (nI (zBn C))]))], v0, u0_234, v2, v3, v4, v5, v6, v7] : List va_W).flatten := ⟨_, rfl⟩
            have hwc_31 : KgP g x ((F.1, zBx C, zZz C, (zPs C).set i ((pNo r, E234, pPk r, pEp r, pLf r, pNd r, pOn r, pKy r, fup (pCh r) m.2.1 (some F.2), pRn r) : PeS), zKs C, zRs C, zTs C, zSt C, zMs C, zSo C, zBn C) : KsS) wc_31 := by
              rw [ewc_31]
              exact ⟨b, lp, lk, lr, lt, ls, lm, so, pcap, kcap, rcap, tcap, scap, mcap, socap, ps, pks, pmd, _, _, _, _, _, _, _, _, hcap, hr_23, hr_30, hv2, hv3, hv4, hv5, hv6, hv7, rfl⟩
            refine g_close (w := wc_31) [4, 8, 6, 6, 0, 0, 0, 1, 0] rfl ewc_31 rfl ?_
            refine (show Go g κ 249 [some (.ref x), some (.int (nI i)), some (.int (nI j)), some (.ref a2), some (.ref a8), some (.ref ac), some (.int (nI kx))] [.int (vl F.1 m.2.2.2)] [u1_157, wc_31] ((520 + 13 * (TA - PhS (zSs C))) - 81) ((3300 + 55 * (TA - PhS (zSs C))) - 294) from ?_)
            refine g_pk [1] rfl rfl ?_
            refine (show Go g κ 249 [some (.ref x), some (.int (nI i)), some (.int (nI j)), some (.ref a2), some (.ref a8), some (.ref ac), some (.int (nI kx))] [.int (vl F.1 m.2.2.2)] [wc_31] ((520 + 13 * (TA - PhS (zSs C))) - 81) ((3300 + 55 * (TA - PhS (zSs C))) - 294) from ?_)
            exact g_iret B E dX1_read_249 (⟨E234, _, rfl, rfl, hwc_31, hE_234⟩)
        · skip
          refine g_aload (q := 106) B dX1_read_104 rfl rfl (rv_r _) ?_
          refine g_getNM (q := 109) B (ci := 7) (k := 15) (j := 2) in_X12 rfl dX1_read_106 rfl rfl (hc_6_0) (Nat.le_of_ble_eq_true rfl) q2195 rfl rfl ?_
          refine g_aload (q := 111) B dX1_read_109 rfl rfl (rv_r _) ?_
          refine g_getNM (q := 114) B (ci := 11) (k := 7) (j := 2) in_X21 rfl dX1_read_111 rfl rfl (hc_4_0) (Nat.le_of_ble_eq_true rfl) q2879 rfl rfl ?_
          refine g_callS (q := 117) (is := []) (kc2 := (520 + 13 * (TA - PhS (zSs C))) - 3) (ks2 := (3300 + 55 * (TA - PhS (zSs C))) - 18) B [.int (nI m.2.2.1)] (ct_J26_valueOf_k g J (k := m.2.2.1)  (by omega)) dX1_read_114 rfl q685 q686 q111 q687 rfl rfl moJ26_valueOf rfl rfl (by decide) (by decide) (Nat.le_of_ble_eq_true rfl) (by omega) (by omega) (fun _ _ hx => noX_x hx) (fun v114 L1 hp114 => ?_)
          obtain ⟨rfl, rfl⟩ := hp114
          refine (show Go g κ 117 [some (.ref x), some (.int (nI i)), some (.int (nI j)), some (.ref a2), some (.ref a8), some (.ref ac), none] [.ref (kI g m.2.2.1), .ref lf_6] [v0, v2, v3, v4, v5, v7, [(x, .inr (0, [.ref b, .ref lp, .ref lk, .ref lr, .ref lt, .ref ls, .ref lm, .ref so, .int (nI (zBn C))]))], v6, pu1_p, pu2_p, [(a2, .inr (2, [.int (nI (pNo r)), .ref ev_p, .ref pl_p, .int (oI (pEp r)), .int (nI (pLf r)), .ref nd_p, .int (nI (pOn r)), .int (nI (pKy r)), .ref ch_p, .int (oI (pRn r)), .ref x]))], v0_p, v1_p, v2_p, y1, y2, y3, u0_83] ((520 + 13 * (TA - PhS (zSs C))) - 3) ((3300 + 55 * (TA - PhS (zSs C))) - 18) from ?_)
          refine g_callV (q := 120) (is := [15]) (kc2 := (520 + 13 * (TA - PhS (zSs C))) - 3) (ks2 := (3300 + 55 * (TA - PhS (zSs C))) - 18) B [.ref (kI g m.2.2.1)] (ct_NmP_has g J (t := lf_6) (F := c.2.2) (n := nl_6) (k := m.2.2.1) (W0 := y2)  (hs_6_0) (by omega)) dX1_read_117 rfl (rc_in B (ci := 27) rfl (k := 15) rfl (Sub.hm (hs_6_0) fun _ z => MoP.hm z)) rfl q1803 q1804 q1805 q91 q1806 rfl rfl moJ10_containsKey rfl rfl (by decide) (by decide) (Nat.le_of_ble_eq_true rfl) (by omega) (by omega) (fun _ _ hx => noX_x hx) (fun v117 L1 hp117 => ?_)
          obtain ⟨rfl, rfl⟩ := hp117
          refine (show Go g κ 120 [some (.ref x), some (.int (nI i)), some (.int (nI j)), some (.ref a2), some (.ref a8), some (.ref ac), none] [.int (nI (if (c.2.2 m.2.2.1).isSome = true then 1 else 0))] [v0, v2, v3, v4, v5, v7, [(x, .inr (0, [.ref b, .ref lp, .ref lk, .ref lr, .ref lt, .ref ls, .ref lm, .ref so, .int (nI (zBn C))]))], v6, pu1_p, pu2_p, [(a2, .inr (2, [.int (nI (pNo r)), .ref ev_p, .ref pl_p, .int (oI (pEp r)), .int (nI (pLf r)), .ref nd_p, .int (nI (pOn r)), .int (nI (pKy r)), .ref ch_p, .int (oI (pRn r)), .ref x]))], v0_p, v1_p, v2_p, y1, y3, u0_83, y2] ((520 + 13 * (TA - PhS (zSs C))) - 3) ((3300 + 55 * (TA - PhS (zSs C))) - 18) from ?_)
          refine g_if_eq (tgt := 127) (q := 123) B dX1_read_120 rfl (by decide) (bo_eq) (fun c120 => ?_) (fun c120 => ?_)
          · skip
            obtain ⟨k9, hk9⟩ := hlf (by omega)
            rw [hk9] at c120
            exact absurd rfl c120
          · skip
            have c120 := Classical.not_not.mp c120
            refine g_iconst (v := nI 1) (q := 124) B dX1_read_123 rfl (by decide) ?_
            refine g_goto (tgt := 128) B dX1_read_124 (by decide) ?_
            refine g_callS (q := 131) (is := []) (kc2 := (520 + 13 * (TA - PhS (zSs C))) - 4) (ks2 := (3300 + 55 * (TA - PhS (zSs C))) - 24) B [.int (nI 1)] (ct_X1_found_2 g J (c := True) (dc := instDecidableTrue)  ) dX1_read_128 rfl q2357 q2358 q77 q2359 rfl rfl moX1_found_2 rfl rfl (by decide) (by decide) (Nat.le_of_ble_eq_true rfl) (by omega) (by omega) (fun E128 L1 hx128 => ?_) (fun v128 L1 hp128 => ?_)
            · skip
              obtain ⟨rfl, hx128⟩ := hx128
              obtain ⟨rfl, hx128⟩ := hx128
              exact absurd trivial hx128
            obtain ⟨rfl, rfl, ht_128⟩ := hp128
            refine (show Go g κ 131 [some (.ref x), some (.int (nI i)), some (.int (nI j)), some (.ref a2), some (.ref a8), some (.ref ac), none] [] [v0, v2, v3, v4, v5, v7, [(x, .inr (0, [.ref b, .ref lp, .ref lk, .ref lr, .ref lt, .ref ls, .ref lm, .ref so, .int (nI (zBn C))]))], v6, pu1_p, pu2_p, [(a2, .inr (2, [.int (nI (pNo r)), .ref ev_p, .ref pl_p, .int (oI (pEp r)), .int (nI (pLf r)), .ref nd_p, .int (nI (pOn r)), .int (nI (pKy r)), .ref ch_p, .int (oI (pRn r)), .ref x]))], v0_p, v1_p, v2_p, y1, y3, u0_83, y2] ((520 + 13 * (TA - PhS (zSs C))) - 4) ((3300 + 55 * (TA - PhS (zSs C))) - 24) from ?_)
            refine g_aload (q := 133) B dX1_read_131 rfl rfl (rv_r _) ?_
            refine g_getNM (q := 136) B (ci := 11) (k := 7) (j := 2) in_X21 rfl dX1_read_133 rfl rfl (hc_4_0) (Nat.le_of_ble_eq_true rfl) q2879 rfl rfl ?_
            refine g_aload (q := 138) B dX1_read_136 rfl rfl (rv_r _) ?_
            refine g_getNM (q := 141) B (ci := 7) (k := 17) (j := 1) in_X12 rfl dX1_read_138 rfl rfl (hc_6_0) (Nat.le_of_ble_eq_true rfl) q2192 rfl rfl ?_
            refine g_icmp_ge (tgt := 171) (q := 144) B dX1_read_141 rfl (by decide) (nI_leI (by omega) (by omega)) (fun c141 => ?_) (fun c141 => ?_)
            · skip
              have lp171 : ∀ (n171 : Nat) (k : Nat) (S : RdS) (l171_0 : va_W) (l171_17 : va_W), BookP g b S.1 (zBx C) (zZz C) l171_0 → ChnP g ac S.2 l171_17 → (k ≤ (m.2.2.1 - c.2.1)) → (S = rdK ((zSs C, c) : RdS) k) → (∀ i n, S.2.2.2 i = some n → n < 1000) → (m.2.2.1 - c.2.1) - k = n171 → Go g κ 171 [some (.ref x), some (.int (nI i)), some (.int (nI j)), some (.ref a2), some (.ref a8), some (.ref ac), none] [] [l171_0, v2, v3, v4, v5, v7, [(x, .inr (0, [.ref b, .ref lp, .ref lk, .ref lr, .ref lt, .ref ls, .ref lm, .ref so, .int (nI (zBn C))]))], v6, pu1_p, pu2_p, [(a2, .inr (2, [.int (nI (pNo r)), .ref ev_p, .ref pl_p, .int (oI (pEp r)), .int (nI (pLf r)), .ref nd_p, .int (nI (pOn r)), .int (nI (pKy r)), .ref ch_p, .int (oI (pRn r)), .ref x]))], v0_p, v1_p, v2_p, y1, y3, u0_83, l171_17] (20 + 80 * (4 - k) + 40 + 80 + 13 * (TA - PhS S.1)) (100 + 500 * (4 - k) + 300 + 300 + 55 * (TA - PhS S.1)) := by
                intro n171
                induction n171 using Nat.strongRecOn with
                | _ n171 ih171 =>
                intro k S l171_0 l171_17 hl171_0 hl171_17 hk hS hSb hmu171
                have hnlt : ¬ m.2.2.1 < c.2.1 := by omega
                have hRF : PhS (rdK ((zSs C, c) : RdS) (m.2.2.1 - c.2.1)).1 ≤ PhS F.1 := by rw [← hF, rdF_n (S := ((zSs C, c) : RdS)) hnlt rfl]; exact (Ph_frm _ _).1
                have hkp2 := hkp k
                rw [← hS] at hkp2
                have hkp2 : S.2.2.1 = c.2.1 + k := hkp2
                have hmS := rdK_m ((zSs C, c) : RdS) (show k ≤ (m.2.2.1 - c.2.1) from hk)
                rw [← hS] at hmS
                have hmS1 : PhS S.1 ≤ PhS (rdK ((zSs C, c) : RdS) (m.2.2.1 - c.2.1)).1 := hmS.1
                obtain ⟨hs1, hs2⟩ := hsc k hk
                rw [← hS] at hs1 hs2
                refine g_aload (q := 173) B dX1_read_171 rfl rfl (rv_r _) ?_
                obtain ⟨lf_32, nl_32, hC_32, hc_32_0, hs_32_0⟩ := ChnP.at (Sub.self hl171_17)
                refine g_getNM (q := 176) B (ci := 7) (k := 17) (j := 1) in_X12 rfl dX1_read_173 rfl rfl (hc_32_0) (Nat.le_of_ble_eq_true rfl) q2192 rfl rfl ?_
                refine g_aload (q := 178) B dX1_read_176 rfl rfl (rv_r _) ?_
                refine g_getNM (q := 181) B (ci := 11) (k := 7) (j := 2) in_X21 rfl dX1_read_178 rfl rfl (hc_4_0) (Nat.le_of_ble_eq_true rfl) q2879 rfl rfl ?_
                refine g_icmp_ge (tgt := 227) (q := 184) B dX1_read_181 rfl (by decide) (nI_leI (by omega) (by omega)) (fun c181 => ?_) (fun c181 => ?_)
                · skip
                  have hkN : k = (m.2.2.1 - c.2.1) := by omega
                  have hSF : S = rdK ((zSs C, c) : RdS) (m.2.2.1 - (((zSs C, c) : RdS)).2.2.1) := by rw [hS, hkN]
                  obtain ⟨⟨q2, k2⟩, hq2⟩ : ∃ p, frm S.1 (S.2.1, none, 8) = p := ⟨_, rfl⟩
                  have hFe := hF.symm.trans (rdF_n (S := ((zSs C, c) : RdS)) (q := q2) (i := k2) hnlt (by rw [← hSF]; exact hq2))
                  rw [← hSF] at hFe
                  have hg2 := Ph_fr hq2
                  have hfl2 : q2.length ≤ 980 := by rw [hFe] at hfl; exact hfl
                  have hTA2 : PhS q2 ≤ TA := by rw [hFe] at hTA; exact hTA
                  refine g_aload_n (q := 228) B dX1_read_227 rfl rfl (rv_r _) ?_
                  refine g_aload (q := 230) B dX1_read_228 rfl rfl (rv_r _) ?_
                  refine g_callV (q := 233) (is := [6, 0, 15]) (kc2 := 85) (ks2 := 300) B [.ref ac] (ct_X1_goesAlong g J (x := x) (lk := lk) (b := b) (lp := lp) (lr := lr) (lt := lt) (ls := ls) (lm := lm) (so := so) (bxs := (zBn C)) (ss := S.1) (bx := (zBx C)) (z := (zZz C)) (c := ac) (r := S.2) (s2 := q2) (i := k2) hl171_0 hl171_17 (by omega) (by omega) (by omega) (hq2)) dX1_read_230 rfl (rc_at B (ci := 0) rfl (k := 6) rfl) rfl q2907 q2909 qs47 q77 q2910 rfl rfl moX1_goesAlong rfl rfl (by decide) (by decide) (Nat.le_of_ble_eq_true rfl) (by omega) (by omega) (fun _ _ hx => noX_x hx) (fun v230 L1 hp230 => ?_)
                  obtain ⟨u1_230, u2_230, rfl, rfl, hu1_230, hu2_230, hph_230⟩ := hp230
                  refine (show Go g κ 233 [some (.ref x), some (.int (nI i)), some (.int (nI j)), some (.ref a2), some (.ref a8), some (.ref ac), none] [] [v2, v3, v4, v5, v7, v6, pu1_p, pu2_p, [(a2, .inr (2, [.int (nI (pNo r)), .ref ev_p, .ref pl_p, .int (oI (pEp r)), .int (nI (pLf r)), .ref nd_p, .int (nI (pOn r)), .int (nI (pKy r)), .ref ch_p, .int (oI (pRn r)), .ref x]))], v0_p, v1_p, v2_p, y1, y3, u0_83, [(x, .inr (0, [.ref b, .ref lp, .ref lk, .ref lr, .ref lt, .ref ls, .ref lm, .ref so, .int (nI (zBn C))]))], u1_230, u2_230] 85 300 from ?_)
                  have hr_33 : ChnP g ac F.2 u2_230 := by rw [hFe]; exact hu2_230
                  have hr_34 : BookP g b F.1 (zBx C) (zZz C) u1_230 := by rw [hFe]; exact hu1_230
                  have hC9 : ChB F.2 := by
                    obtain ⟨_, _, _, h9, -⟩ := hr_33
                    exact h9
                  obtain ⟨wc_35, ewc_35⟩ : ∃ w : va_W, w = ([y1, u2_230, y3] : List va_W).flatten := ⟨_, rfl⟩
                  have hwc_35 : BgM (ChnP g) f_c (fup (pCh r) m.2.1 (some F.2)) wc_35 := by
                    rw [ewc_35]
                    exact hcl9 _ _ hr_33
                  refine g_close (w := wc_35) [12, 16, 12] rfl ewc_35 rfl ?_
                  refine (show Go g κ 233 [some (.ref x), some (.int (nI i)), some (.int (nI j)), some (.ref a2), some (.ref a8), some (.ref ac), none] [] [v2, v3, v4, v5, v7, v6, pu1_p, pu2_p, [(a2, .inr (2, [.int (nI (pNo r)), .ref ev_p, .ref pl_p, .int (oI (pEp r)), .int (nI (pLf r)), .ref nd_p, .int (nI (pOn r)), .int (nI (pKy r)), .ref ch_p, .int (oI (pRn r)), .ref x]))], v0_p, v1_p, v2_p, u0_83, [(x, .inr (0, [.ref b, .ref lp, .ref lk, .ref lr, .ref lt, .ref ls, .ref lm, .ref so, .int (nI (zBn C))]))], u1_230, wc_35] 85 300 from ?_)
                  have hoc9 : ∀ q, 128 ≤ q → f_c q = none ∧ fup (pCh r) m.2.1 (some F.2) q = none := by
                    intro q hq
                    refine ⟨(ho_c q hq).1, ?_⟩
                    rw [fup_n (by omega)]; exact (ho_c q hq).2
                  obtain ⟨wc_36, ewc_36⟩ : ∃ w : va_W, w = ([u0_83, wc_35] : List va_W).flatten := ⟨_, rfl⟩
                  have hwc_36 : MoP g (ChnP g) ch_p (fup (pCh r) m.2.1 (some F.2)) nc_p wc_36 := by
                    rw [ewc_36]
                    exact ⟨_, _, _, _, hu0_83, hoc9, hwc_35, rfl⟩
                  refine g_close (w := wc_36) [12, 14] rfl ewc_36 rfl ?_
                  refine (show Go g κ 233 [some (.ref x), some (.int (nI i)), some (.int (nI j)), some (.ref a2), some (.ref a8), some (.ref ac), none] [] [v2, v3, v4, v5, v7, v6, pu1_p, pu2_p, [(a2, .inr (2, [.int (nI (pNo r)), .ref ev_p, .ref pl_p, .int (oI (pEp r)), .int (nI (pLf r)), .ref nd_p, .int (nI (pOn r)), .int (nI (pKy r)), .ref ch_p, .int (oI (pRn r)), .ref x]))], v0_p, v1_p, v2_p, [(x, .inr (0, [.ref b, .ref lp, .ref lk, .ref lr, .ref lt, .ref ls, .ref lm, .ref so, .int (nI (zBn C))]))], u1_230, wc_36] 85 300 from ?_)
                  obtain ⟨wc_37, ewc_37⟩ : ∃ w : va_W, w = ([[(a2, .inr (2, [.int (nI (pNo r)), .ref ev_p, .ref pl_p, .int (oI (pEp r)), .int (nI (pLf r)), .ref nd_p, .int (nI (pOn r)), .int (nI (pKy r)), .ref ch_p, .int (oI (pRn r)), .ref x]))], v0_p, v1_p, v2_p, wc_36] : List va_W).flatten := ⟨_, rfl⟩
                  have hwc_37 : PersP g a2 x pks ((pNo r, pEv r, pPk r, pEp r, pLf r, pNd r, pOn r, pKy r, fup (pCh r) m.2.1 (some F.2), pRn r) : PeS) wc_37 := by
                    rw [ewc_37]
                    exact ⟨ev_p, pl_p, nd_p, ch_p, ecap_p, pcap_p, nn_p, nc_p, plc_p, md_p, _, _, _, _, (by exact ⟨hp0, hp1, hp2, hp3, hp4, hp5, hp6, (fun j d h => by have h : fup (pCh r) m.2.1 (some F.2) j = some d := h; unfold fup at h; split at h; (rename_i e9; cases h; rw [e9]; exact ⟨hm2, hC9⟩); exact hp7 j d h), hp8⟩), hpl_p, hec_p, hpc_p, hv0_p, hv1_p, hv2_p, hwc_36, rfl⟩
                  refine g_close (w := wc_37) [8, 8, 8, 8, 10] rfl ewc_37 rfl ?_
                  refine (show Go g κ 233 [some (.ref x), some (.int (nI i)), some (.int (nI j)), some (.ref a2), some (.ref a8), some (.ref ac), none] [] [v2, v3, v4, v5, v7, v6, pu1_p, pu2_p, [(x, .inr (0, [.ref b, .ref lp, .ref lk, .ref lr, .ref lt, .ref ls, .ref lm, .ref so, .int (nI (zBn C))]))], u1_230, wc_37] 85 300 from ?_)
                  obtain ⟨wc_38, ewc_38⟩ : ∃ w : va_W, w = ([pu1_p, wc_37, pu2_p] : List va_W).flatten := ⟨_, rfl⟩
                  have hwc_38 : PersL g lp ps ((zPs C).set i ((pNo r, pEv r, pPk r, pEp r, pLf r, pNd r, pOn r, pKy r, fup (pCh r) m.2.1 (some F.2), pRn r) : PeS)) pcap x pks pmd wc_38 := by
                    rw [ewc_38]
                    exact hpcl_p _ _ hwc_37
                  refine g_close (w := wc_38) [6, 9, 6] rfl ewc_38 rfl ?_
                  refine (show Go g κ 233 [some (.ref x), some (.int (nI i)), some (.int (nI j)), some (.ref a2), some (.ref a8), some (.ref ac), none] [] [v2, v3, v4, v5, v7, v6, [(x, .inr (0, [.ref b, .ref lp, .ref lk, .ref lr, .ref lt, .ref ls, .ref lm, .ref so, .int (nI (zBn C))]))], u1_230, wc_38] 85 300 from ?_)
                  have hr3 : ((zPs C).set i ((pNo r, pEv r, pPk r, pEp r, pLf r, pNd r, pOn r, pKy r, fup (pCh r) m.2.1 (some F.2), pRn r) : PeS))[i]? = some ((pNo r, pEv r, pPk r, pEp r, pLf r, pNd r, pOn r, pKy r, fup (pCh r) m.2.1 (some F.2), pRn r) : PeS) := set_at hr
                  obtain ⟨hli_39, hln_39, hel_39⟩ := PersL.at (Sub.self hwc_38)
                  have hE_40 := hel_39 _ _ _ ha_2 hr3
                  refine g_aload_n (q := 234) B dX1_read_233 rfl rfl (rv_r _) ?_
                  refine g_callV (q := 237) (is := [8, 0]) (kc2 := 8) (ks2 := 30) B [] (ct_X4_notes_L g J (lp := lp) (pps := ps) (Ps := ((zPs C).set i ((pNo r, pEv r, pPk r, pEp r, pLf r, pNd r, pOn r, pKy r, fup (pCh r) m.2.1 (some F.2), pRn r) : PeS))) (pcp := pcap) (ix := i) (pmd := pmd) (a := a2) (x := x) (pks := pks) (r := ((pNo r, pEv r, pPk r, pEp r, pLf r, pNd r, pOn r, pKy r, fup (pCh r) m.2.1 (some F.2), pRn r) : PeS)) (lk := lk) (Ks := (zKs C)) (kcap := kcap) hwc_38 hv2 (ha_2) (hr3) (hpk_i)) dX1_read_234 rfl (rc_in B (ci := 2) rfl (k := 8) rfl (Sub.hm (hE_40) fun _ z => PersP.hm z)) rfl q2012 q2013 q2014 q90 q2015 rfl rfl moX4_notes rfl rfl (by decide) (by decide) (Nat.le_of_ble_eq_true rfl) (Nat.le_of_ble_eq_true rfl) (Nat.le_of_ble_eq_true rfl) (fun _ _ hx => noX_x hx) (fun v234 L1 hp234 => ?_)
                  obtain ⟨E234, u0_234, rfl, rfl, hu0_234, hE_234⟩ := hp234
                  refine (show Go g κ 237 [some (.ref x), some (.int (nI i)), some (.int (nI j)), some (.ref a2), some (.ref a8), some (.ref ac), none] [] [v3, v4, v5, v7, v6, [(x, .inr (0, [.ref b, .ref lp, .ref lk, .ref lr, .ref lt, .ref ls, .ref lm, .ref so, .int (nI (zBn C))]))], u1_230, u0_234, v2] 8 30 from ?_)
                  have hr_41 : PersL g lp ps ((zPs C).set i ((pNo r, E234, pPk r, pEp r, pLf r, pNd r, pOn r, pKy r, fup (pCh r) m.2.1 (some F.2), pRn r) : PeS)) pcap x pks pmd u0_234 := by have z := hu0_234; rw [List.set_set] at z; exact z
                  refine g_aload_n (q := 238) B dX1_read_237 rfl rfl (rv_r _) ?_
                  refine g_get (q := 241) B (ci := 0) (k := 5) (j := 0) in_X1 rfl dX1_read_238 rfl rfl (Nat.le_of_ble_eq_true rfl) q277 rfl rfl ?_
                  refine g_aload (q := 243) B dX1_read_241 rfl rfl (rv_r _) ?_
                  refine g_getNM (q := 246) B (ci := 11) (k := 4) (j := 3) in_X21 rfl dX1_read_243 rfl rfl (hc_4_0) (Nat.le_of_ble_eq_true rfl) q2881 rfl rfl ?_
                  refine g_callV (q := 249) (is := [6]) (kc2 := 8) (ks2 := 30) B [.int (nI m.2.2.2)] (ct_X2_value g J (b := b) (ss := F.1) (bx := (zBx C)) (z := (zZz C)) (i := m.2.2.2) hr_34 (by omega)) dX1_read_246 rfl (rc_in B (ci := 1) rfl (k := 6) rfl (BookP.hm hr_34)) rfl q1148 q1149 q1150 q78 q1151 rfl rfl moX2_value rfl rfl (by decide) (by decide) (Nat.le_of_ble_eq_true rfl) (Nat.le_of_ble_eq_true rfl) (Nat.le_of_ble_eq_true rfl) (fun _ _ hx => noX_x hx) (fun v246 L1 hp246 => ?_)
                  obtain ⟨rfl, rfl⟩ := hp246
                  refine (show Go g κ 249 [some (.ref x), some (.int (nI i)), some (.int (nI j)), some (.ref a2), some (.ref a8), some (.ref ac), none] [.int (vl F.1 m.2.2.2)] [v3, v4, v5, v7, v6, [(x, .inr (0, [.ref b, .ref lp, .ref lk, .ref lr, .ref lt, .ref ls, .ref lm, .ref so, .int (nI (zBn C))]))], u0_234, v2, u1_230] 8 30 from ?_)
                  obtain ⟨wc_42, ewc_42⟩ : ∃ w : va_W, w = ([[(x, .inr (0, [.ref b, .ref lp, .ref lk, .ref lr, .ref lt, .ref ls, .ref lm, .ref so, .int (nI (zBn C))]))], u1_230, u0_234, v2, v3, v4, v5, v6, v7] : List va_W).flatten := ⟨_, rfl⟩
                  have hwc_42 : KgP g x ((F.1, zBx C, zZz C, (zPs C).set i ((pNo r, E234, pPk r, pEp r, pLf r, pNd r, pOn r, pKy r, fup (pCh r) m.2.1 (some F.2), pRn r) : PeS), zKs C, zRs C, zTs C, zSt C, zMs C, zSo C, zBn C) : KsS) wc_42 := by
                    rw [ewc_42]
                    exact ⟨b, lp, lk, lr, lt, ls, lm, so, pcap, kcap, rcap, tcap, scap, mcap, socap, ps, pks, pmd, _, _, _, _, _, _, _, _, hcap, hr_34, hr_41, hv2, hv3, hv4, hv5, hv6, hv7, rfl⟩
                  refine g_close (w := wc_42) [5, 7, 5, 5, 0, 0, 0, 1, 0] rfl ewc_42 rfl ?_
                  refine (show Go g κ 249 [some (.ref x), some (.int (nI i)), some (.int (nI j)), some (.ref a2), some (.ref a8), some (.ref ac), none] [.int (vl F.1 m.2.2.2)] [wc_42] 8 30 from ?_)
                  exact g_iret B E dX1_read_249 (⟨E234, _, rfl, rfl, hwc_42, hE_234⟩)
                · skip
                  have hkn : k + 1 ≤ (m.2.2.1 - c.2.1) := by have := hkp k; rw [← hS] at this; have h9 : S.2.2.1 = c.2.1 + k := this; omega
                  obtain ⟨hs1, hs2⟩ := hsc k (by omega)
                  rw [← hS] at hs1 hs2
                  obtain ⟨hs3, hs4⟩ := hsc (k + 1) hkn
                  have hSe : rdK ((zSs C, c) : RdS) (k + 1) = rd1 S := by rw [hS]; rfl
                  rw [hSe] at hs3 hs4
                  obtain ⟨⟨q1, k1⟩, hq1⟩ : ∃ p, frm S.1 (S.2.1, none, 7) = p := ⟨_, rfl⟩
                  obtain ⟨⟨q2, k2⟩, hq2⟩ : ∃ p, frm q1 (S.2.1, none, 8) = p := ⟨_, rfl⟩
                  have hg1 := Ph_fr hq1
                  have hg2 := Ph_fr hq2
                  have hrd : rd1 S = (q2, (k2, S.2.2.1 + 1, fup S.2.2.2 S.2.2.1 (some k1))) := by unfold rd1; rw [hq1, hq2]
                  rw [hrd] at hs3 hs4
                  have hs3 : k2 < q2.length := hs3
                  have hs4 : q2.length ≤ 970 := hs4
                  have hmF := rdK_m ((zSs C, c) : RdS) (show k + 1 ≤ (m.2.2.1 - c.2.1) from hkn)
                  rw [hSe, hrd] at hmF
                  have hmF1 : PhS q2 ≤ PhS (rdK ((zSs C, c) : RdS) (m.2.2.1 - c.2.1)).1 := hmF.1
                  obtain ⟨lf_v, nl_v, v0_v, hC_v, hv0_v, rfl⟩ := hl171_17
                  refine g_open 17 rfl rfl rfl ?_
                  refine (show Go g κ 184 [some (.ref x), some (.int (nI i)), some (.int (nI j)), some (.ref a2), some (.ref a8), some (.ref ac), none] [] [l171_0, v2, v3, v4, v5, v7, [(x, .inr (0, [.ref b, .ref lp, .ref lk, .ref lr, .ref lt, .ref ls, .ref lm, .ref so, .int (nI (zBn C))]))], v6, pu1_p, pu2_p, [(a2, .inr (2, [.int (nI (pNo r)), .ref ev_p, .ref pl_p, .int (oI (pEp r)), .int (nI (pLf r)), .ref nd_p, .int (nI (pOn r)), .int (nI (pKy r)), .ref ch_p, .int (oI (pRn r)), .ref x]))], v0_p, v1_p, v2_p, y1, y3, u0_83, [(ac, .inr (7, [.int (nI S.2.1), .int (nI S.2.2.1), .ref lf_v]))], v0_v] (20 + 80 * (4 - k) + 40 + 80 + 13 * (TA - PhS S.1)) (100 + 500 * (4 - k) + 300 + 300 + 55 * (TA - PhS S.1)) from ?_)
                  refine g_aload (q := 186) B dX1_read_184 rfl rfl (rv_r _) ?_
                  refine g_getN (q := 189) B (ci := 7) (k := 17) (j := 2) in_X12 rfl dX1_read_186 rfl rfl (Nat.le_of_ble_eq_true rfl) q2195 rfl rfl ?_
                  refine g_aload (q := 191) B dX1_read_189 rfl rfl (rv_r _) ?_
                  refine g_getN (q := 194) B (ci := 7) (k := 17) (j := 1) in_X12 rfl dX1_read_191 rfl rfl (Nat.le_of_ble_eq_true rfl) q2192 rfl rfl ?_
                  refine g_callS (q := 197) (is := []) (kc2 := 20 + 80 * (4 - k) + 40 + 80 + 13 * (TA - PhS S.1)) (ks2 := 100 + 500 * (4 - k) + 300 + 300 + 55 * (TA - PhS S.1)) B [.int (nI S.2.2.1)] (ct_J26_valueOf_k g J (k := S.2.2.1)  (by omega)) dX1_read_194 rfl q685 q686 q111 q687 rfl rfl moJ26_valueOf rfl rfl (by decide) (by decide) (Nat.le_of_ble_eq_true rfl) (by omega) (by omega) (fun _ _ hx => noX_x hx) (fun v194 L1 hp194 => ?_)
                  obtain ⟨rfl, rfl⟩ := hp194
                  refine (show Go g κ 197 [some (.ref x), some (.int (nI i)), some (.int (nI j)), some (.ref a2), some (.ref a8), some (.ref ac), none] [.ref (kI g S.2.2.1), .ref lf_v] [l171_0, v2, v3, v4, v5, v7, [(x, .inr (0, [.ref b, .ref lp, .ref lk, .ref lr, .ref lt, .ref ls, .ref lm, .ref so, .int (nI (zBn C))]))], v6, pu1_p, pu2_p, [(a2, .inr (2, [.int (nI (pNo r)), .ref ev_p, .ref pl_p, .int (oI (pEp r)), .int (nI (pLf r)), .ref nd_p, .int (nI (pOn r)), .int (nI (pKy r)), .ref ch_p, .int (oI (pRn r)), .ref x]))], v0_p, v1_p, v2_p, y1, y3, u0_83, [(ac, .inr (7, [.int (nI S.2.1), .int (nI S.2.2.1), .ref lf_v]))], v0_v] (20 + 80 * (4 - k) + 40 + 80 + 13 * (TA - PhS S.1)) (100 + 500 * (4 - k) + 300 + 300 + 55 * (TA - PhS S.1)) from ?_)
                  refine g_aload_n (q := 198) B dX1_read_197 rfl rfl (rv_r _) ?_
                  refine g_get (q := 201) B (ci := 0) (k := 6) (j := 0) in_X1 rfl dX1_read_198 rfl rfl (Nat.le_of_ble_eq_true rfl) q277 rfl rfl ?_
                  refine g_aload (q := 203) B dX1_read_201 rfl rfl (rv_r _) ?_
                  refine g_getN (q := 206) B (ci := 7) (k := 17) (j := 0) in_X12 rfl dX1_read_203 rfl rfl (Nat.le_of_ble_eq_true rfl) q2191 rfl rfl ?_
                  refine g_bipush (v := nI 7) (q := 208) B dX1_read_206 rfl (by decide) ?_
                  refine g_callV (q := 211) (is := [0]) (kc2 := 40 + 20 + 80 * (4 - (k + 1)) + 40 + 80 + 13 * (TA - PhS q1)) (ks2 := 250 + 100 + 500 * (4 - (k + 1)) + 300 + 300 + 55 * (TA - PhS q1)) B [.int (nI S.2.1), .int (nI 7)] (ct_X2_from_p g J (b := b) (ss := S.1) (bx := (zBx C)) (z := (zZz C)) (one := S.2.1) (l := 7) (s2 := q1) (i := k1) hl171_0 (hs1) (by omega) (Or.inl (by decide)) (hq1)) dX1_read_208 rfl (rc_in B (ci := 1) rfl (k := 0) rfl (BookP.hm hl171_0)) rfl q1229 q1230 q1231 q78 q1232 rfl rfl moX2_from rfl rfl (by decide) (by decide) (Nat.le_of_ble_eq_true rfl) (by omega) (by omega) (fun _ _ hx => noX_x hx) (fun v208 L1 hp208 => ?_)
                  obtain ⟨u0_208, rfl, rfl, hu0_208, hph_208⟩ := hp208
                  refine (show Go g κ 211 [some (.ref x), some (.int (nI i)), some (.int (nI j)), some (.ref a2), some (.ref a8), some (.ref ac), none] [.int (nI k1), .ref (kI g S.2.2.1), .ref lf_v] [v2, v3, v4, v5, v7, [(x, .inr (0, [.ref b, .ref lp, .ref lk, .ref lr, .ref lt, .ref ls, .ref lm, .ref so, .int (nI (zBn C))]))], v6, pu1_p, pu2_p, [(a2, .inr (2, [.int (nI (pNo r)), .ref ev_p, .ref pl_p, .int (oI (pEp r)), .int (nI (pLf r)), .ref nd_p, .int (nI (pOn r)), .int (nI (pKy r)), .ref ch_p, .int (oI (pRn r)), .ref x]))], v0_p, v1_p, v2_p, y1, y3, u0_83, [(ac, .inr (7, [.int (nI S.2.1), .int (nI S.2.2.1), .ref lf_v]))], v0_v, u0_208] (40 + 20 + 80 * (4 - (k + 1)) + 40 + 80 + 13 * (TA - PhS q1)) (250 + 100 + 500 * (4 - (k + 1)) + 300 + 300 + 55 * (TA - PhS q1)) from ?_)
                  refine g_callS (q := 214) (is := []) (kc2 := (40 + 20 + 80 * (4 - (k + 1)) + 40 + 80 + 13 * (TA - PhS q1)) - 1) (ks2 := (250 + 100 + 500 * (4 - (k + 1)) + 300 + 300 + 55 * (TA - PhS q1)) - 1) B [.int (nI k1)] (ct_J26_valueOf g J (v := nI k1)  ) dX1_read_211 rfl q685 q686 q111 q687 rfl rfl moJ26_valueOf rfl rfl (by decide) (by decide) (Nat.le_of_ble_eq_true rfl) (by omega) (by omega) (fun _ _ hx => noX_x hx) (fun v211 L1 hp211 => ?_)
                  obtain ⟨a211, u0_211, rfl, rfl, hu0_211⟩ := hp211
                  refine (show Go g κ 214 [some (.ref x), some (.int (nI i)), some (.int (nI j)), some (.ref a2), some (.ref a8), some (.ref ac), none] [.ref a211, .ref (kI g S.2.2.1), .ref lf_v] [v2, v3, v4, v5, v7, [(x, .inr (0, [.ref b, .ref lp, .ref lk, .ref lr, .ref lt, .ref ls, .ref lm, .ref so, .int (nI (zBn C))]))], v6, pu1_p, pu2_p, [(a2, .inr (2, [.int (nI (pNo r)), .ref ev_p, .ref pl_p, .int (oI (pEp r)), .int (nI (pLf r)), .ref nd_p, .int (nI (pOn r)), .int (nI (pKy r)), .ref ch_p, .int (oI (pRn r)), .ref x]))], v0_p, v1_p, v2_p, y1, y3, u0_83, [(ac, .inr (7, [.int (nI S.2.1), .int (nI S.2.2.1), .ref lf_v]))], v0_v, u0_208, u0_211] ((40 + 20 + 80 * (4 - (k + 1)) + 40 + 80 + 13 * (TA - PhS q1)) - 1) ((250 + 100 + 500 * (4 - (k + 1)) + 300 + 300 + 55 * (TA - PhS q1)) - 1) from ?_)
                  refine g_callV (q := 217) (is := [17, 18]) (kc2 := (40 + 20 + 80 * (4 - (k + 1)) + 40 + 80 + 13 * (TA - PhS q1)) - 2) (ks2 := (250 + 100 + 500 * (4 - (k + 1)) + 300 + 300 + 55 * (TA - PhS q1)) - 7) B [.ref (kI g S.2.2.1), .ref a211] (ct_NmP_put g J (t := lf_v) (F := S.2.2.2) (n := nl_v) (k := S.2.2.1) (a := a211) (r := k1) hv0_v hu0_211 (by omega)) dX1_read_214 rfl (rc_in B (ci := 27) rfl (k := 17) rfl (MoP.hm hv0_v)) rfl q2084 q2085 q2086 q91 q2087 rfl rfl moJ10_put rfl rfl (by decide) (by decide) (Nat.le_of_ble_eq_true rfl) (by omega) (by omega) (fun _ _ hx => noX_x hx) (fun v214 L1 hp214 => ?_)
                  obtain ⟨o214, u0_214, rfl, rfl, hu0_214⟩ := hp214
                  refine (show Go g κ 217 [some (.ref x), some (.int (nI i)), some (.int (nI j)), some (.ref a2), some (.ref a8), some (.ref ac), none] [va_rf o214] [v2, v3, v4, v5, v7, [(x, .inr (0, [.ref b, .ref lp, .ref lk, .ref lr, .ref lt, .ref ls, .ref lm, .ref so, .int (nI (zBn C))]))], v6, pu1_p, pu2_p, [(a2, .inr (2, [.int (nI (pNo r)), .ref ev_p, .ref pl_p, .int (oI (pEp r)), .int (nI (pLf r)), .ref nd_p, .int (nI (pOn r)), .int (nI (pKy r)), .ref ch_p, .int (oI (pRn r)), .ref x]))], v0_p, v1_p, v2_p, y1, y3, u0_83, [(ac, .inr (7, [.int (nI S.2.1), .int (nI S.2.2.1), .ref lf_v]))], u0_208, u0_214] ((40 + 20 + 80 * (4 - (k + 1)) + 40 + 80 + 13 * (TA - PhS q1)) - 2) ((250 + 100 + 500 * (4 - (k + 1)) + 300 + 300 + 55 * (TA - PhS q1)) - 7) from ?_)
                  refine g_pop (q := 218) B dX1_read_217 rfl (rv_c (rv_o _)) ?_
                  obtain ⟨wc_43, ewc_43⟩ : ∃ w : va_W, w = ([[(ac, .inr (7, [.int (nI S.2.1), .int (nI S.2.2.1), .ref lf_v]))], u0_214] : List va_W).flatten := ⟨_, rfl⟩
                  have hwc_43 : ChnP g ac ((S.2.1, S.2.2.1, fup S.2.2.2 S.2.2.1 (some k1)) : ChS) wc_43 := by
                    rw [ewc_43]
                    exact ⟨lf_v, (nl_v + (if S.2.2.2 S.2.2.1 = none then 1 else 0)), _, ⟨(show S.2.1 < 1000 by omega), (show S.2.2.1 < 100 by omega), fup_bd hSb (by omega)⟩, hu0_214, rfl⟩
                  refine g_close (w := wc_43) [16, 17] rfl ewc_43 rfl ?_
                  refine (show Go g κ 218 [some (.ref x), some (.int (nI i)), some (.int (nI j)), some (.ref a2), some (.ref a8), some (.ref ac), none] [] [v2, v3, v4, v5, v7, [(x, .inr (0, [.ref b, .ref lp, .ref lk, .ref lr, .ref lt, .ref ls, .ref lm, .ref so, .int (nI (zBn C))]))], v6, pu1_p, pu2_p, [(a2, .inr (2, [.int (nI (pNo r)), .ref ev_p, .ref pl_p, .int (oI (pEp r)), .int (nI (pLf r)), .ref nd_p, .int (nI (pOn r)), .int (nI (pKy r)), .ref ch_p, .int (oI (pRn r)), .ref x]))], v0_p, v1_p, v2_p, y1, y3, u0_83, u0_208, wc_43] ((40 + 20 + 80 * (4 - (k + 1)) + 40 + 80 + 13 * (TA - PhS q1)) - 2) ((250 + 100 + 500 * (4 - (k + 1)) + 300 + 300 + 55 * (TA - PhS q1)) - 7) from ?_)
                  refine g_aload_n (q := 219) B dX1_read_218 rfl rfl (rv_r _) ?_
                  refine g_aload (q := 221) B dX1_read_219 rfl rfl (rv_r _) ?_
                  refine g_callV (q := 224) (is := [5, 15, 15]) (kc2 := 20 + 80 * (4 - (k + 1)) + 40 + 80 + 13 * (TA - PhS q2)) (ks2 := 100 + 500 * (4 - (k + 1)) + 300 + 300 + 55 * (TA - PhS q2)) B [.ref ac] (ct_X1_goesAlong g J (x := x) (lk := lk) (b := b) (lp := lp) (lr := lr) (lt := lt) (ls := ls) (lm := lm) (so := so) (bxs := (zBn C)) (ss := q1) (bx := (zBx C)) (z := (zZz C)) (c := ac) (r := ((S.2.1, S.2.2.1, fup S.2.2.2 S.2.2.1 (some k1)) : ChS)) (s2 := q2) (i := k2) hu0_208 hwc_43 (by omega) (by show S.2.1 < q1.length; omega) (by show S.2.2.1 < 99; omega) (hq2)) dX1_read_221 rfl (rc_at B (ci := 0) rfl (k := 5) rfl) rfl q2907 q2909 qs47 q77 q2910 rfl rfl moX1_goesAlong rfl rfl (by decide) (by decide) (Nat.le_of_ble_eq_true rfl) (by omega) (by omega) (fun _ _ hx => noX_x hx) (fun v221 L1 hp221 => ?_)
                  obtain ⟨u1_221, u2_221, rfl, rfl, hu1_221, hu2_221, hph_221⟩ := hp221
                  refine (show Go g κ 224 [some (.ref x), some (.int (nI i)), some (.int (nI j)), some (.ref a2), some (.ref a8), some (.ref ac), none] [] [v2, v3, v4, v5, v7, v6, pu1_p, pu2_p, [(a2, .inr (2, [.int (nI (pNo r)), .ref ev_p, .ref pl_p, .int (oI (pEp r)), .int (nI (pLf r)), .ref nd_p, .int (nI (pOn r)), .int (nI (pKy r)), .ref ch_p, .int (oI (pRn r)), .ref x]))], v0_p, v1_p, v2_p, y1, y3, u0_83, [(x, .inr (0, [.ref b, .ref lp, .ref lk, .ref lr, .ref lt, .ref ls, .ref lm, .ref so, .int (nI (zBn C))]))], u1_221, u2_221] (20 + 80 * (4 - (k + 1)) + 40 + 80 + 13 * (TA - PhS q2)) (100 + 500 * (4 - (k + 1)) + 300 + 300 + 55 * (TA - PhS q2)) from ?_)
                  have hr_44 : ChnP g ac ((rd1 S).2) u2_221 := by rw [hrd]; exact hu2_221
                  have hr_45 : BookP g b ((rd1 S).1) (zBx C) (zZz C) u1_221 := by rw [hrd]; exact hu1_221
                  have hx9 : PhS (rd1 S).1 = PhS q2 := by rw [hrd]
                  refine g_goto (tgt := 171) B dX1_read_224 (by decide) ?_
                  refine g_pk [16, 0, 0, 0, 0, 0, 10, 0, 0, 0, 0, 0, 0, 0, 0, 0, 0, 0] rfl rfl ?_
                  refine (show Go g κ 171 [some (.ref x), some (.int (nI i)), some (.int (nI j)), some (.ref a2), some (.ref a8), some (.ref ac), none] [] [u1_221, v2, v3, v4, v5, v7, [(x, .inr (0, [.ref b, .ref lp, .ref lk, .ref lr, .ref lt, .ref ls, .ref lm, .ref so, .int (nI (zBn C))]))], v6, pu1_p, pu2_p, [(a2, .inr (2, [.int (nI (pNo r)), .ref ev_p, .ref pl_p, .int (oI (pEp r)), .int (nI (pLf r)), .ref nd_p, .int (nI (pOn r)), .int (nI (pKy r)), .ref ch_p, .int (oI (pRn r)), .ref x]))], v0_p, v1_p, v2_p, y1, y3, u0_83, u2_221] (20 + 80 * (4 - (k + 1)) + 40 + 80 + 13 * (TA - PhS q2)) (100 + 500 * (4 - (k + 1)) + 300 + 300 + 55 * (TA - PhS q2)) from ?_)
                  refine g_room (kc2 := 20 + 80 * (4 - (k + 1)) + 40 + 80 + 13 * (TA - PhS (rd1 S).1)) (ks2 := 100 + 500 * (4 - (k + 1)) + 300 + 300 + 55 * (TA - PhS (rd1 S).1)) (by omega) (by omega) ?_
                  exact ih171 _ (by omega) (k + 1) (rd1 S) u1_221 u2_221 hr_45 hr_44 (hkn) (by rw [hS]; rfl) (by rw [hrd]; exact fup_bd hSb (by omega)) rfl
              have hq42 : PhS ((zSs C, c) : RdS).1 = PhS (zSs C) := rfl
              refine g_room (kc2 := 20 + 80 * (4 - 0) + 40 + 80 + 13 * (TA - PhS ((zSs C, c) : RdS).1)) (ks2 := 100 + 500 * (4 - 0) + 300 + 300 + 55 * (TA - PhS ((zSs C, c) : RdS).1)) (by omega) (by omega) ?_
              exact lp171 _ 0 ((zSs C, c) : RdS) v0 y2 hv0 hcc9 (Nat.zero_le _) (rfl) (hcb3) rfl
            · skip
              obtain ⟨kx, hkx⟩ := hlf (by omega)
              have hkxb := hcb3 _ _ hkx
              obtain ⟨lf_w, nl_w, v0_w, hC_w, hv0_w, rfl⟩ := hcc9
              refine g_open 17 rfl rfl rfl ?_
              refine (show Go g κ 144 [some (.ref x), some (.int (nI i)), some (.int (nI j)), some (.ref a2), some (.ref a8), some (.ref ac), none] [] [v0, v2, v3, v4, v5, v7, [(x, .inr (0, [.ref b, .ref lp, .ref lk, .ref lr, .ref lt, .ref ls, .ref lm, .ref so, .int (nI (zBn C))]))], v6, pu1_p, pu2_p, [(a2, .inr (2, [.int (nI (pNo r)), .ref ev_p, .ref pl_p, .int (oI (pEp r)), .int (nI (pLf r)), .ref nd_p, .int (nI (pOn r)), .int (nI (pKy r)), .ref ch_p, .int (oI (pRn r)), .ref x]))], v0_p, v1_p, v2_p, y1, y3, u0_83, [(ac, .inr (7, [.int (nI c.1), .int (nI c.2.1), .ref lf_w]))], v0_w] ((520 + 13 * (TA - PhS (zSs C))) - 4) ((3300 + 55 * (TA - PhS (zSs C))) - 24) from ?_)
              refine g_aload (q := 146) B dX1_read_144 rfl rfl (rv_r _) ?_
              refine g_getN (q := 149) B (ci := 7) (k := 17) (j := 2) in_X12 rfl dX1_read_146 rfl rfl (Nat.le_of_ble_eq_true rfl) q2195 rfl rfl ?_
              refine g_aload (q := 151) B dX1_read_149 rfl rfl (rv_r _) ?_
              refine g_getNM (q := 154) B (ci := 11) (k := 7) (j := 2) in_X21 rfl dX1_read_151 rfl rfl (hc_4_0) (Nat.le_of_ble_eq_true rfl) q2879 rfl rfl ?_
              refine g_callS (q := 157) (is := []) (kc2 := (520 + 13 * (TA - PhS (zSs C))) - 4) (ks2 := (3300 + 55 * (TA - PhS (zSs C))) - 24) B [.int (nI m.2.2.1)] (ct_J26_valueOf_k g J (k := m.2.2.1)  (by omega)) dX1_read_154 rfl q685 q686 q111 q687 rfl rfl moJ26_valueOf rfl rfl (by decide) (by decide) (Nat.le_of_ble_eq_true rfl) (by omega) (by omega) (fun _ _ hx => noX_x hx) (fun v154 L1 hp154 => ?_)
              obtain ⟨rfl, rfl⟩ := hp154
              refine (show Go g κ 157 [some (.ref x), some (.int (nI i)), some (.int (nI j)), some (.ref a2), some (.ref a8), some (.ref ac), none] [.ref (kI g m.2.2.1), .ref lf_w] [v0, v2, v3, v4, v5, v7, [(x, .inr (0, [.ref b, .ref lp, .ref lk, .ref lr, .ref lt, .ref ls, .ref lm, .ref so, .int (nI (zBn C))]))], v6, pu1_p, pu2_p, [(a2, .inr (2, [.int (nI (pNo r)), .ref ev_p, .ref pl_p, .int (oI (pEp r)), .int (nI (pLf r)), .ref nd_p, .int (nI (pOn r)), .int (nI (pKy r)), .ref ch_p, .int (oI (pRn r)), .ref x]))], v0_p, v1_p, v2_p, y1, y3, u0_83, [(ac, .inr (7, [.int (nI c.1), .int (nI c.2.1), .ref lf_w]))], v0_w] ((520 + 13 * (TA - PhS (zSs C))) - 4) ((3300 + 55 * (TA - PhS (zSs C))) - 24) from ?_)
              refine g_callV (q := 160) (is := [18]) (kc2 := (520 + 13 * (TA - PhS (zSs C))) - 4) (ks2 := (3300 + 55 * (TA - PhS (zSs C))) - 24) B [.ref (kI g m.2.2.1)] (ct_NmP_remove g J (t := lf_w) (F := c.2.2) (n := nl_w) (k := m.2.2.1) (r := kx) hv0_w (hkx) (by omega)) dX1_read_157 rfl (rc_in B (ci := 27) rfl (k := 18) rfl (MoP.hm hv0_w)) rfl q2902 q2903 q2904 q91 q2905 rfl rfl moJ10_remove rfl rfl (by decide) (by decide) (Nat.le_of_ble_eq_true rfl) (by omega) (by omega) (fun _ _ hx => noX_x hx) (fun v157 L1 hp157 => ?_)
              obtain ⟨a157, n2157, u0_157, u1_157, rfl, rfl, hu0_157, hu1_157⟩ := hp157
              refine (show Go g κ 160 [some (.ref x), some (.int (nI i)), some (.int (nI j)), some (.ref a2), some (.ref a8), some (.ref ac), none] [.ref a157] [v0, v2, v3, v4, v5, v7, [(x, .inr (0, [.ref b, .ref lp, .ref lk, .ref lr, .ref lt, .ref ls, .ref lm, .ref so, .int (nI (zBn C))]))], v6, pu1_p, pu2_p, [(a2, .inr (2, [.int (nI (pNo r)), .ref ev_p, .ref pl_p, .int (oI (pEp r)), .int (nI (pLf r)), .ref nd_p, .int (nI (pOn r)), .int (nI (pKy r)), .ref ch_p, .int (oI (pRn r)), .ref x]))], v0_p, v1_p, v2_p, y1, y3, u0_83, [(ac, .inr (7, [.int (nI c.1), .int (nI c.2.1), .ref lf_w]))], u0_157, u1_157] ((520 + 13 * (TA - PhS (zSs C))) - 4) ((3300 + 55 * (TA - PhS (zSs C))) - 24) from ?_)
              refine g_castRS (ci := 35) (q := 163) B rfl (rc_bxat B J (k := 19) rfl (Sub.box (Sub.self hu1_157))) dX1_read_160 rfl q1829 ?_
              refine g_callV (q := 166) (is := [19]) (kc2 := (520 + 13 * (TA - PhS (zSs C))) - 4) (ks2 := (3300 + 55 * (TA - PhS (zSs C))) - 24) B [] (ct_J26_intValue_b g J (a := a157) (v := nI kx) (wb := u1_157)  ((Sub.box (Sub.self hu1_157)))) dX1_read_163 rfl (rc_bxat B J (k := 19) rfl (Sub.box (Sub.self hu1_157))) rfl q1830 q1052 q1053 q111 q1054 rfl rfl moJ26_intValue rfl rfl (by decide) (by decide) (Nat.le_of_ble_eq_true rfl) (by omega) (by omega) (fun _ _ hx => noX_x hx) (fun v163 L1 hp163 => ?_)
              obtain ⟨rfl, rfl⟩ := hp163
              refine (show Go g κ 166 [some (.ref x), some (.int (nI i)), some (.int (nI j)), some (.ref a2), some (.ref a8), some (.ref ac), none] [.int (nI kx)] [v0, v2, v3, v4, v5, v7, [(x, .inr (0, [.ref b, .ref lp, .ref lk, .ref lr, .ref lt, .ref ls, .ref lm, .ref so, .int (nI (zBn C))]))], v6, pu1_p, pu2_p, [(a2, .inr (2, [.int (nI (pNo r)), .ref ev_p, .ref pl_p, .int (oI (pEp r)), .int (nI (pLf r)), .ref nd_p, .int (nI (pOn r)), .int (nI (pKy r)), .ref ch_p, .int (oI (pRn r)), .ref x]))], v0_p, v1_p, v2_p, y1, y3, u0_83, [(ac, .inr (7, [.int (nI c.1), .int (nI c.2.1), .ref lf_w]))], u0_157, u1_157] ((520 + 13 * (TA - PhS (zSs C))) - 4) ((3300 + 55 * (TA - PhS (zSs C))) - 24) from ?_)
              have hFe := hF.symm.trans (rdF_o (S := ((zSs C, c) : RdS)) (show m.2.2.1 < c.2.1 by omega))
              refine g_istore (q := 168) (lv2 := [some (.ref x), some (.int (nI i)), some (.int (nI j)), some (.ref a2), some (.ref a8), some (.ref ac), some (.int (nI kx))]) B dX1_read_166 rfl (Nat.le_of_ble_eq_true rfl) rfl ?_
              obtain ⟨wc_46, ewc_46⟩ : ∃ w : va_W, w = ([[(ac, .inr (7, [.int (nI c.1), .int (nI c.2.1), .ref lf_w]))], u0_157] : List va_W).flatten := ⟨_, rfl⟩
              have hwc_46 : ChnP g ac ((c.1, c.2.1, fup c.2.2 m.2.2.1 none) : ChS) wc_46 := by
                rw [ewc_46]
                exact ⟨lf_w, n2157, _, ⟨hcb1, hcb2, fun i n h => by have h : fup c.2.2 m.2.2.1 none i = some n := h; unfold fup at h; split at h; cases h; exact hcb3 i n h⟩, hu0_157, rfl⟩
              refine g_close (w := wc_46) [17, 17] rfl ewc_46 rfl ?_
              refine (show Go g κ 168 [some (.ref x), some (.int (nI i)), some (.int (nI j)), some (.ref a2), some (.ref a8), some (.ref ac), some (.int (nI kx))] [] [v0, v2, v3, v4, v5, v7, [(x, .inr (0, [.ref b, .ref lp, .ref lk, .ref lr, .ref lt, .ref ls, .ref lm, .ref so, .int (nI (zBn C))]))], v6, pu1_p, pu2_p, [(a2, .inr (2, [.int (nI (pNo r)), .ref ev_p, .ref pl_p, .int (oI (pEp r)), .int (nI (pLf r)), .ref nd_p, .int (nI (pOn r)), .int (nI (pKy r)), .ref ch_p, .int (oI (pRn r)), .ref x]))], v0_p, v1_p, v2_p, y1, y3, u0_83, u1_157, wc_46] ((520 + 13 * (TA - PhS (zSs C))) - 4) ((3300 + 55 * (TA - PhS (zSs C))) - 24) from ?_)
              refine g_goto (tgt := 233) B dX1_read_168 (by decide) ?_
              have hr_47 : ChnP g ac F.2 wc_46 := by rw [hFe]; exact hwc_46
              have hr_48 : BookP g b F.1 (zBx C) (zZz C) v0 := by rw [hFe]; exact hv0
              have hC9 : ChB F.2 := by
                obtain ⟨_, _, _, h9, -⟩ := hr_47
                exact h9
              obtain ⟨wc_49, ewc_49⟩ : ∃ w : va_W, w = ([y1, wc_46, y3] : List va_W).flatten := ⟨_, rfl⟩
              have hwc_49 : BgM (ChnP g) f_c (fup (pCh r) m.2.1 (some F.2)) wc_49 := by
                rw [ewc_49]
                exact hcl9 _ _ hr_47
              refine g_close (w := wc_49) [14, 17, 14] rfl ewc_49 rfl ?_
              refine (show Go g κ 233 [some (.ref x), some (.int (nI i)), some (.int (nI j)), some (.ref a2), some (.ref a8), some (.ref ac), some (.int (nI kx))] [] [v0, v2, v3, v4, v5, v7, [(x, .inr (0, [.ref b, .ref lp, .ref lk, .ref lr, .ref lt, .ref ls, .ref lm, .ref so, .int (nI (zBn C))]))], v6, pu1_p, pu2_p, [(a2, .inr (2, [.int (nI (pNo r)), .ref ev_p, .ref pl_p, .int (oI (pEp r)), .int (nI (pLf r)), .ref nd_p, .int (nI (pOn r)), .int (nI (pKy r)), .ref ch_p, .int (oI (pRn r)), .ref x]))], v0_p, v1_p, v2_p, u0_83, u1_157, wc_49] ((520 + 13 * (TA - PhS (zSs C))) - 4) ((3300 + 55 * (TA - PhS (zSs C))) - 24) from ?_)
              have hoc9 : ∀ q, 128 ≤ q → f_c q = none ∧ fup (pCh r) m.2.1 (some F.2) q = none := by
                intro q hq
                refine ⟨(ho_c q hq).1, ?_⟩
                rw [fup_n (by omega)]; exact (ho_c q hq).2
              obtain ⟨wc_50, ewc_50⟩ : ∃ w : va_W, w = ([u0_83, wc_49] : List va_W).flatten := ⟨_, rfl⟩
              have hwc_50 : MoP g (ChnP g) ch_p (fup (pCh r) m.2.1 (some F.2)) nc_p wc_50 := by
                rw [ewc_50]
                exact ⟨_, _, _, _, hu0_83, hoc9, hwc_49, rfl⟩
              refine g_close (w := wc_50) [14, 15] rfl ewc_50 rfl ?_
              refine (show Go g κ 233 [some (.ref x), some (.int (nI i)), some (.int (nI j)), some (.ref a2), some (.ref a8), some (.ref ac), some (.int (nI kx))] [] [v0, v2, v3, v4, v5, v7, [(x, .inr (0, [.ref b, .ref lp, .ref lk, .ref lr, .ref lt, .ref ls, .ref lm, .ref so, .int (nI (zBn C))]))], v6, pu1_p, pu2_p, [(a2, .inr (2, [.int (nI (pNo r)), .ref ev_p, .ref pl_p, .int (oI (pEp r)), .int (nI (pLf r)), .ref nd_p, .int (nI (pOn r)), .int (nI (pKy r)), .ref ch_p, .int (oI (pRn r)), .ref x]))], v0_p, v1_p, v2_p, u1_157, wc_50] ((520 + 13 * (TA - PhS (zSs C))) - 4) ((3300 + 55 * (TA - PhS (zSs C))) - 24) from ?_)
              obtain ⟨wc_51, ewc_51⟩ : ∃ w : va_W, w = ([[(a2, .inr (2, [.int (nI (pNo r)), .ref ev_p, .ref pl_p, .int (oI (pEp r)), .int (nI (pLf r)), .ref nd_p, .int (nI (pOn r)), .int (nI (pKy r)), .ref ch_p, .int (oI (pRn r)), .ref x]))], v0_p, v1_p, v2_p, wc_50] : List va_W).flatten := ⟨_, rfl⟩
              have hwc_51 : PersP g a2 x pks ((pNo r, pEv r, pPk r, pEp r, pLf r, pNd r, pOn r, pKy r, fup (pCh r) m.2.1 (some F.2), pRn r) : PeS) wc_51 := by
                rw [ewc_51]
                exact ⟨ev_p, pl_p, nd_p, ch_p, ecap_p, pcap_p, nn_p, nc_p, plc_p, md_p, _, _, _, _, (by exact ⟨hp0, hp1, hp2, hp3, hp4, hp5, hp6, (fun j d h => by have h : fup (pCh r) m.2.1 (some F.2) j = some d := h; unfold fup at h; split at h; (rename_i e9; cases h; rw [e9]; exact ⟨hm2, hC9⟩); exact hp7 j d h), hp8⟩), hpl_p, hec_p, hpc_p, hv0_p, hv1_p, hv2_p, hwc_50, rfl⟩
              refine g_close (w := wc_51) [10, 10, 10, 10, 11] rfl ewc_51 rfl ?_
              refine (show Go g κ 233 [some (.ref x), some (.int (nI i)), some (.int (nI j)), some (.ref a2), some (.ref a8), some (.ref ac), some (.int (nI kx))] [] [v0, v2, v3, v4, v5, v7, [(x, .inr (0, [.ref b, .ref lp, .ref lk, .ref lr, .ref lt, .ref ls, .ref lm, .ref so, .int (nI (zBn C))]))], v6, pu1_p, pu2_p, u1_157, wc_51] ((520 + 13 * (TA - PhS (zSs C))) - 4) ((3300 + 55 * (TA - PhS (zSs C))) - 24) from ?_)
              obtain ⟨wc_52, ewc_52⟩ : ∃ w : va_W, w = ([pu1_p, wc_51, pu2_p] : List va_W).flatten := ⟨_, rfl⟩
              have hwc_52 : PersL g lp ps ((zPs C).set i ((pNo r, pEv r, pPk r, pEp r, pLf r, pNd r, pOn r, pKy r, fup (pCh r) m.2.1 (some F.2), pRn r) : PeS)) pcap x pks pmd wc_52 := by
                rw [ewc_52]
                exact hpcl_p _ _ hwc_51
              refine g_close (w := wc_52) [8, 10, 8] rfl ewc_52 rfl ?_
              refine (show Go g κ 233 [some (.ref x), some (.int (nI i)), some (.int (nI j)), some (.ref a2), some (.ref a8), some (.ref ac), some (.int (nI kx))] [] [v0, v2, v3, v4, v5, v7, [(x, .inr (0, [.ref b, .ref lp, .ref lk, .ref lr, .ref lt, .ref ls, .ref lm, .ref so, .int (nI (zBn C))]))], v6, u1_157, wc_52] ((520 + 13 * (TA - PhS (zSs C))) - 4) ((3300 + 55 * (TA - PhS (zSs C))) - 24) from ?_)
              have hr3 : ((zPs C).set i ((pNo r, pEv r, pPk r, pEp r, pLf r, pNd r, pOn r, pKy r, fup (pCh r) m.2.1 (some F.2), pRn r) : PeS))[i]? = some ((pNo r, pEv r, pPk r, pEp r, pLf r, pNd r, pOn r, pKy r, fup (pCh r) m.2.1 (some F.2), pRn r) : PeS) := set_at hr
              obtain ⟨hli_53, hln_53, hel_53⟩ := PersL.at (Sub.self hwc_52)
              have hE_54 := hel_53 _ _ _ ha_2 hr3
              refine g_aload_n (q := 234) B dX1_read_233 rfl rfl (rv_r _) ?_
              refine g_callV (q := 237) (is := [9, 1]) (kc2 := (520 + 13 * (TA - PhS (zSs C))) - 81) (ks2 := (3300 + 55 * (TA - PhS (zSs C))) - 294) B [] (ct_X4_notes_L g J (lp := lp) (pps := ps) (Ps := ((zPs C).set i ((pNo r, pEv r, pPk r, pEp r, pLf r, pNd r, pOn r, pKy r, fup (pCh r) m.2.1 (some F.2), pRn r) : PeS))) (pcp := pcap) (ix := i) (pmd := pmd) (a := a2) (x := x) (pks := pks) (r := ((pNo r, pEv r, pPk r, pEp r, pLf r, pNd r, pOn r, pKy r, fup (pCh r) m.2.1 (some F.2), pRn r) : PeS)) (lk := lk) (Ks := (zKs C)) (kcap := kcap) hwc_52 hv2 (ha_2) (hr3) (hpk_i)) dX1_read_234 rfl (rc_in B (ci := 2) rfl (k := 9) rfl (Sub.hm (hE_54) fun _ z => PersP.hm z)) rfl q2012 q2013 q2014 q90 q2015 rfl rfl moX4_notes rfl rfl (by decide) (by decide) (Nat.le_of_ble_eq_true rfl) (by omega) (by omega) (fun _ _ hx => noX_x hx) (fun v234 L1 hp234 => ?_)
              obtain ⟨E234, u0_234, rfl, rfl, hu0_234, hE_234⟩ := hp234
              refine (show Go g κ 237 [some (.ref x), some (.int (nI i)), some (.int (nI j)), some (.ref a2), some (.ref a8), some (.ref ac), some (.int (nI kx))] [] [v0, v3, v4, v5, v7, [(x, .inr (0, [.ref b, .ref lp, .ref lk, .ref lr, .ref lt, .ref ls, .ref lm, .ref so, .int (nI (zBn C))]))], v6, u1_157, u0_234, v2] ((520 + 13 * (TA - PhS (zSs C))) - 81) ((3300 + 55 * (TA - PhS (zSs C))) - 294) from ?_)
              have hr_55 : PersL g lp ps ((zPs C).set i ((pNo r, E234, pPk r, pEp r, pLf r, pNd r, pOn r, pKy r, fup (pCh r) m.2.1 (some F.2), pRn r) : PeS)) pcap x pks pmd u0_234 := by have z := hu0_234; rw [List.set_set] at z; exact z
              refine g_aload_n (q := 238) B dX1_read_237 rfl rfl (rv_r _) ?_
              refine g_get (q := 241) B (ci := 0) (k := 5) (j := 0) in_X1 rfl dX1_read_238 rfl rfl (Nat.le_of_ble_eq_true rfl) q277 rfl rfl ?_
              refine g_aload (q := 243) B dX1_read_241 rfl rfl (rv_r _) ?_
              refine g_getNM (q := 246) B (ci := 11) (k := 6) (j := 3) in_X21 rfl dX1_read_243 rfl rfl (hc_4_0) (Nat.le_of_ble_eq_true rfl) q2881 rfl rfl ?_
              refine g_callV (q := 249) (is := [0]) (kc2 := (520 + 13 * (TA - PhS (zSs C))) - 81) (ks2 := (3300 + 55 * (TA - PhS (zSs C))) - 294) B [.int (nI m.2.2.2)] (ct_X2_value g J (b := b) (ss := F.1) (bx := (zBx C)) (z := (zZz C)) (i := m.2.2.2) hr_48 (by omega)) dX1_read_246 rfl (rc_in B (ci := 1) rfl (k := 0) rfl (BookP.hm hr_48)) rfl q1148 q1149 q1150 q78 q1151 rfl rfl moX2_value rfl rfl (by decide) (by decide) (Nat.le_of_ble_eq_true rfl) (by omega) (by omega) (fun _ _ hx => noX_x hx) (fun v246 L1 hp246 => ?_)
              obtain ⟨rfl, rfl⟩ := hp246
              refine (show Go g κ 249 [some (.ref x), some (.int (nI i)), some (.int (nI j)), some (.ref a2), some (.ref a8), some (.ref ac), some (.int (nI kx))] [.int (vl F.1 m.2.2.2)] [v3, v4, v5, v7, [(x, .inr (0, [.ref b, .ref lp, .ref lk, .ref lr, .ref lt, .ref ls, .ref lm, .ref so, .int (nI (zBn C))]))], v6, u1_157, u0_234, v2, v0] ((520 + 13 * (TA - PhS (zSs C))) - 81) ((3300 + 55 * (TA - PhS (zSs C))) - 294) from ?_)
              obtain ⟨wc_56, ewc_56⟩ : ∃ w : va_W, w = ([[(x, .inr (0, [.ref b, .ref lp, .ref lk, .ref lr, .ref lt, .ref ls, .ref lm, .ref so, .int (nI (zBn C))]))], v0, u0_234, v2, v3, v4, v5, v6, v7] : List va_W).flatten := ⟨_, rfl⟩
              have hwc_56 : KgP g x ((F.1, zBx C, zZz C, (zPs C).set i ((pNo r, E234, pPk r, pEp r, pLf r, pNd r, pOn r, pKy r, fup (pCh r) m.2.1 (some F.2), pRn r) : PeS), zKs C, zRs C, zTs C, zSt C, zMs C, zSo C, zBn C) : KsS) wc_56 := by
                rw [ewc_56]
                exact ⟨b, lp, lk, lr, lt, ls, lm, so, pcap, kcap, rcap, tcap, scap, mcap, socap, ps, pks, pmd, _, _, _, _, _, _, _, _, hcap, hr_48, hr_55, hv2, hv3, hv4, hv5, hv6, hv7, rfl⟩
              refine g_close (w := wc_56) [4, 8, 6, 6, 0, 0, 0, 1, 0] rfl ewc_56 rfl ?_
              refine (show Go g κ 249 [some (.ref x), some (.int (nI i)), some (.int (nI j)), some (.ref a2), some (.ref a8), some (.ref ac), some (.int (nI kx))] [.int (vl F.1 m.2.2.2)] [u1_157, wc_56] ((520 + 13 * (TA - PhS (zSs C))) - 81) ((3300 + 55 * (TA - PhS (zSs C))) - 294) from ?_)
              refine g_pk [1] rfl rfl ?_
              refine (show Go g κ 249 [some (.ref x), some (.int (nI i)), some (.int (nI j)), some (.ref a2), some (.ref a8), some (.ref ac), some (.int (nI kx))] [.int (vl F.1 m.2.2.2)] [wc_56] ((520 + 13 * (TA - PhS (zSs C))) - 81) ((3300 + 55 * (TA - PhS (zSs C))) - 294) from ?_)
              exact g_iret B E dX1_read_249 (⟨E234, _, rfl, rfl, hwc_56, hE_234⟩)
