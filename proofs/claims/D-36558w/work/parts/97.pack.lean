set_option maxRecDepth 100000
theorem PersP.grow {g : Gv} {a x p : Nat} {pks : List Nat} {r : PeS} {w : va_W} (h : PersP g a x pks r w) (hb : ∀ k ∈ pPk r, k < pks.length) : PersP g a x (pks ++ [p]) r w := by
  obtain ⟨ev, pl, nd, ch, ecap, pcap, nn, nc, plc, md, v0, v1, v2, v3, h1, h2, h3⟩ := h
  exact ⟨ev, pl, nd, ch, ecap, pcap, nn, nc, plc, md, v0, v1, v2, v3, h1, h2.grow p hb, h3⟩
theorem PersL.grow {g : Gv} {p : Nat} {ps : List Nat} {rs : List PeS} {cap x : Nat} {pks : List Nat} {md : Int32} {w : va_W} (h : PersL g p ps rs cap x pks md w) (a : Nat) (hb : ∀ r ∈ rs, ∀ k ∈ pPk r, k < pks.length) : PersL g p ps rs cap x (pks ++ [a]) md w := by
  obtain ⟨w1, w2, h1, h2, e⟩ := h
  exact ⟨w1, w2, h1, h2.mono fun b r v hr z => z.grow (hb r hr), e⟩
theorem PropL.grow {g : Gv} {p : Nat} {rs : List PrS} {cap : Nat} {pks : List Nat} {w : va_W} (h : PropL g p rs cap pks w) (a : Nat) : PropL g p rs cap (pks ++ [a]) w := by
  obtain ⟨ps, h⟩ := h
  exact ⟨ps, h.mono fun b r v _ z => PropP.grow z⟩
theorem PackL.vd {g : Gv} {lk : Nat} {pks : List Nat} {Ks : List PkS} {kcap : Nat} {w : va_W} (h : LoP g (PackP g) lk pks Ks kcap w) : EltP g pks w := by
  obtain ⟨md, w1, w2, -, h2, rfl⟩ := h
  intro y hy
  rcases BigL.elt h2 (fun _ _ _ z => PackP.vd z) y hy with ⟨ci, fs, h1, hm⟩ | z
  · exact Or.inl ⟨ci, fs, h1, mem_fl2.mpr (Or.inr hm)⟩
  · exact Or.inr z
theorem Plc.sub {pks ids plc : List Nat} (h : Plc pks ids plc) {y : Nat} (hy : y ∈ plc) : y ∈ pks := by
  obtain ⟨i, hi⟩ := List.getElem?_of_mem hy
  obtain ⟨h1, h2⟩ := h.at
  obtain ⟨k, hk⟩ := get_ex (xs := ids) (i := i) (by have := get_lt2 hi; omega)
  obtain ⟨a, ha, hp⟩ := h2 i k hk
  rw [hi] at ha; cases ha
  exact List.mem_of_getElem? hp
theorem Plc.push {P ids plc : List Nat} (h : Plc P ids plc) {k p : Nat} (hk : P[k]? = some p) : Plc P (ids ++ [k]) (plc ++ [p]) := by
  unfold Plc at h ⊢
  rw [List.map_append, List.map_append, h]
  simp [hk]
theorem nwX7 : ∀ j, j < 6 → defaultValue (tyX7 j) = vp_V [.int (nI 0), .int (nI 0), .int (nI 0), .int (nI 0), .int (nI 0), .int (nI 0)] j := by
  intro j hj
  match j, hj with
  | 0, _ => rfl
  | 1, _ => rfl
  | 2, _ => rfl
  | 3, _ => rfl
  | 4, _ => rfl
  | 5, _ => rfl
  | n + 6, hj => exact absurd hj (by omega)
theorem moX7_init : Mo yX7_init 3 := by
  refine ⟨by decide, by decide, by decide +kernel⟩
theorem ct_X1_pack (g : Gv) (J : Jd g) {x : Nat} {C : KsS} {v : Int32} {w0 : va_W} (hw0 : KgP g x C w0) (hC : KsB C) (hpk30 : ∀ r ∈ zPs C, (pPk r).length ≤ 30) : Ct g yX1_pack (ws_ yX1_pack cX1_pack 5 (some .int)) 10 120 (900 + 4 * (PhS (zSs C ++ [drw (zZz C)] ++ [drw (lcg (zZz C))]) - PhS (zSs C))) [.ref x, .int v] [w0] (fun (rv_ : Option Value) (rL_ : List va_W) => ∃ (i : Nat) (r : PeS) (E : Nat → Bool) (u0 : va_W), rv_ = some (.int (nI ((zKs C).length))) ∧ rL_ = [u0] ∧ KgP g x (((zSs C ++ [drw (zZz C)] ++ [drw (lcg (zZz C))]), zBx C, lcg (lcg (zZz C)), (zPs C).set i ((pNo r, E, pPk r ++ [(zKs C).length], pEp r, pLf r, pNd r, pOn r, pKy r, pCh r, pRn r) : PeS), zKs C ++ [((i, (zSs C).length, (zSs C).length + 1, false, none, false) : PkS)], zRs C, zTs C, zSt C, zMs C, zSo C, zBn C) : KsS) u0 ∧ (v = nI i) ∧ ((zPs C)[i]? = some r) ∧ ((zKs C).length < 24) ∧ (∀ y, E y = true ↔ pEv r y = true ∨ helP (zKs C ++ [((i, (zSs C).length, (zSs C).length + 1, false, none, false) : PkS)]) ((pNo r, pEv r, pPk r ++ [(zKs C).length], pEp r, pLf r, pNd r, pOn r, pKy r, pCh r, pRn r) : PeS) y)) (fun (rE_ : String) (rL_ : List va_W) => rL_ = [w0] ∧ ((rE_ = "java/lang/IndexOutOfBoundsException" ∧ (¬ inR v (zPs C).length = true)) ∨ (rE_ = "java/lang/IllegalStateException" ∧ (∃ (i : Nat) (r : PeS), v = nI i ∧ (zPs C)[i]? = some r ∧ ¬ (zKs C).length < 24)))) := by
  refine Ct.of "Keygrove" [some (.ref x), some (.int v), none, none, none] rfl (by decide) rfl (Nat.le_of_ble_eq_true rfl) rfl ?_
  intro κ B E tb
  have hC0 := hC
  obtain ⟨hc1, hc2, hc3, hc4, hc5, hc6, hc7, hc8, hc9, hc10, hc11⟩ := hC0
  obtain ⟨b, lp, lk, lr, lt, ls, lm, so, pcap, kcap, rcap, tcap, scap, mcap, socap, ps, pks, pmd, v0, v1, v2, v3, v4, v5, v6, v7, hcap, hv0, hv1, hv2, hv3, hv4, hv5, hv6, hv7, rfl⟩ := hw0
  refine g_open 0 rfl rfl rfl ?_
  refine (show Go g κ 0 [some (.ref x), some (.int v), none, none, none] [] [[(x, .inr (0, [.ref b, .ref lp, .ref lk, .ref lr, .ref lt, .ref ls, .ref lm, .ref so, .int (nI (zBn C))]))], v0, v1, v2, v3, v4, v5, v6, v7] 120 (900 + 4 * (PhS (zSs C ++ [drw (zZz C)] ++ [drw (lcg (zZz C))]) - PhS (zSs C))) from ?_)
  refine g_aload_n (q := 1) B dX1_pack_0 rfl rfl (rv_r _) ?_
  refine g_iload_n (q := 2) B dX1_pack_1 rfl rfl ?_
  refine g_callV (q := 5) (is := [0, 1]) (kc2 := 119) (ks2 := (900 + 4 * (PhS (zSs C ++ [drw (zZz C)] ++ [drw (lcg (zZz C))]) - PhS (zSs C))) - 6) B [.int v] (ct_X1_personWith g J (x := x) (lk := lk) (b := b) (lp := lp) (lr := lr) (lt := lt) (ls := ls) (lm := lm) (so := so) (bxs := zBn C) (ps := ps) (Ps := (zPs C)) (pcap := pcap) (pks := pks) (pmd := pmd) (v := v) hv1 (by first | assumption | omega | rfl)) dX1_pack_2 rfl (rc_at B (ci := 0) rfl (k := 0) rfl) rfl q1961 q1963 qs15 q77 q1964 rfl rfl moX1_personWith rfl rfl (by decide) (by decide) (Nat.le_of_ble_eq_true rfl) (Nat.le_of_ble_eq_true rfl) (by omega) (fun E2 L1 hx2 => ?_) (fun v2 L1 hp2 => ?_)
  · skip
    obtain ⟨rfl, hx2⟩ := hx2
    obtain ⟨rfl, hx2⟩ := hx2
    refine gx_cl [7, 0, 6, 0, 0, 0, 0, 0, 0] rfl ?_
    exact g_out B E tb (by first | exact ⟨rfl, Or.inl ⟨rfl, hx2⟩⟩ | exact ⟨rfl, Or.inl ⟨rfl, by simp_all⟩⟩)
  obtain ⟨i2, a2, r2, rfl, rfl, hv_2, ha_2, hr_2⟩ := hp2
  refine (show Go g κ 5 [some (.ref x), some (.int v), none, none, none] [.ref a2] [v0, v2, v3, v4, v5, v6, v7, [(x, .inr (0, [.ref b, .ref lp, .ref lk, .ref lr, .ref lt, .ref ls, .ref lm, .ref so, .int (nI (zBn C))]))], v1] 119 ((900 + 4 * (PhS (zSs C ++ [drw (zZz C)] ++ [drw (lcg (zZz C))]) - PhS (zSs C))) - 6) from ?_)
  subst hv_2
  obtain ⟨hli_1, hln_1, hel_1⟩ := PersL.at (Sub.self hv1)
  have hE_2 := hel_1 _ _ _ ha_2 hr_2
  refine (show Go g κ 5 [some (.ref x), some (.int (nI i2)), none, none, none] [.ref a2] [v0, v2, v3, v4, v5, v6, v7, [(x, .inr (0, [.ref b, .ref lp, .ref lk, .ref lr, .ref lt, .ref ls, .ref lm, .ref so, .int (nI (zBn C))]))], v1] 119 ((900 + 4 * (PhS (zSs C ++ [drw (zZz C)] ++ [drw (lcg (zZz C))]) - PhS (zSs C))) - 6) from ?_)
  obtain ⟨kc1, kc2, kc3, kc4, kc5, kc6, kc7⟩ := (show capB pcap kcap rcap tcap scap mcap socap from hcap)
  refine g_astore_n (q := 6) (lv2 := [some (.ref x), some (.int (nI i2)), some (.ref a2), none, none]) B dX1_pack_5 rfl (Nat.le_of_ble_eq_true rfl) (rv_r _) rfl ?_
  refine g_aload_n (q := 7) B dX1_pack_6 rfl rfl (rv_r _) ?_
  refine g_get (q := 10) B (ci := 0) (k := 7) (j := 2) in_X1 rfl dX1_pack_7 rfl rfl (Nat.le_of_ble_eq_true rfl) q279 rfl rfl ?_
  obtain ⟨md_3, hli_3, hln_3, hel_3⟩ := LoP.at (Sub.self hv2)
  refine g_callF (q := 15) (is := [1]) (kc2 := 119) (ks2 := (900 + 4 * (PhS (zSs C ++ [drw (zZz C)] ++ [drw (lcg (zZz C))]) - PhS (zSs C))) - 6) B [] (ct_J2_size_s g J (p := lk) (xs := pks) (md := md_3) (cap := kcap) (W0 := v2)  (hli_3)) dX1_pack_10 rfl (ci := 21) rfl (rc_in B (ci := 21) rfl (k := 1) rfl (LoP.hm hv2)) q315 q319 q321 q81 q323 q317 q316 q322 q320 q318 rfl rfl mojava_util_List_size___I rfl rfl (by decide) (by decide) (Nat.le_of_ble_eq_true rfl) (Nat.le_of_ble_eq_true rfl) (by omega) (fun _ _ hx => noX_x hx) (fun v10 L1 hp10 => ?_)
  obtain ⟨rfl, rfl⟩ := hp10
  refine (show Go g κ 15 [some (.ref x), some (.int (nI i2)), some (.ref a2), none, none] [.int (nI pks.length)] [v0, v3, v4, v5, v6, v7, [(x, .inr (0, [.ref b, .ref lp, .ref lk, .ref lr, .ref lt, .ref ls, .ref lm, .ref so, .int (nI (zBn C))]))], v1, v2] 119 ((900 + 4 * (PhS (zSs C ++ [drw (zZz C)] ++ [drw (lcg (zZz C))]) - PhS (zSs C))) - 6) from ?_)
  rw [hln_3.1]
  refine (show Go g κ 15 [some (.ref x), some (.int (nI i2)), some (.ref a2), none, none] [.int (nI ((zKs C).length))] [v0, v3, v4, v5, v6, v7, [(x, .inr (0, [.ref b, .ref lp, .ref lk, .ref lr, .ref lt, .ref ls, .ref lm, .ref so, .int (nI (zBn C))]))], v1, v2] 119 ((900 + 4 * (PhS (zSs C ++ [drw (zZz C)] ++ [drw (lcg (zZz C))]) - PhS (zSs C))) - 6) from ?_)
  refine g_bipush (v := nI 24) (q := 17) B dX1_pack_15 rfl (by decide) ?_
  refine g_icmp_ge (tgt := 24) (q := 20) B dX1_pack_17 rfl (by decide) (nI_leI (by omega) (by omega)) (fun c17 => ?_) (fun c17 => ?_)
  · skip
    refine g_iconst (v := nI 0) (q := 25) B dX1_pack_24 rfl (by decide) ?_
    refine g_callS (q := 28) (is := []) (kc2 := 118) (ks2 := (900 + 4 * (PhS (zSs C ++ [drw (zZz C)] ++ [drw (lcg (zZz C))]) - PhS (zSs C))) - 12) B [.int (nI 0)] (ct_X1_ready g J (c := False) (dc := instDecidableFalse)  ) dX1_pack_25 rfl q1839 q1840 q77 q1841 rfl rfl moX1_ready rfl rfl (by decide) (by decide) (Nat.le_of_ble_eq_true rfl) (Nat.le_of_ble_eq_true rfl) (by omega) (fun E25 L1 hx25 => ?_) (fun v25 L1 hp25 => ?_)
    · skip
      obtain ⟨rfl, hx25⟩ := hx25
      obtain ⟨rfl, hx25⟩ := hx25
      refine gx_cl [6, 0, 5, 5, 0, 0, 0, 0, 0] rfl ?_
      exact g_out B E tb (by first | exact ⟨rfl, Or.inr (⟨rfl, hx25⟩)⟩ | exact ⟨rfl, Or.inr (⟨rfl, ⟨i2, r2, rfl, hr_2, by omega⟩⟩)⟩ | exact ⟨rfl, Or.inr (⟨rfl, by simp_all⟩)⟩)
    obtain ⟨rfl, rfl, ht_25⟩ := hp25
    exact ht_25.elim
  · skip
    refine g_iconst (v := nI 1) (q := 21) B dX1_pack_20 rfl (by decide) ?_
    refine g_goto (tgt := 25) B dX1_pack_21 (by decide) ?_
    refine g_callS (q := 28) (is := []) (kc2 := 118) (ks2 := (900 + 4 * (PhS (zSs C ++ [drw (zZz C)] ++ [drw (lcg (zZz C))]) - PhS (zSs C))) - 12) B [.int (nI 1)] (ct_X1_ready g J (c := True) (dc := instDecidableTrue)  ) dX1_pack_25 rfl q1839 q1840 q77 q1841 rfl rfl moX1_ready rfl rfl (by decide) (by decide) (Nat.le_of_ble_eq_true rfl) (Nat.le_of_ble_eq_true rfl) (by omega) (fun E25 L1 hx25 => ?_) (fun v25 L1 hp25 => ?_)
    · skip
      obtain ⟨rfl, hx25⟩ := hx25
      obtain ⟨rfl, hx25⟩ := hx25
      exact absurd trivial hx25
    obtain ⟨rfl, rfl, ht_25⟩ := hp25
    refine (show Go g κ 28 [some (.ref x), some (.int (nI i2)), some (.ref a2), none, none] [] [v0, v3, v4, v5, v6, v7, [(x, .inr (0, [.ref b, .ref lp, .ref lk, .ref lr, .ref lt, .ref ls, .ref lm, .ref so, .int (nI (zBn C))]))], v1, v2] 118 ((900 + 4 * (PhS (zSs C ++ [drw (zZz C)] ++ [drw (lcg (zZz C))]) - PhS (zSs C))) - 12) from ?_)
    have hil := get_lt2 hr_2
    have hph1 := Ph_d2 (zSs C) (zZz C)
    have hph2 := Ph_d2 (zSs C ++ [drw (zZz C)]) (lcg (zZz C))
    have hsl1 : (zSs C ++ [drw (zZz C)]).length = (zSs C).length + 1 := by simp
    refine g_aload_n (q := 29) B dX1_pack_28 rfl rfl (rv_r _) ?_
    refine g_get (q := 32) B (ci := 0) (k := 6) (j := 0) in_X1 rfl dX1_pack_29 rfl rfl (Nat.le_of_ble_eq_true rfl) q277 rfl rfl ?_
    refine g_callV (q := 35) (is := [0]) (kc2 := 100) (ks2 := 800 + 4 * (PhS (zSs C ++ [drw (zZz C)] ++ [drw (lcg (zZz C))]) - PhS (zSs C ++ [drw (zZz C)]))) B [] (ct_X2_draw_p g J (b := b) (ss := (zSs C)) (bx := (zBx C)) (z := (zZz C)) hv0 (by omega)) dX1_pack_32 rfl (rc_in B (ci := 1) rfl (k := 0) rfl (BookP.hm hv0)) rfl q1976 q1977 q1978 q78 q1979 rfl rfl moX2_draw rfl rfl (by decide) (by decide) (Nat.le_of_ble_eq_true rfl) (Nat.le_of_ble_eq_true rfl) (by omega) (fun _ _ hx => noX_x hx) (fun v32 L1 hp32 => ?_)
    obtain ⟨u0_32, rfl, rfl, hu0_32, hph_32⟩ := hp32
    refine (show Go g κ 35 [some (.ref x), some (.int (nI i2)), some (.ref a2), none, none] [.int (nI ((zSs C).length))] [v3, v4, v5, v6, v7, [(x, .inr (0, [.ref b, .ref lp, .ref lk, .ref lr, .ref lt, .ref ls, .ref lm, .ref so, .int (nI (zBn C))]))], v1, v2, u0_32] 100 (800 + 4 * (PhS (zSs C ++ [drw (zZz C)] ++ [drw (lcg (zZz C))]) - PhS (zSs C ++ [drw (zZz C)]))) from ?_)
    refine g_istore_n (q := 36) (lv2 := [some (.ref x), some (.int (nI i2)), some (.ref a2), some (.int (nI ((zSs C).length))), none]) B dX1_pack_35 rfl (Nat.le_of_ble_eq_true rfl) rfl ?_
    refine g_new (q := 39) (kc2 := 99) (ks2 := (800 + 4 * (PhS (zSs C ++ [drw (zZz C)] ++ [drw (lcg (zZz C))]) - PhS (zSs C ++ [drw (zZz C)]))) - 6) (fs := [.int (nI 0), .int (nI 0), .int (nI 0), .int (nI 0), .int (nI 0), .int (nI 0)]) B (ci := 4) in_X7 tyX7_ok rfl dX1_pack_36 rfl q1981 q1982 q103 (nwX7) (Nat.le_of_ble_eq_true rfl) (by omega) (fun n36 => ?_)
    refine (show Go g κ 39 [some (.ref x), some (.int (nI i2)), some (.ref a2), some (.int (nI ((zSs C).length))), none] [.ref n36] [v3, v4, v5, v6, v7, [(x, .inr (0, [.ref b, .ref lp, .ref lk, .ref lr, .ref lt, .ref ls, .ref lm, .ref so, .int (nI (zBn C))]))], v1, v2, u0_32, [(n36, .inr (4, [.int (nI 0), .int (nI 0), .int (nI 0), .int (nI 0), .int (nI 0), .int (nI 0)]))]] 99 ((800 + 4 * (PhS (zSs C ++ [drw (zZz C)] ++ [drw (lcg (zZz C))]) - PhS (zSs C ++ [drw (zZz C)]))) - 6) from ?_)
    refine g_dup (q := 40) B dX1_pack_39 rfl rfl ?_
    refine g_iload_n (q := 41) B dX1_pack_40 rfl rfl ?_
    refine g_iload_n (q := 42) B dX1_pack_41 rfl rfl ?_
    refine g_aload_n (q := 43) B dX1_pack_42 rfl rfl (rv_r _) ?_
    refine g_get (q := 46) B (ci := 0) (k := 5) (j := 0) in_X1 rfl dX1_pack_43 rfl rfl (Nat.le_of_ble_eq_true rfl) q277 rfl rfl ?_
    refine g_callV (q := 49) (is := [8]) (kc2 := 90) (ks2 := 780) B [] (ct_X2_draw_p g J (b := b) (ss := (zSs C) ++ [drw (zZz C)]) (bx := (zBx C)) (z := (lcg (zZz C))) hu0_32 (by omega)) dX1_pack_46 rfl (rc_in B (ci := 1) rfl (k := 8) rfl (BookP.hm hu0_32)) rfl q1976 q1977 q1978 q78 q1979 rfl rfl moX2_draw rfl rfl (by decide) (by decide) (Nat.le_of_ble_eq_true rfl) (Nat.le_of_ble_eq_true rfl) (by omega) (fun _ _ hx => noX_x hx) (fun v46 L1 hp46 => ?_)
    obtain ⟨u0_46, rfl, rfl, hu0_46, hph_46⟩ := hp46
    refine (show Go g κ 49 [some (.ref x), some (.int (nI i2)), some (.ref a2), some (.int (nI ((zSs C).length))), none] [.int (nI (((zSs C) ++ [drw (zZz C)]).length)), .int (nI ((zSs C).length)), .int (nI i2), .ref n36, .ref n36] [v3, v4, v5, v6, v7, [(x, .inr (0, [.ref b, .ref lp, .ref lk, .ref lr, .ref lt, .ref ls, .ref lm, .ref so, .int (nI (zBn C))]))], v1, v2, [(n36, .inr (4, [.int (nI 0), .int (nI 0), .int (nI 0), .int (nI 0), .int (nI 0), .int (nI 0)]))], u0_46] 90 780 from ?_)
    refine g_stk (y := .int (nI ((zSs C).length + 1))) (by rw [hsl1]) ?_
    refine g_callI (q := 52) (is := [8]) (kc2 := 90) (ks2 := 780) B [.int (nI i2), .int (nI ((zSs C).length)), .int (nI ((zSs C).length + 1))] (ct_X7_init g J (a := n36) (p := i2) (f := (zSs C).length) (s := (zSs C).length + 1)  (by omega) (by omega) (by omega)) dX1_pack_49 rfl rfl q1983 q1984 q103 q1985 rfl rfl moX7_init rfl rfl (by decide) (by decide) (Nat.le_of_ble_eq_true rfl) (Nat.le_of_ble_eq_true rfl) (Nat.le_of_ble_eq_true rfl) (fun _ _ hx => noX_x hx) (fun v49 L1 hp49 => ?_)
    obtain ⟨u0_49, rfl, rfl, hu0_49⟩ := hp49
    refine (show Go g κ 52 [some (.ref x), some (.int (nI i2)), some (.ref a2), some (.int (nI ((zSs C).length))), none] [.ref n36] [v3, v4, v5, v6, v7, [(x, .inr (0, [.ref b, .ref lp, .ref lk, .ref lr, .ref lt, .ref ls, .ref lm, .ref so, .int (nI (zBn C))]))], v1, v2, u0_46, u0_49] 90 780 from ?_)
    refine g_astore (q := 54) (lv2 := [some (.ref x), some (.int (nI i2)), some (.ref a2), some (.int (nI ((zSs C).length))), some (.ref n36)]) B dX1_pack_52 rfl (Nat.le_of_ble_eq_true rfl) (rv_r _) rfl ?_
    refine g_aload_n (q := 55) B dX1_pack_54 rfl rfl (rv_r _) ?_
    refine g_get (q := 58) B (ci := 0) (k := 5) (j := 2) in_X1 rfl dX1_pack_55 rfl rfl (Nat.le_of_ble_eq_true rfl) q279 rfl rfl ?_
    refine g_aload (q := 60) B dX1_pack_58 rfl rfl (rv_r _) ?_
    refine g_callF (q := 65) (is := [7, 8]) (kc2 := 89) (ks2 := 720) B [.ref n36] (ct_add_PackL g J (p := lk) (ps := pks) (rs := (zKs C)) (cap := kcap) (a := n36) (r := ((i2, ((zSs C).length), ((zSs C).length + 1), false, none, false) : PkS)) (mc := 1) (ms := 60) hv2 hu0_49 (by omega) (fun h => grow_s (by omega) h)) dX1_pack_60 rfl (ci := 21) rfl (rc_in B (ci := 21) rfl (k := 7) rfl (LoP.hm hv2)) q706 q709 q711 q81 q713 q708 q707 q712 q710 q318 rfl rfl mojava_util_List_add__Ljava_lang_Object__Z rfl rfl (by decide) (by decide) (Nat.le_of_ble_eq_true rfl) (Nat.le_of_ble_eq_true rfl) (Nat.le_of_ble_eq_true rfl) (fun _ _ hx => noX_x hx) (fun v60 L1 hp60 => ?_)
    obtain ⟨u0_60, rfl, rfl, hu0_60⟩ := hp60
    refine (show Go g κ 65 [some (.ref x), some (.int (nI i2)), some (.ref a2), some (.int (nI ((zSs C).length))), some (.ref n36)] [.int (nI 1)] [v3, v4, v5, v6, v7, [(x, .inr (0, [.ref b, .ref lp, .ref lk, .ref lr, .ref lt, .ref ls, .ref lm, .ref so, .int (nI (zBn C))]))], v1, u0_46, u0_60] 89 720 from ?_)
    have hbp : ∀ r ∈ zPs C, ∀ k ∈ pPk r, k < pks.length := fun r hr k hk => by obtain ⟨q, hq⟩ := List.getElem?_of_mem hr; have h1 := (hc11 _ _ hq).2.1 k hk; have h2 := hv2.len.1; omega
    have hpkl : pks.length = (zKs C).length := hv2.len.1
    have hr_4 : PersL g lp ps (zPs C) pcap x (pks ++ [n36]) pmd v1 := PersL.grow hv1 n36 hbp
    have hr_5 : PropL g lr (zRs C) rcap (pks ++ [n36]) v3 := PropL.grow hv3 n36
    refine g_pop (q := 66) B dX1_pack_65 rfl rfl ?_
    obtain ⟨pu1_p, pwi_p, pu2_p, hpwi_p, hpcl_p, hpe_p⟩ := PersL.opn hr_4 ha_2 hr_2
    refine g_open 6 rfl hpe_p rfl ?_
    refine (show Go g κ 66 [some (.ref x), some (.int (nI i2)), some (.ref a2), some (.int (nI ((zSs C).length))), some (.ref n36)] [] [v3, v4, v5, v6, v7, [(x, .inr (0, [.ref b, .ref lp, .ref lk, .ref lr, .ref lt, .ref ls, .ref lm, .ref so, .int (nI (zBn C))]))], u0_46, u0_60, pu1_p, pwi_p, pu2_p] 89 720 from ?_)
    obtain ⟨ev_p, pl_p, nd_p, ch_p, ecap_p, pcap_p, nn_p, nc_p, plc_p, md_p, v0_p, v1_p, v2_p, v3_p, hP_p, hpl_p, hec_p, hpc_p, hv0_p, hv1_p, hv2_p, hv3_p, rfl⟩ := hpwi_p
    refine g_open 9 rfl rfl rfl ?_
    refine (show Go g κ 66 [some (.ref x), some (.int (nI i2)), some (.ref a2), some (.int (nI ((zSs C).length))), some (.ref n36)] [] [v3, v4, v5, v6, v7, [(x, .inr (0, [.ref b, .ref lp, .ref lk, .ref lr, .ref lt, .ref ls, .ref lm, .ref so, .int (nI (zBn C))]))], u0_46, u0_60, pu1_p, pu2_p, [(a2, .inr (2, [.int (nI (pNo r2)), .ref ev_p, .ref pl_p, .int (oI (pEp r2)), .int (nI (pLf r2)), .ref nd_p, .int (nI (pOn r2)), .int (nI (pKy r2)), .ref ch_p, .int (oI (pRn r2)), .ref x]))], v0_p, v1_p, v2_p, v3_p] 89 720 from ?_)
    have hplb : ∀ k ∈ pPk r2, k < pks.length := hbp _ (List.mem_of_getElem? hr_2)
    refine g_aload_n (q := 67) B dX1_pack_66 rfl rfl (rv_r _) ?_
    refine g_getN (q := 70) B (ci := 2) (k := 10) (j := 2) in_X4 rfl dX1_pack_67 rfl rfl (Nat.le_of_ble_eq_true rfl) q1899 rfl rfl ?_
    refine g_aload (q := 72) B dX1_pack_70 rfl rfl (rv_r _) ?_
    have hpq : (pks ++ [n36])[(zKs C).length]? = some n36 := by rw [← hpkl]; simp
    have hve := PackL.vd hu0_60
    refine g_callF (q := 77) (is := [12, 7]) (kc2 := 88) (ks2 := 520) B [.ref n36] (ct_J2_add g J (p := pl_p) (xs := plc_p) (md := md_p) (cap := pcap_p) (x := n36) (mc := 1) (ms := 200) (we := u0_60) hv1_p (by omega) (fun y hy => hve y (by rcases List.mem_append.mp hy with h | h; exact Plc.sub hpl_p h; rw [List.mem_singleton] at h; rw [h]; simp)) (fun h => ⟨Nat.le_refl _, by unfold growN; split <;> omega⟩)) dX1_pack_72 rfl (ci := 21) rfl (rc_in B (ci := 21) rfl (k := 12) rfl (ListP.hm hv1_p)) q706 q709 q711 q81 q713 q708 q707 q712 q710 q318 rfl rfl mojava_util_List_add__Ljava_lang_Object__Z rfl rfl (by decide) (by decide) (Nat.le_of_ble_eq_true rfl) (Nat.le_of_ble_eq_true rfl) (Nat.le_of_ble_eq_true rfl) (fun _ _ hx => noX_x hx) (fun v72 L1 hp72 => ?_)
    obtain ⟨md272, u0_72, rfl, rfl, hu0_72⟩ := hp72
    refine (show Go g κ 77 [some (.ref x), some (.int (nI i2)), some (.ref a2), some (.int (nI ((zSs C).length))), some (.ref n36)] [.int (nI 1)] [v3, v4, v5, v6, v7, [(x, .inr (0, [.ref b, .ref lp, .ref lk, .ref lr, .ref lt, .ref ls, .ref lm, .ref so, .int (nI (zBn C))]))], u0_46, pu1_p, pu2_p, [(a2, .inr (2, [.int (nI (pNo r2)), .ref ev_p, .ref pl_p, .int (oI (pEp r2)), .int (nI (pLf r2)), .ref nd_p, .int (nI (pOn r2)), .int (nI (pKy r2)), .ref ch_p, .int (oI (pRn r2)), .ref x]))], v0_p, v2_p, v3_p, u0_72, u0_60] 88 520 from ?_)
    have hpln := (Plc.at hpl_p).1
    have hp30 := hpk30 _ (List.mem_of_getElem? hr_2)
    obtain ⟨wc_6, ewc_6⟩ : ∃ w : va_W, w = ([[(a2, .inr (2, [.int (nI (pNo r2)), .ref ev_p, .ref pl_p, .int (oI (pEp r2)), .int (nI (pLf r2)), .ref nd_p, .int (nI (pOn r2)), .int (nI (pKy r2)), .ref ch_p, .int (oI (pRn r2)), .ref x]))], v0_p, u0_72, v2_p, v3_p] : List va_W).flatten := ⟨_, rfl⟩
    have hwc_6 : PersP g a2 x (pks ++ [n36]) ((pNo r2, pEv r2, pPk r2 ++ [(zKs C).length], pEp r2, pLf r2, pNd r2, pOn r2, pKy r2, pCh r2, pRn r2) : PeS) wc_6 := by
      rw [ewc_6]
      exact ⟨ev_p, pl_p, nd_p, ch_p, ecap_p, (if plc_p.length = pcap_p then growN pcap_p else pcap_p), nn_p, nc_p, (plc_p ++ [n36]), md272, _, _, _, _, hP_p, (Plc.push hpl_p (by rw [← hpkl]; simp)), hec_p, (by unfold growN; split <;> (try split) <;> omega), hv0_p, hu0_72, hv2_p, hv3_p, rfl⟩
    refine g_close (w := wc_6) [9, 9, 11, 9, 9] rfl ewc_6 rfl ?_
    refine (show Go g κ 77 [some (.ref x), some (.int (nI i2)), some (.ref a2), some (.int (nI ((zSs C).length))), some (.ref n36)] [.int (nI 1)] [v3, v4, v5, v6, v7, [(x, .inr (0, [.ref b, .ref lp, .ref lk, .ref lr, .ref lt, .ref ls, .ref lm, .ref so, .int (nI (zBn C))]))], u0_46, pu1_p, pu2_p, u0_60, wc_6] 88 520 from ?_)
    obtain ⟨wc_7, ewc_7⟩ : ∃ w : va_W, w = ([pu1_p, wc_6, pu2_p] : List va_W).flatten := ⟨_, rfl⟩
    have hwc_7 : PersL g lp ps ((zPs C).set i2 ((pNo r2, pEv r2, pPk r2 ++ [(zKs C).length], pEp r2, pLf r2, pNd r2, pOn r2, pKy r2, pCh r2, pRn r2) : PeS)) pcap x (pks ++ [n36]) pmd wc_7 := by
      rw [ewc_7]
      exact hpcl_p _ _ hwc_6
    refine g_close (w := wc_7) [7, 9, 7] rfl ewc_7 rfl ?_
    refine (show Go g κ 77 [some (.ref x), some (.int (nI i2)), some (.ref a2), some (.int (nI ((zSs C).length))), some (.ref n36)] [.int (nI 1)] [v3, v4, v5, v6, v7, [(x, .inr (0, [.ref b, .ref lp, .ref lk, .ref lr, .ref lt, .ref ls, .ref lm, .ref so, .int (nI (zBn C))]))], u0_46, u0_60, wc_7] 88 520 from ?_)
    have hr3 : ((zPs C).set i2 ((pNo r2, pEv r2, pPk r2 ++ [(zKs C).length], pEp r2, pLf r2, pNd r2, pOn r2, pKy r2, pCh r2, pRn r2) : PeS))[i2]? = some ((pNo r2, pEv r2, pPk r2 ++ [(zKs C).length], pEp r2, pLf r2, pNd r2, pOn r2, pKy r2, pCh r2, pRn r2) : PeS) := set_at hr_2
    obtain ⟨hli_8, hln_8, hel_8⟩ := PersL.at (Sub.self hwc_7)
    have hE_9 := hel_8 _ _ _ ha_2 hr3
    refine g_pop (q := 78) B dX1_pack_77 rfl rfl ?_
    refine g_aload_n (q := 79) B dX1_pack_78 rfl rfl (rv_r _) ?_
    refine g_callV (q := 82) (is := [8, 7]) (kc2 := 11) (ks2 := 250) B [] (ct_X4_notes_L g J (lp := lp) (pps := ps) (Ps := ((zPs C).set i2 ((pNo r2, pEv r2, pPk r2 ++ [(zKs C).length], pEp r2, pLf r2, pNd r2, pOn r2, pKy r2, pCh r2, pRn r2) : PeS))) (pcp := pcap) (ix := i2) (pmd := pmd) (a := a2) (x := x) (pks := (pks ++ [n36])) (r := ((pNo r2, pEv r2, pPk r2 ++ [(zKs C).length], pEp r2, pLf r2, pNd r2, pOn r2, pKy r2, pCh r2, pRn r2) : PeS)) (lk := lk) (Ks := (zKs C) ++ [((i2, ((zSs C).length), ((zSs C).length + 1), false, none, false) : PkS)]) (kcap := (if pks.length = kcap then growN kcap else kcap)) hwc_7 hu0_60 (ha_2) (hr3) (by intro k hk; rw [List.length_append]; rcases List.mem_append.mp hk with h | h; have := (hc11 _ _ hr_2).2.1 k h; omega; rw [List.mem_singleton] at h; rw [h]; simp)) dX1_pack_79 rfl (rc_in B (ci := 2) rfl (k := 8) rfl (Sub.hm (hE_9) fun _ z => PersP.hm z)) rfl q2012 q2013 q2014 q90 q2015 rfl rfl moX4_notes rfl rfl (by decide) (by decide) (Nat.le_of_ble_eq_true rfl) (Nat.le_of_ble_eq_true rfl) (Nat.le_of_ble_eq_true rfl) (fun _ _ hx => noX_x hx) (fun v79 L1 hp79 => ?_)
    obtain ⟨E79, u0_79, rfl, rfl, hu0_79, hE_79⟩ := hp79
    refine (show Go g κ 82 [some (.ref x), some (.int (nI i2)), some (.ref a2), some (.int (nI ((zSs C).length))), some (.ref n36)] [] [v3, v4, v5, v6, v7, [(x, .inr (0, [.ref b, .ref lp, .ref lk, .ref lr, .ref lt, .ref ls, .ref lm, .ref so, .int (nI (zBn C))]))], u0_46, u0_79, u0_60] 11 250 from ?_)
    have hr_10 : PersL g lp ps ((zPs C).set i2 ((pNo r2, E79, pPk r2 ++ [(zKs C).length], pEp r2, pLf r2, pNd r2, pOn r2, pKy r2, pCh r2, pRn r2) : PeS)) pcap x (pks ++ [n36]) pmd u0_79 := by have z := hu0_79; rw [List.set_set] at z; exact z
    refine g_aload_n (q := 83) B dX1_pack_82 rfl rfl (rv_r _) ?_
    refine g_get (q := 86) B (ci := 0) (k := 5) (j := 2) in_X1 rfl dX1_pack_83 rfl rfl (Nat.le_of_ble_eq_true rfl) q279 rfl rfl ?_
    obtain ⟨md_11, hli_11, hln_11, hel_11⟩ := LoP.at (Sub.self hu0_60)
    refine g_callF (q := 91) (is := [8]) (kc2 := 11) (ks2 := 250) B [] (ct_J2_size_s g J (p := lk) (xs := pks ++ [n36]) (md := md_11) (cap := (if pks.length = kcap then growN kcap else kcap)) (W0 := u0_60)  (hli_11)) dX1_pack_86 rfl (ci := 21) rfl (rc_in B (ci := 21) rfl (k := 8) rfl (LoP.hm hu0_60)) q315 q319 q321 q81 q323 q317 q316 q322 q320 q318 rfl rfl mojava_util_List_size___I rfl rfl (by decide) (by decide) (Nat.le_of_ble_eq_true rfl) (Nat.le_of_ble_eq_true rfl) (Nat.le_of_ble_eq_true rfl) (fun _ _ hx => noX_x hx) (fun v86 L1 hp86 => ?_)
    obtain ⟨rfl, rfl⟩ := hp86
    refine (show Go g κ 91 [some (.ref x), some (.int (nI i2)), some (.ref a2), some (.int (nI ((zSs C).length))), some (.ref n36)] [.int (nI ((pks ++ [n36]).length))] [v3, v4, v5, v6, v7, [(x, .inr (0, [.ref b, .ref lp, .ref lk, .ref lr, .ref lt, .ref ls, .ref lm, .ref so, .int (nI (zBn C))]))], u0_46, u0_79, u0_60] 11 250 from ?_)
    rw [hln_11.1]
    refine (show Go g κ 91 [some (.ref x), some (.int (nI i2)), some (.ref a2), some (.int (nI ((zSs C).length))), some (.ref n36)] [.int (nI (((zKs C) ++ [((i2, ((zSs C).length), ((zSs C).length + 1), false, none, false) : PkS)]).length))] [v3, v4, v5, v6, v7, [(x, .inr (0, [.ref b, .ref lp, .ref lk, .ref lr, .ref lt, .ref ls, .ref lm, .ref so, .int (nI (zBn C))]))], u0_46, u0_79, u0_60] 11 250 from ?_)
    refine g_iconst (v := nI 1) (q := 92) B dX1_pack_91 rfl (by decide) ?_
    refine g_isub (v := nI ((zKs C).length)) (q := 93) B dX1_pack_92 rfl (by rw [List.length_append]; exact pk_sub (by simp)) ?_
    obtain ⟨wc_12, ewc_12⟩ : ∃ w : va_W, w = ([[(x, .inr (0, [.ref b, .ref lp, .ref lk, .ref lr, .ref lt, .ref ls, .ref lm, .ref so, .int (nI (zBn C))]))], u0_46, u0_79, u0_60, v3, v4, v5, v6, v7] : List va_W).flatten := ⟨_, rfl⟩
    have hwc_12 : KgP g x (((zSs C ++ [drw (zZz C)] ++ [drw (lcg (zZz C))]), zBx C, lcg (lcg (zZz C)), (zPs C).set i2 ((pNo r2, E79, pPk r2 ++ [(zKs C).length], pEp r2, pLf r2, pNd r2, pOn r2, pKy r2, pCh r2, pRn r2) : PeS), zKs C ++ [((i2, (zSs C).length, (zSs C).length + 1, false, none, false) : PkS)], zRs C, zTs C, zSt C, zMs C, zSo C, zBn C) : KsS) wc_12 := by
      rw [ewc_12]
      exact ⟨b, lp, lk, lr, lt, ls, lm, so, pcap, (if pks.length = kcap then growN kcap else kcap), rcap, tcap, scap, mcap, socap, ps, (pks ++ [n36]), pmd, _, _, _, _, _, _, _, _, ⟨kc1, by have hz := hv2.len; exact grow_b (by omega) kc2, kc3, kc4, kc5, kc6, kc7⟩, hu0_46, hr_10, hu0_60, hr_5, hv4, hv5, hv6, hv7, rfl⟩
    refine g_close (w := wc_12) [5, 5, 5, 5, 0, 0, 0, 0, 0] rfl ewc_12 rfl ?_
    refine (show Go g κ 93 [some (.ref x), some (.int (nI i2)), some (.ref a2), some (.int (nI ((zSs C).length))), some (.ref n36)] [.int (nI ((zKs C).length))] [wc_12] 11 250 from ?_)
    exact g_iret B E dX1_pack_93 (⟨i2, r2, E79, _, rfl, rfl, hwc_12, rfl, hr_2, by omega, hE_79⟩)
