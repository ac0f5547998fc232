set_option maxRecDepth 100000
theorem moX1_openOf : Mo yX1_openOf 1 := by
  refine ⟨by decide, by decide, by decide +kernel⟩
theorem ct_X1_join_x (g : Gv) (J : Jd g) {x : Nat} {C : KsS} {v : Int32} {w0 : va_W} (hw0 : KgP g x C w0) (hC : KsB C) (hno : ¬ (inR v (zPs C).length = true ∧ ∃ (i : Nat) (r : PeS) (k : Nat), v = nI i ∧ (zPs C)[i]? = some r ∧ opI (zKs C) (pPk r) = some k)) : Ct g yX1_join (ws_ yX1_join cX1_join 10 (some .int)) 17 10 60 [.ref x, .int v] [w0] (fun (rv_ : Option Value) (rL_ : List va_W) => ∃ (u0 : va_W), rv_ = some (.int 0) ∧ rL_ = [u0] ∧ KgP g x C u0 ∧ (False)) (fun (rE_ : String) (rL_ : List va_W) => rL_ = [w0] ∧ ((rE_ = "java/lang/IndexOutOfBoundsException" ∧ (¬ inR v (zPs C).length = true)) ∨ (rE_ = "java/util/NoSuchElementException" ∧ (∃ (i : Nat) (r : PeS), v = nI i ∧ (zPs C)[i]? = some r ∧ opI (zKs C) (pPk r) = none)))) := by
  refine Ct.of "Keygrove" [some (.ref x), some (.int v), none, none, none, none, none, none, none, none] rfl (by decide) rfl (Nat.le_of_ble_eq_true rfl) rfl ?_
  intro κ B E tb
  have hC0 := hC
  obtain ⟨hc1, hc2, hc3, hc4, hc5, hc6, hc7, hc8, hc9, hc10, hc11⟩ := hC0
  obtain ⟨b, lp, lk, lr, lt, ls, lm, so, pcap, kcap, rcap, tcap, scap, mcap, socap, ps, pks, pmd, v0, v1, v2, v3, v4, v5, v6, v7, hcap, hv0, hv1, hv2, hv3, hv4, hv5, hv6, hv7, rfl⟩ := hw0
  refine g_open 0 rfl rfl rfl ?_
  refine (show Go g κ 0 [some (.ref x), some (.int v), none, none, none, none, none, none, none, none] [] [[(x, .inr (0, [.ref b, .ref lp, .ref lk, .ref lr, .ref lt, .ref ls, .ref lm, .ref so, .int (nI (zBn C))]))], v0, v1, v2, v3, v4, v5, v6, v7] 10 60 from ?_)
  refine g_aload_n (q := 1) B dX1_join_0 rfl rfl (rv_r _) ?_
  refine g_iload_n (q := 2) B dX1_join_1 rfl rfl ?_
  refine g_callV (q := 5) (is := [0, 1]) (kc2 := 9) (ks2 := 54) B [.int v] (ct_X1_personWith g J (x := x) (lk := lk) (b := b) (lp := lp) (lr := lr) (lt := lt) (ls := ls) (lm := lm) (so := so) (bxs := zBn C) (ps := ps) (Ps := (zPs C)) (pcap := pcap) (pks := pks) (pmd := pmd) (v := v) hv1 (by first | assumption | omega | rfl)) dX1_join_2 rfl (rc_at B (ci := 0) rfl (k := 0) rfl) rfl q1961 q1963 qs15 q77 q1964 rfl rfl moX1_personWith rfl rfl (by decide) (by decide) (Nat.le_of_ble_eq_true rfl) (Nat.le_of_ble_eq_true rfl) (Nat.le_of_ble_eq_true rfl) (fun E2 L1 hx2 => ?_) (fun v2 L1 hp2 => ?_)
  · skip
    obtain ⟨rfl, hx2⟩ := hx2
    obtain ⟨rfl, hx2⟩ := hx2
    refine gx_cl [7, 0, 6, 0, 0, 0, 0, 0, 0] rfl ?_
    exact g_out B E tb (by first | exact ⟨rfl, Or.inl ⟨rfl, hx2⟩⟩ | exact ⟨rfl, Or.inl ⟨rfl, by simp_all⟩⟩)
  obtain ⟨i2, a2, r2, rfl, rfl, hv_2, ha_2, hr_2⟩ := hp2
  refine (show Go g κ 5 [some (.ref x), some (.int v), none, none, none, none, none, none, none, none] [.ref a2] [v0, v2, v3, v4, v5, v6, v7, [(x, .inr (0, [.ref b, .ref lp, .ref lk, .ref lr, .ref lt, .ref ls, .ref lm, .ref so, .int (nI (zBn C))]))], v1] 9 54 from ?_)
  subst hv_2
  obtain ⟨hli_1, hln_1, hel_1⟩ := PersL.at (Sub.self hv1)
  have hE_2 := hel_1 _ _ _ ha_2 hr_2
  refine (show Go g κ 5 [some (.ref x), some (.int (nI i2)), none, none, none, none, none, none, none, none] [.ref a2] [v0, v2, v3, v4, v5, v6, v7, [(x, .inr (0, [.ref b, .ref lp, .ref lk, .ref lr, .ref lt, .ref ls, .ref lm, .ref so, .int (nI (zBn C))]))], v1] 9 54 from ?_)
  obtain ⟨kc1, kc2, kc3, kc4, kc5, kc6, kc7⟩ := (show capB pcap kcap rcap tcap scap mcap socap from hcap)
  have hPB := pLf_b (hE_2)
  have hlf16 := hPB.2.1
  refine g_astore_n (q := 6) (lv2 := [some (.ref x), some (.int (nI i2)), some (.ref a2), none, none, none, none, none, none, none]) B dX1_join_5 rfl (Nat.le_of_ble_eq_true rfl) (rv_r _) rfl ?_
  refine g_aload_n (q := 7) B dX1_join_6 rfl rfl (rv_r _) ?_
  refine g_aload_n (q := 8) B dX1_join_7 rfl rfl (rv_r _) ?_
  refine g_callV (q := 11) (is := [7, 7, 1]) (kc2 := 8) (ks2 := 50) B [.ref a2] (ct_X1_openOf_L g J (pps := ps) (Ps := (zPs C)) (pcp := pcap) (ix := i2) (pmd := pmd) (x := x) (lk := lk) (b := b) (lp := lp) (lr := lr) (lt := lt) (ls := ls) (lm := lm) (so := so) (bxs := (zBn C)) (a := a2) (pks := pks) (r := r2) (Ks := (zKs C)) (kcap := kcap) hv1 hv2 (ha_2) (hr_2) ((hc11 _ _ hr_2).2.1)) dX1_join_8 rfl (rc_at B (ci := 0) rfl (k := 7) rfl) rfl q2779 q2781 qs44 q77 q2782 rfl rfl moX1_openOf rfl rfl (by decide) (by decide) (Nat.le_of_ble_eq_true rfl) (Nat.le_of_ble_eq_true rfl) (Nat.le_of_ble_eq_true rfl) (fun _ _ hx => noX_x hx) (fun v8 L1 hp8 => ?_)
  obtain ⟨o8, rfl, rfl, hon_8, hos_8⟩ := hp8
  refine (show Go g κ 11 [some (.ref x), some (.int (nI i2)), some (.ref a2), none, none, none, none, none, none, none] [va_rf o8] [v0, v3, v4, v5, v6, v7, [(x, .inr (0, [.ref b, .ref lp, .ref lk, .ref lr, .ref lt, .ref ls, .ref lm, .ref so, .int (nI (zBn C))]))], v1, v2] 8 50 from ?_)
  refine g_astore_n (q := 12) (lv2 := [some (.ref x), some (.int (nI i2)), some (.ref a2), some (va_rf o8), none, none, none, none, none, none]) B dX1_join_11 rfl (Nat.le_of_ble_eq_true rfl) (rv_o _) rfl ?_
  refine g_aload_n (q := 13) B dX1_join_12 rfl rfl (rv_o _) ?_
  refine g_ifnull_o (tgt := 20) (q := 16) B dX1_join_13 rfl (by decide) (fun c13 => ?_) (fun o8_a13 c13 => ?_)
  · skip
    subst c13
    refine g_iconst (v := nI 0) (q := 21) B dX1_join_20 rfl (by decide) ?_
    refine g_callS (q := 24) (is := []) (kc2 := 7) (ks2 := 44) B [.int (nI 0)] (ct_X1_found_2 g J (c := False) (dc := instDecidableFalse)  ) dX1_join_21 rfl q2357 q2358 q77 q2359 rfl rfl moX1_found_2 rfl rfl (by decide) (by decide) (Nat.le_of_ble_eq_true rfl) (Nat.le_of_ble_eq_true rfl) (Nat.le_of_ble_eq_true rfl) (fun E21 L1 hx21 => ?_) (fun v21 L1 hp21 => ?_)
    · skip
      obtain ⟨rfl, hx21⟩ := hx21
      obtain ⟨rfl, hx21⟩ := hx21
      refine gx_cl [6, 0, 5, 5, 0, 0, 0, 0, 0] rfl ?_
      exact g_out B E tb (by first | exact ⟨rfl, Or.inr (⟨rfl, hx21⟩)⟩ | exact ⟨rfl, Or.inr (⟨rfl, ⟨i2, r2, rfl, hr_2, hon_8 rfl⟩⟩)⟩ | exact ⟨rfl, Or.inr (⟨rfl, by simp_all⟩)⟩)
    obtain ⟨rfl, rfl, ht_21⟩ := hp21
    exact ht_21.elim
  · skip
    subst c13
    refine g_iconst (v := nI 1) (q := 17) B dX1_join_16 rfl (by decide) ?_
    refine g_goto (tgt := 21) B dX1_join_17 (by decide) ?_
    refine g_callS (q := 24) (is := []) (kc2 := 7) (ks2 := 44) B [.int (nI 1)] (ct_X1_found_2 g J (c := True) (dc := instDecidableTrue)  ) dX1_join_21 rfl q2357 q2358 q77 q2359 rfl rfl moX1_found_2 rfl rfl (by decide) (by decide) (Nat.le_of_ble_eq_true rfl) (Nat.le_of_ble_eq_true rfl) (Nat.le_of_ble_eq_true rfl) (fun E21 L1 hx21 => ?_) (fun v21 L1 hp21 => ?_)
    · skip
      obtain ⟨rfl, hx21⟩ := hx21
      obtain ⟨rfl, hx21⟩ := hx21
      exact absurd trivial hx21
    obtain ⟨rfl, rfl, ht_21⟩ := hp21
    refine (show Go g κ 24 [some (.ref x), some (.int (nI i2)), some (.ref a2), some (.ref o8_a13), none, none, none, none, none, none] [] [v0, v3, v4, v5, v6, v7, [(x, .inr (0, [.ref b, .ref lp, .ref lk, .ref lr, .ref lt, .ref ls, .ref lm, .ref so, .int (nI (zBn C))]))], v1, v2] 7 44 from ?_)
    have hil2 := get_lt2 hr_2
    obtain ⟨kq, hkq, -⟩ := hos_8 _ rfl
    exact absurd ⟨by rw [inR_k (by omega)]; simpa using get_lt2 hr_2, i2, r2, kq, rfl, hr_2, hkq⟩ hno
theorem mojava_util_List_remove__Ljava_lang_Object__Z : Mo ⟨"java/util/List", "remove", "(Ljava/lang/Object;)Z"⟩ 1 := by
  refine ⟨by decide, by decide, by decide +kernel⟩
theorem ct_X1_join_y (g : Gv) (J : Jd g) {x : Nat} {C : KsS} {v : Int32} {i : Nat} {r : PeS} {kk : Nat} {q : PkS} {nx : Nat} {T : TrS} {st : StS} {own : Nat} {nd : Nat} {sv : Nat} {last : Nat} {isb : Bool} {N2 : Nat → Option Nat} {bf : Nat} {es : Nat} {on : Nat} {ky : Nat} {CH : Nat → Option ChS} {w0 : va_W} (hw0 : KgP g x C w0) (hC : KsB C) (hv : v = nI i) (hr : (zPs C)[i]? = some r) (hop : opI (zKs C) (pPk r) = some kk) (hq : (zKs C)[kk]? = some q) (hnx : q.2.2.2.2.1 = some nx) (hT : (zTs C)[nx]? = some T) (hst : (zSt C)[nx]? = some st) (hlo : lof T i = some own) (hsl : st.1 < 2 ^ T.1) (hmt : mtg T st.1 own = some nd) (hnd : nd < 31) (hsv : T.2.1 nd = some sv) (hM : (clmK T st.1 nd ((zSs C, sv, false, (fup (pNd r) (2 * own) (some q.2.1))) : CmS) T.1) = (zSs C, last, isb, N2)) (hsc : ∀ k, k ≤ T.1 → (clmK T st.1 nd ((zSs C, sv, false, (fup (pNd r) (2 * own) (some q.2.1))) : CmS) k).2.1 < (clmK T st.1 nd ((zSs C, sv, false, (fup (pNd r) (2 * own) (some q.2.1))) : CmS) k).1.length) (hbf : st.2.1 = some bf) (hbl : bf < (zSs C).length) (hes : fnd (zSs C) (bf, none, 4) = some es) (hk5 : fnd (zSs C) (es, none, 5) = some on) (hk6 : fnd (zSs C) (es, none, 6) = some ky) (hchs : chS T es (zSs C) (2 ^ T.1) = (zSs C, CH)) (hqf : q.2.1 < (zSs C).length) : Ct g yX1_join (ws_ yX1_join cX1_join 10 (some .int)) 17 800 6500 [.ref x, .int v] [w0] (fun (rv_ : Option Value) (rL_ : List va_W) => ∃ (E : Nat → Bool) (u0 : va_W), rv_ = some (.int (nI nx)) ∧ rL_ = [u0] ∧ KgP g x ((zSs C, zBx C, zZz C, (zPs C).set i ((pNo r, E, ((pPk r).eraseIdx ((pPk r).idxOf kk)), some nx, own, drpF T N2, on, ky, CH, none) : PeS), (zKs C).set kk (shtP q), zRs C, zTs C, zSt C, zMs C, zSo C, zBn C) : KsS) u0 ∧ (∀ y, E y = true ↔ pEv r y = true ∨ helP ((zKs C).set kk (shtP q)) ((pNo r, pEv r, ((pPk r).eraseIdx ((pPk r).idxOf kk)), some nx, own, drpF T N2, on, ky, CH, none) : PeS) y)) noX := by
  refine Ct.of "Keygrove" [some (.ref x), some (.int v), none, none, none, none, none, none, none, none] rfl (by decide) rfl (Nat.le_of_ble_eq_true rfl) rfl ?_
  intro κ B E tb
  have hC0 := hC
  obtain ⟨hc1, hc2, hc3, hc4, hc5, hc6, hc7, hc8, hc9, hc10, hc11⟩ := hC0
  obtain ⟨b, lp, lk, lr, lt, ls, lm, so, pcap, kcap, rcap, tcap, scap, mcap, socap, ps, pks, pmd, v0, v1, v2, v3, v4, v5, v6, v7, hcap, hv0, hv1, hv2, hv3, hv4, hv5, hv6, hv7, rfl⟩ := hw0
  refine g_open 0 rfl rfl rfl ?_
  refine (show Go g κ 0 [some (.ref x), some (.int v), none, none, none, none, none, none, none, none] [] [[(x, .inr (0, [.ref b, .ref lp, .ref lk, .ref lr, .ref lt, .ref ls, .ref lm, .ref so, .int (nI (zBn C))]))], v0, v1, v2, v3, v4, v5, v6, v7] 800 6500 from ?_)
  refine g_aload_n (q := 1) B dX1_join_0 rfl rfl (rv_r _) ?_
  refine g_iload_n (q := 2) B dX1_join_1 rfl rfl ?_
  refine g_callV (q := 5) (is := [0, 1]) (kc2 := 799) (ks2 := 6494) B [.int v] (ct_X1_personWith g J (x := x) (lk := lk) (b := b) (lp := lp) (lr := lr) (lt := lt) (ls := ls) (lm := lm) (so := so) (bxs := zBn C) (ps := ps) (Ps := (zPs C)) (pcap := pcap) (pks := pks) (pmd := pmd) (v := v) hv1 (by first | assumption | omega | rfl)) dX1_join_2 rfl (rc_at B (ci := 0) rfl (k := 0) rfl) rfl q1961 q1963 qs15 q77 q1964 rfl rfl moX1_personWith rfl rfl (by decide) (by decide) (Nat.le_of_ble_eq_true rfl) (Nat.le_of_ble_eq_true rfl) (Nat.le_of_ble_eq_true rfl) (fun E2 L1 hx2 => ?_) (fun v2 L1 hp2 => ?_)
  · skip
    obtain ⟨rfl, hx2⟩ := hx2
    obtain ⟨rfl, hx2⟩ := hx2
    exact absurd (by rw [hv, inR_k (by have := get_lt2 hr; omega)]; simpa using get_lt2 hr) hx2
  obtain ⟨i2, a2, r2, rfl, rfl, hv_2, ha_2, hr_2⟩ := hp2
  refine (show Go g κ 5 [some (.ref x), some (.int v), none, none, none, none, none, none, none, none] [.ref a2] [v0, v2, v3, v4, v5, v6, v7, [(x, .inr (0, [.ref b, .ref lp, .ref lk, .ref lr, .ref lt, .ref ls, .ref lm, .ref so, .int (nI (zBn C))]))], v1] 799 6494 from ?_)
  have hil := get_lt2 hr
  have hil2 := get_lt2 hr_2
  have hie : i = i2 := (nI_eq (by omega) (by omega)).mp (hv.symm.trans hv_2)
  subst hie
  have hre : r = r2 := Option.some.inj (hr.symm.trans hr_2)
  subst hre
  subst hv
  obtain ⟨kc1, kc2, kc3, kc4, kc5, kc6, kc7⟩ := (show capB pcap kcap rcap tcap scap mcap socap from hcap)
  obtain ⟨hli_1, hln_1, hel_1⟩ := PersL.at (Sub.self hv1)
  have hE_2 := hel_1 _ _ _ ha_2 hr
  have hPB := pLf_b (hE_2)
  obtain ⟨hp0, hp1, hp2, hp3, hp4, hp5, hp6, hp7, hp8⟩ := hPB
  obtain ⟨hno_i, hpk_i, hhl_i, hev_i⟩ := hc11 _ _ hr
  refine (show Go g κ 5 [some (.ref x), some (.int (nI i)), none, none, none, none, none, none, none, none] [.ref a2] [v0, v2, v3, v4, v5, v6, v7, [(x, .inr (0, [.ref b, .ref lp, .ref lk, .ref lr, .ref lt, .ref ls, .ref lm, .ref so, .int (nI (zBn C))]))], v1] 799 6494 from ?_)
  refine g_astore_n (q := 6) (lv2 := [some (.ref x), some (.int (nI i)), some (.ref a2), none, none, none, none, none, none, none]) B dX1_join_5 rfl (Nat.le_of_ble_eq_true rfl) (rv_r _) rfl ?_
  refine g_aload_n (q := 7) B dX1_join_6 rfl rfl (rv_r _) ?_
  refine g_aload_n (q := 8) B dX1_join_7 rfl rfl (rv_r _) ?_
  refine g_callV (q := 11) (is := [7, 7, 1]) (kc2 := 798) (ks2 := 6490) B [.ref a2] (ct_X1_openOf_L g J (pps := ps) (Ps := (zPs C)) (pcp := pcap) (ix := i) (pmd := pmd) (x := x) (lk := lk) (b := b) (lp := lp) (lr := lr) (lt := lt) (ls := ls) (lm := lm) (so := so) (bxs := (zBn C)) (a := a2) (pks := pks) (r := r) (Ks := (zKs C)) (kcap := kcap) hv1 hv2 (ha_2) (hr) (hpk_i)) dX1_join_8 rfl (rc_at B (ci := 0) rfl (k := 7) rfl) rfl q2779 q2781 qs44 q77 q2782 rfl rfl moX1_openOf rfl rfl (by decide) (by decide) (Nat.le_of_ble_eq_true rfl) (Nat.le_of_ble_eq_true rfl) (Nat.le_of_ble_eq_true rfl) (fun _ _ hx => noX_x hx) (fun v8 L1 hp8 => ?_)
  obtain ⟨o8, rfl, rfl, hon_8, hos_8⟩ := hp8
  refine (show Go g κ 11 [some (.ref x), some (.int (nI i)), some (.ref a2), none, none, none, none, none, none, none] [va_rf o8] [v0, v3, v4, v5, v6, v7, [(x, .inr (0, [.ref b, .ref lp, .ref lk, .ref lr, .ref lt, .ref ls, .ref lm, .ref so, .int (nI (zBn C))]))], v1, v2] 798 6490 from ?_)
  obtain ⟨pa, hpa9⟩ : ∃ p, o8 = some p := by
    cases o8 with
    | none => rw [hon_8 rfl] at hop; cases hop
    | some p => exact ⟨p, rfl⟩
  subst hpa9
  obtain ⟨kQ, hkq, hpks⟩ := hos_8 pa rfl
  have hkk : kk = kQ := Option.some.inj (hop.symm.trans hkq)
  subst hkk
  obtain ⟨md_3, hli_3, hln_3, hel_3⟩ := LoP.at (Sub.self hv2)
  have hE_4 := hel_3 _ _ _ hpks hq
  have hqB := (PackP.at (hE_4)).1
  have hq2b := hqB.2.1
  have hnxb := hqB.2.2.2 _ hnx
  have hmem : kk ∈ pPk r := List.mem_of_find?_eq_some hop
  refine (show Go g κ 11 [some (.ref x), some (.int (nI i)), some (.ref a2), none, none, none, none, none, none, none] [.ref pa] [v0, v3, v4, v5, v6, v7, [(x, .inr (0, [.ref b, .ref lp, .ref lk, .ref lr, .ref lt, .ref ls, .ref lm, .ref so, .int (nI (zBn C))]))], v1, v2] 798 6490 from ?_)
  refine g_astore_n (q := 12) (lv2 := [some (.ref x), some (.int (nI i)), some (.ref a2), some (.ref pa), none, none, none, none, none, none]) B dX1_join_11 rfl (Nat.le_of_ble_eq_true rfl) (rv_r _) rfl ?_
  refine g_aload_n (q := 13) B dX1_join_12 rfl rfl (rv_r _) ?_
  refine g_ifnull_r (q := 16) B dX1_join_13 rfl ?_
  refine g_iconst (v := nI 1) (q := 17) B dX1_join_16 rfl (by decide) ?_
  refine g_goto (tgt := 21) B dX1_join_17 (by decide) ?_
  refine g_callS (q := 24) (is := []) (kc2 := 797) (ks2 := 6484) B [.int (nI 1)] (ct_X1_found_2 g J (c := True) (dc := instDecidableTrue)  ) dX1_join_21 rfl q2357 q2358 q77 q2359 rfl rfl moX1_found_2 rfl rfl (by decide) (by decide) (Nat.le_of_ble_eq_true rfl) (Nat.le_of_ble_eq_true rfl) (Nat.le_of_ble_eq_true rfl) (fun E21 L1 hx21 => ?_) (fun v21 L1 hp21 => ?_)
  · skip
    obtain ⟨rfl, hx21⟩ := hx21
    obtain ⟨rfl, hx21⟩ := hx21
    exact absurd trivial hx21
  obtain ⟨rfl, rfl, ht_21⟩ := hp21
  refine (show Go g κ 24 [some (.ref x), some (.int (nI i)), some (.ref a2), some (.ref pa), none, none, none, none, none, none] [] [v0, v3, v4, v5, v6, v7, [(x, .inr (0, [.ref b, .ref lp, .ref lk, .ref lr, .ref lt, .ref ls, .ref lm, .ref so, .int (nI (zBn C))]))], v1, v2] 797 6484 from ?_)
  refine g_aload_n (q := 25) B dX1_join_24 rfl rfl (rv_r _) ?_
  obtain ⟨hK_5, hc_5_0⟩ := PackP.at (hE_4)
  refine g_getNM (q := 28) B (ci := 4) (k := 8) (j := 4) in_X7 rfl dX1_join_25 rfl rfl (hc_5_0) (Nat.le_of_ble_eq_true rfl) q1997 rfl rfl ?_
  refine g_stk (y := .int (nI nx)) (by rw [hnx]; rfl) ?_
  refine g_istore (q := 30) (lv2 := [some (.ref x), some (.int (nI i)), some (.ref a2), some (.ref pa), some (.int (nI nx)), none, none, none, none, none]) B dX1_join_28 rfl (Nat.le_of_ble_eq_true rfl) rfl ?_
  refine g_aload_n (q := 31) B dX1_join_30 rfl rfl (rv_r _) ?_
  refine g_get (q := 34) B (ci := 0) (k := 6) (j := 4) in_X1 rfl dX1_join_31 rfl rfl (Nat.le_of_ble_eq_true rfl) q282 rfl rfl ?_
  refine g_iload (q := 36) B dX1_join_34 rfl rfl ?_
  obtain ⟨ps_6, md_6, hli_6, hln_6, hel_6⟩ := LhP.at (Sub.self hv4)
  obtain ⟨x36, hx36⟩ := get_ex (xs := ps_6) (i := nx) (by have := get_lt2 (show (zTs C)[nx]? = some T from hT); have := hln_6.1; omega)
  have hE_7 := hel_6 _ _ _ hx36 (show (zTs C)[nx]? = some T from hT)
  refine g_callF (q := 41) (is := [2]) (kc2 := 797) (ks2 := 6484) B [.int (nI nx)] (ct_J2_get_s g J (p := lt) (xs := ps_6) (md := md_6) (cap := tcap) (i := nx) (x := x36) (W0 := v4)  (hli_6) (hx36)) dX1_join_36 rfl (ci := 21) rfl (rc_in B (ci := 21) rfl (k := 2) rfl (LhP.hm hv4)) q1138 q1093 q1095 q81 q1097 q1092 q1091 q1096 q1094 q318 rfl rfl mojava_util_List_get__I_Ljava_lang_Object_ rfl rfl (by decide) (by decide) (Nat.le_of_ble_eq_true rfl) (Nat.le_of_ble_eq_true rfl) (Nat.le_of_ble_eq_true rfl) (fun _ _ hx => noX_x hx) (fun v36 L1 hp36 => ?_)
  obtain ⟨rfl, rfl⟩ := hp36
  refine (show Go g κ 41 [some (.ref x), some (.int (nI i)), some (.ref a2), some (.ref pa), some (.int (nI nx)), none, none, none, none, none] [.ref x36] [v0, v3, v5, v6, v7, [(x, .inr (0, [.ref b, .ref lp, .ref lk, .ref lr, .ref lt, .ref ls, .ref lm, .ref so, .int (nI (zBn C))]))], v1, v2, v4] 797 6484 from ?_)
  refine g_castRS (ci := 5) (q := 44) B rfl (rc_in B (ci := 5) rfl (k := 8) rfl (Sub.hm (hE_7) fun _ z => TreeP.hm z)) dX1_join_41 rfl q1139 ?_
  refine g_astore (q := 46) (lv2 := [some (.ref x), some (.int (nI i)), some (.ref a2), some (.ref pa), some (.int (nI nx)), some (.ref x36), none, none, none, none]) B dX1_join_44 rfl (Nat.le_of_ble_eq_true rfl) (rv_r _) rfl ?_
  refine g_aload_n (q := 47) B dX1_join_46 rfl rfl (rv_r _) ?_
  refine g_get (q := 50) B (ci := 0) (k := 5) (j := 5) in_X1 rfl dX1_join_47 rfl rfl (Nat.le_of_ble_eq_true rfl) q283 rfl rfl ?_
  refine g_iload (q := 52) B dX1_join_50 rfl rfl ?_
  obtain ⟨ps_8, md_8, hli_8, hln_8, hel_8⟩ := LhP.at (Sub.self hv5)
  obtain ⟨x52, hx52⟩ := get_ex (xs := ps_8) (i := nx) (by have := get_lt2 (show (zSt C)[nx]? = some st from hst); have := hln_8.1; omega)
  have hE_9 := hel_8 _ _ _ hx52 (show (zSt C)[nx]? = some st from hst)
  refine g_callF (q := 57) (is := [2]) (kc2 := 797) (ks2 := 6484) B [.int (nI nx)] (ct_J2_get_s g J (p := ls) (xs := ps_8) (md := md_8) (cap := scap) (i := nx) (x := x52) (W0 := v5)  (hli_8) (hx52)) dX1_join_52 rfl (ci := 21) rfl (rc_in B (ci := 21) rfl (k := 2) rfl (LhP.hm hv5)) q1138 q1093 q1095 q81 q1097 q1092 q1091 q1096 q1094 q318 rfl rfl mojava_util_List_get__I_Ljava_lang_Object_ rfl rfl (by decide) (by decide) (Nat.le_of_ble_eq_true rfl) (Nat.le_of_ble_eq_true rfl) (Nat.le_of_ble_eq_true rfl) (fun _ _ hx => noX_x hx) (fun v52 L1 hp52 => ?_)
  obtain ⟨rfl, rfl⟩ := hp52
  refine (show Go g κ 57 [some (.ref x), some (.int (nI i)), some (.ref a2), some (.ref pa), some (.int (nI nx)), some (.ref x36), none, none, none, none] [.ref x52] [v0, v3, v6, v7, [(x, .inr (0, [.ref b, .ref lp, .ref lk, .ref lr, .ref lt, .ref ls, .ref lm, .ref so, .int (nI (zBn C))]))], v1, v2, v4, v5] 797 6484 from ?_)
  refine g_castRS (ci := 6) (q := 60) B rfl (rc_in B (ci := 6) rfl (k := 8) rfl (Sub.hm (hE_9) fun _ z => StepP.hm z)) dX1_join_57 rfl q1228 ?_
  refine g_astore (q := 62) (lv2 := [some (.ref x), some (.int (nI i)), some (.ref a2), some (.ref pa), some (.int (nI nx)), some (.ref x36), some (.ref x52), none, none, none]) B dX1_join_60 rfl (Nat.le_of_ble_eq_true rfl) (rv_r _) rfl ?_
  refine g_aload (q := 64) B dX1_join_62 rfl rfl (rv_r _) ?_
  refine g_iload_n (q := 65) B dX1_join_64 rfl rfl ?_
  refine g_callV (q := 68) (is := [7]) (kc2 := 797) (ks2 := 6484) B [.int (nI i)] (ct_X10_leafOf_s g J (t := x36) (T := T) (p := i) (W0 := v4)  (hE_7) (by omega)) dX1_join_65 rfl (rc_in B (ci := 5) rfl (k := 7) rfl (Sub.hm (hE_7) fun _ z => TreeP.hm z)) rfl q1220 q1221 q1222 q123 q1223 rfl rfl moX10_leafOf rfl rfl (by decide) (by decide) (Nat.le_of_ble_eq_true rfl) (Nat.le_of_ble_eq_true rfl) (Nat.le_of_ble_eq_true rfl) (fun _ _ hx => noX_x hx) (fun v65 L1 hp65 => ?_)
  obtain ⟨rfl, rfl⟩ := hp65
  refine (show Go g κ 68 [some (.ref x), some (.int (nI i)), some (.ref a2), some (.ref pa), some (.int (nI nx)), some (.ref x36), some (.ref x52), none, none, none] [.int (oI (lof T i))] [v0, v3, v6, v7, [(x, .inr (0, [.ref b, .ref lp, .ref lk, .ref lr, .ref lt, .ref ls, .ref lm, .ref so, .int (nI (zBn C))]))], v1, v2, v5, v4] 797 6484 from ?_)
  refine g_stk (y := .int (nI own)) (by rw [hlo]; rfl) ?_
  refine g_istore (q := 70) (lv2 := [some (.ref x), some (.int (nI i)), some (.ref a2), some (.ref pa), some (.int (nI nx)), some (.ref x36), some (.ref x52), some (.int (nI own)), none, none]) B dX1_join_68 rfl (Nat.le_of_ble_eq_true rfl) rfl ?_
  have hTBx := TreeP.b2 (hE_7)
  have hp2x := p2_4 hTBx.1
  have hlob := (lof_o hlo).1
  obtain ⟨pu1_p, pwi_p, pu2_p, hpwi_p, hpcl_p, hpe_p⟩ := PersL.opn hv1 ha_2 hr
  refine g_open 5 rfl hpe_p rfl ?_
  refine (show Go g κ 70 [some (.ref x), some (.int (nI i)), some (.ref a2), some (.ref pa), some (.int (nI nx)), some (.ref x36), some (.ref x52), some (.int (nI own)), none, none] [] [v0, v3, v6, v7, [(x, .inr (0, [.ref b, .ref lp, .ref lk, .ref lr, .ref lt, .ref ls, .ref lm, .ref so, .int (nI (zBn C))]))], v2, v5, v4, pu1_p, pwi_p, pu2_p] 797 6484 from ?_)
  obtain ⟨ev_p, pl_p, nd_p, ch_p, ecap_p, pcap_p, nn_p, nc_p, plc_p, md_p, v0_p, v1_p, v2_p, v3_p, hP_p, hpl_p, hec_p, hpc_p, hv0_p, hv1_p, hv2_p, hv3_p, rfl⟩ := hpwi_p
  refine g_open 9 rfl rfl rfl ?_
  refine (show Go g κ 70 [some (.ref x), some (.int (nI i)), some (.ref a2), some (.ref pa), some (.int (nI nx)), some (.ref x36), some (.ref x52), some (.int (nI own)), none, none] [] [v0, v3, v6, v7, [(x, .inr (0, [.ref b, .ref lp, .ref lk, .ref lr, .ref lt, .ref ls, .ref lm, .ref so, .int (nI (zBn C))]))], v2, v5, v4, pu1_p, pu2_p, [(a2, .inr (2, [.int (nI (pNo r)), .ref ev_p, .ref pl_p, .int (oI (pEp r)), .int (nI (pLf r)), .ref nd_p, .int (nI (pOn r)), .int (nI (pKy r)), .ref ch_p, .int (oI (pRn r)), .ref x]))], v0_p, v1_p, v2_p, v3_p] 797 6484 from ?_)
  refine g_aload_n (q := 71) B dX1_join_70 rfl rfl (rv_r _) ?_
  refine g_getN (q := 74) B (ci := 2) (k := 10) (j := 2) in_X4 rfl dX1_join_71 rfl rfl (Nat.le_of_ble_eq_true rfl) q1899 rfl rfl ?_
  refine g_aload_n (q := 75) B dX1_join_74 rfl rfl (rv_r _) ?_
  refine g_nd 5 rfl hv2 (fun _ _ _ z => (PackP.hm z).elim fun fs h => ⟨_, h⟩) ?_
  intro hpnd
  have hve := PackL.vd hv2
  have hidx := plc_idx hpnd hpks _ _ hpl_p
  obtain ⟨hpl1, hpl2⟩ := Plc.at hpl_p
  obtain ⟨iq, hiq⟩ := List.getElem?_of_mem hmem
  obtain ⟨pb, hpb1, hpb2⟩ := hpl2 iq kk hiq
  have hpbe : pa = pb := Option.some.inj (hpks.symm.trans hpb2)
  subst hpbe
  have hpm := List.mem_of_getElem? hpb1
  obtain ⟨fsq, hfsq⟩ := Sub.hm (hE_4) fun _ z => PackP.hm z
  refine g_callF (q := 80) (is := [12, 5]) (kc2 := 797) (ks2 := 6484) B [.ref pa] (ct_J2_remove_2 g J (p := pl_p) (xs := plc_p) (md := md_p) (cap := pcap_p) (x := pa) (fs := fsq) (we := v2) hv1_p (hpm) (fun y hy => hve y (Plc.sub hpl_p hy)) (hfsq)) dX1_join_75 rfl (ci := 21) rfl (rc_in B (ci := 21) rfl (k := 12) rfl (ListP.hm hv1_p)) q2784 q2787 q2789 q81 q2791 q2786 q2785 q2790 q2788 q318 rfl rfl mojava_util_List_remove__Ljava_lang_Object__Z rfl rfl (by decide) (by decide) (Nat.le_of_ble_eq_true rfl) (Nat.le_of_ble_eq_true rfl) (Nat.le_of_ble_eq_true rfl) (fun _ _ hx => noX_x hx) (fun v75 L1 hp75 => ?_)
  obtain ⟨md275, u0_75, rfl, rfl, hu0_75⟩ := hp75
  refine (show Go g κ 80 [some (.ref x), some (.int (nI i)), some (.ref a2), some (.ref pa), some (.int (nI nx)), some (.ref x36), some (.ref x52), some (.int (nI own)), none, none] [.int (nI 1)] [v0, v3, v6, v7, [(x, .inr (0, [.ref b, .ref lp, .ref lk, .ref lr, .ref lt, .ref ls, .ref lm, .ref so, .int (nI (zBn C))]))], v5, v4, pu1_p, pu2_p, [(a2, .inr (2, [.int (nI (pNo r)), .ref ev_p, .ref pl_p, .int (oI (pEp r)), .int (nI (pLf r)), .ref nd_p, .int (nI (pOn r)), .int (nI (pKy r)), .ref ch_p, .int (oI (pRn r)), .ref x]))], v0_p, v2_p, v3_p, u0_75, v2] 797 6484 from ?_)
  refine g_pop (q := 81) B dX1_join_80 rfl rfl ?_
  obtain ⟨lu1_o, lwi_o, lu2_o, hlwi_o, hlcl_o, hle_o⟩ := LoP.opn hv2 hpks hq
  refine g_open 14 rfl hle_o rfl ?_
  refine (show Go g κ 81 [some (.ref x), some (.int (nI i)), some (.ref a2), some (.ref pa), some (.int (nI nx)), some (.ref x36), some (.ref x52), some (.int (nI own)), none, none] [] [v0, v3, v6, v7, [(x, .inr (0, [.ref b, .ref lp, .ref lk, .ref lr, .ref lt, .ref ls, .ref lm, .ref so, .int (nI (zBn C))]))], v5, v4, pu1_p, pu2_p, [(a2, .inr (2, [.int (nI (pNo r)), .ref ev_p, .ref pl_p, .int (oI (pEp r)), .int (nI (pLf r)), .ref nd_p, .int (nI (pOn r)), .int (nI (pKy r)), .ref ch_p, .int (oI (pRn r)), .ref x]))], v0_p, v2_p, v3_p, u0_75, lu1_o, lwi_o, lu2_o] 797 6484 from ?_)
  obtain ⟨hK_o, rfl⟩ := hlwi_o
  refine g_open 15 rfl rfl rfl ?_
  refine (show Go g κ 81 [some (.ref x), some (.int (nI i)), some (.ref a2), some (.ref pa), some (.int (nI nx)), some (.ref x36), some (.ref x52), some (.int (nI own)), none, none] [] [v0, v3, v6, v7, [(x, .inr (0, [.ref b, .ref lp, .ref lk, .ref lr, .ref lt, .ref ls, .ref lm, .ref so, .int (nI (zBn C))]))], v5, v4, pu1_p, pu2_p, [(a2, .inr (2, [.int (nI (pNo r)), .ref ev_p, .ref pl_p, .int (oI (pEp r)), .int (nI (pLf r)), .ref nd_p, .int (nI (pOn r)), .int (nI (pKy r)), .ref ch_p, .int (oI (pRn r)), .ref x]))], v0_p, v2_p, v3_p, u0_75, lu1_o, lu2_o, [(pa, .inr (4, [.int (nI q.1), .int (nI q.2.1), .int (nI q.2.2.1), .int (nI (if q.2.2.2.1 = true then 1 else 0)), .int (oI q.2.2.2.2.1), .int (nI (if q.2.2.2.2.2 = true then 1 else 0))]))]] 797 6484 from ?_)
  refine g_aload_n (q := 82) B dX1_join_81 rfl rfl (rv_r _) ?_
  refine g_iconst (v := nI 0) (q := 83) B dX1_join_82 rfl (by decide) ?_
  refine g_putN (q := 86) (L2 := [v0, v3, v6, v7, [(x, .inr (0, [.ref b, .ref lp, .ref lk, .ref lr, .ref lt, .ref ls, .ref lm, .ref so, .int (nI (zBn C))]))], v5, v4, pu1_p, pu2_p, [(a2, .inr (2, [.int (nI (pNo r)), .ref ev_p, .ref pl_p, .int (oI (pEp r)), .int (nI (pLf r)), .ref nd_p, .int (nI (pOn r)), .int (nI (pKy r)), .ref ch_p, .int (oI (pRn r)), .ref x]))], v0_p, v2_p, v3_p, u0_75, lu1_o, lu2_o, [(pa, .inr (4, [.int (nI q.1), .int (nI q.2.1), .int (nI q.2.2.1), .int (nI (if q.2.2.2.1 = true then 1 else 0)), .int (oI q.2.2.2.2.1), .int (nI 0)]))]]) B (ci := 4) (k := 16) (j := 5) in_X7 tyX7 tyX7_ok nmX7 rfl dX1_join_83 rfl rfl (Nat.le_of_ble_eq_true rfl) q1998 rfl rfl rfl rfl (Nat.le_of_ble_eq_true rfl) rfl ?_
  obtain ⟨wc_10, ewc_10⟩ : ∃ w : va_W, w = ([[(pa, .inr (4, [.int (nI q.1), .int (nI q.2.1), .int (nI q.2.2.1), .int (nI (if q.2.2.2.1 = true then 1 else 0)), .int (oI q.2.2.2.2.1), .int (nI 0)]))]] : List va_W).flatten := ⟨_, rfl⟩
  have hwc_10 : PackP g pa (shtP q) wc_10 := by
    rw [ewc_10]
    exact ⟨hK_o, rfl⟩
  refine g_close (w := wc_10) [16] rfl ewc_10 rfl ?_
  refine (show Go g κ 86 [some (.ref x), some (.int (nI i)), some (.ref a2), some (.ref pa), some (.int (nI nx)), some (.ref x36), some (.ref x52), some (.int (nI own)), none, none] [] [v0, v3, v6, v7, [(x, .inr (0, [.ref b, .ref lp, .ref lk, .ref lr, .ref lt, .ref ls, .ref lm, .ref so, .int (nI (zBn C))]))], v5, v4, pu1_p, pu2_p, [(a2, .inr (2, [.int (nI (pNo r)), .ref ev_p, .ref pl_p, .int (oI (pEp r)), .int (nI (pLf r)), .ref nd_p, .int (nI (pOn r)), .int (nI (pKy r)), .ref ch_p, .int (oI (pRn r)), .ref x]))], v0_p, v2_p, v3_p, u0_75, lu1_o, lu2_o, wc_10] 797 6484 from ?_)
  obtain ⟨wc_11, ewc_11⟩ : ∃ w : va_W, w = ([lu1_o, wc_10, lu2_o] : List va_W).flatten := ⟨_, rfl⟩
  have hwc_11 : LoP g (PackP g) lk pks ((zKs C).set kk (shtP q)) kcap wc_11 := by
    rw [ewc_11]
    exact hlcl_o _ _ hwc_10
  refine g_close (w := wc_11) [14, 15, 14] rfl ewc_11 rfl ?_
  refine (show Go g κ 86 [some (.ref x), some (.int (nI i)), some (.ref a2), some (.ref pa), some (.int (nI nx)), some (.ref x36), some (.ref x52), some (.int (nI own)), none, none] [] [v0, v3, v6, v7, [(x, .inr (0, [.ref b, .ref lp, .ref lk, .ref lr, .ref lt, .ref ls, .ref lm, .ref so, .int (nI (zBn C))]))], v5, v4, pu1_p, pu2_p, [(a2, .inr (2, [.int (nI (pNo r)), .ref ev_p, .ref pl_p, .int (oI (pEp r)), .int (nI (pLf r)), .ref nd_p, .int (nI (pOn r)), .int (nI (pKy r)), .ref ch_p, .int (oI (pRn r)), .ref x]))], v0_p, v2_p, v3_p, u0_75, wc_11] 797 6484 from ?_)
  have hq3 : ((zKs C).set kk (shtP q))[kk]? = some (shtP q) := set_at hq
  obtain ⟨md_12, hli_12, hln_12, hel_12⟩ := LoP.at (Sub.self hwc_11)
  have hE_13 := hel_12 _ _ _ hpks hq3
  refine g_aload_n (q := 87) B dX1_join_86 rfl rfl (rv_r _) ?_
  refine g_getN (q := 90) B (ci := 2) (k := 9) (j := 5) in_X4 rfl dX1_join_87 rfl rfl (Nat.le_of_ble_eq_true rfl) q1905 rfl rfl ?_
  refine g_iconst (v := nI 2) (q := 91) B dX1_join_90 rfl (by decide) ?_
  refine g_iload (q := 93) B dX1_join_91 rfl rfl ?_
  refine g_imul (v := nI (2 * own)) (q := 94) B dX1_join_93 rfl (pk_mul _ _) ?_
  refine g_callS (q := 97) (is := []) (kc2 := 797) (ks2 := 6484) B [.int (nI (2 * own))] (ct_J26_valueOf_k g J (k := 2 * own)  (by omega)) dX1_join_94 rfl q685 q686 q111 q687 rfl rfl moJ26_valueOf rfl rfl (by decide) (by decide) (Nat.le_of_ble_eq_true rfl) (Nat.le_of_ble_eq_true rfl) (Nat.le_of_ble_eq_true rfl) (fun _ _ hx => noX_x hx) (fun v94 L1 hp94 => ?_)
  obtain ⟨rfl, rfl⟩ := hp94
  refine (show Go g κ 97 [some (.ref x), some (.int (nI i)), some (.ref a2), some (.ref pa), some (.int (nI nx)), some (.ref x36), some (.ref x52), some (.int (nI own)), none, none] [.ref (kI g (2 * own)), .ref nd_p] [v0, v3, v6, v7, [(x, .inr (0, [.ref b, .ref lp, .ref lk, .ref lr, .ref lt, .ref ls, .ref lm, .ref so, .int (nI (zBn C))]))], v5, v4, pu1_p, pu2_p, [(a2, .inr (2, [.int (nI (pNo r)), .ref ev_p, .ref pl_p, .int (oI (pEp r)), .int (nI (pLf r)), .ref nd_p, .int (nI (pOn r)), .int (nI (pKy r)), .ref ch_p, .int (oI (pRn r)), .ref x]))], v0_p, v2_p, v3_p, u0_75, wc_11] 797 6484 from ?_)
  refine g_aload_n (q := 98) B dX1_join_97 rfl rfl (rv_r _) ?_
  obtain ⟨hK_14, hc_14_0⟩ := PackP.at (hE_13)
  refine g_getNM (q := 101) B (ci := 4) (k := 14) (j := 1) in_X7 rfl dX1_join_98 rfl rfl (hc_14_0) (Nat.le_of_ble_eq_true rfl) q1991 rfl rfl ?_
  refine g_callS (q := 104) (is := []) (kc2 := 796) (ks2 := 6483) B [.int (nI ((shtP q).2.1))] (ct_J26_valueOf g J (v := nI ((shtP q).2.1))  ) dX1_join_101 rfl q685 q686 q111 q687 rfl rfl moJ26_valueOf rfl rfl (by decide) (by decide) (Nat.le_of_ble_eq_true rfl) (Nat.le_of_ble_eq_true rfl) (Nat.le_of_ble_eq_true rfl) (fun _ _ hx => noX_x hx) (fun v101 L1 hp101 => ?_)
  obtain ⟨a101, u0_101, rfl, rfl, hu0_101⟩ := hp101
  refine (show Go g κ 104 [some (.ref x), some (.int (nI i)), some (.ref a2), some (.ref pa), some (.int (nI nx)), some (.ref x36), some (.ref x52), some (.int (nI own)), none, none] [.ref a101, .ref (kI g (2 * own)), .ref nd_p] [v0, v3, v6, v7, [(x, .inr (0, [.ref b, .ref lp, .ref lk, .ref lr, .ref lt, .ref ls, .ref lm, .ref so, .int (nI (zBn C))]))], v5, v4, pu1_p, pu2_p, [(a2, .inr (2, [.int (nI (pNo r)), .ref ev_p, .ref pl_p, .int (oI (pEp r)), .int (nI (pLf r)), .ref nd_p, .int (nI (pOn r)), .int (nI (pKy r)), .ref ch_p, .int (oI (pRn r)), .ref x]))], v0_p, v2_p, v3_p, u0_75, wc_11, u0_101] 796 6483 from ?_)
  refine g_callV (q := 107) (is := [11, 14]) (kc2 := 795) (ks2 := 6477) B [.ref (kI g (2 * own)), .ref a101] (ct_NmP_put g J (t := nd_p) (F := (pNd r)) (n := nn_p) (k := 2 * own) (a := a101) (r := (shtP q).2.1) hv2_p hu0_101 (by omega)) dX1_join_104 rfl (rc_in B (ci := 27) rfl (k := 11) rfl (MoP.hm hv2_p)) rfl q2084 q2085 q2086 q91 q2087 rfl rfl moJ10_put rfl rfl (by decide) (by decide) (Nat.le_of_ble_eq_true rfl) (Nat.le_of_ble_eq_true rfl) (Nat.le_of_ble_eq_true rfl) (fun _ _ hx => noX_x hx) (fun v104 L1 hp104 => ?_)
  obtain ⟨o104, u0_104, rfl, rfl, hu0_104⟩ := hp104
  refine (show Go g κ 107 [some (.ref x), some (.int (nI i)), some (.ref a2), some (.ref pa), some (.int (nI nx)), some (.ref x36), some (.ref x52), some (.int (nI own)), none, none] [va_rf o104] [v0, v3, v6, v7, [(x, .inr (0, [.ref b, .ref lp, .ref lk, .ref lr, .ref lt, .ref ls, .ref lm, .ref so, .int (nI (zBn C))]))], v5, v4, pu1_p, pu2_p, [(a2, .inr (2, [.int (nI (pNo r)), .ref ev_p, .ref pl_p, .int (oI (pEp r)), .int (nI (pLf r)), .ref nd_p, .int (nI (pOn r)), .int (nI (pKy r)), .ref ch_p, .int (oI (pRn r)), .ref x]))], v0_p, v3_p, u0_75, wc_11, u0_104] 795 6477 from ?_)
  refine g_pop (q := 108) B dX1_join_107 rfl (rv_c (rv_o _)) ?_
  obtain ⟨wc_15, ewc_15⟩ : ∃ w : va_W, w = ([[(a2, .inr (2, [.int (nI (pNo r)), .ref ev_p, .ref pl_p, .int (oI (pEp r)), .int (nI (pLf r)), .ref nd_p, .int (nI (pOn r)), .int (nI (pKy r)), .ref ch_p, .int (oI (pRn r)), .ref x]))], v0_p, u0_75, u0_104, v3_p] : List va_W).flatten := ⟨_, rfl⟩
  have hwc_15 : PersP g a2 x pks ((pNo r, pEv r, ((pPk r).eraseIdx ((pPk r).idxOf kk)), pEp r, pLf r, (fup (pNd r) (2 * own) (some q.2.1)), pOn r, pKy r, pCh r, pRn r) : PeS) wc_15 := by
    rw [ewc_15]
    exact ⟨ev_p, pl_p, nd_p, ch_p, ecap_p, pcap_p, (nn_p + (if (pNd r) (2 * own) = none then 1 else 0)), nc_p, (plc_p.eraseIdx (plc_p.idxOf pa)), md275, _, _, _, _, (by exact ⟨hp0, hp1, hp2, hp3, hp4, hp5, fup_bd hp6 hq2b, hp7, hp8⟩), (by have z := Plc.era hpl_p ((pPk r).idxOf kk); rw [← hidx] at z ⊢; exact z), hec_p, hpc_p, hv0_p, hu0_75, hu0_104, hv3_p, rfl⟩
  refine g_close (w := wc_15) [9, 9, 10, 11, 9] rfl ewc_15 rfl ?_
  refine (show Go g κ 108 [some (.ref x), some (.int (nI i)), some (.ref a2), some (.ref pa), some (.int (nI nx)), some (.ref x36), some (.ref x52), some (.int (nI own)), none, none] [] [v0, v3, v6, v7, [(x, .inr (0, [.ref b, .ref lp, .ref lk, .ref lr, .ref lt, .ref ls, .ref lm, .ref so, .int (nI (zBn C))]))], v5, v4, pu1_p, pu2_p, wc_11, wc_15] 795 6477 from ?_)
  obtain ⟨wc_16, ewc_16⟩ : ∃ w : va_W, w = ([pu1_p, wc_15, pu2_p] : List va_W).flatten := ⟨_, rfl⟩
  have hwc_16 : PersL g lp ps ((zPs C).set i ((pNo r, pEv r, ((pPk r).eraseIdx ((pPk r).idxOf kk)), pEp r, pLf r, (fup (pNd r) (2 * own) (some q.2.1)), pOn r, pKy r, pCh r, pRn r) : PeS)) pcap x pks pmd wc_16 := by
    rw [ewc_16]
    exact hpcl_p _ _ hwc_15
  refine g_close (w := wc_16) [7, 9, 7] rfl ewc_16 rfl ?_
  refine (show Go g κ 108 [some (.ref x), some (.int (nI i)), some (.ref a2), some (.ref pa), some (.int (nI nx)), some (.ref x36), some (.ref x52), some (.int (nI own)), none, none] [] [v0, v3, v6, v7, [(x, .inr (0, [.ref b, .ref lp, .ref lk, .ref lr, .ref lt, .ref ls, .ref lm, .ref so, .int (nI (zBn C))]))], v5, v4, wc_11, wc_16] 795 6477 from ?_)
  have hr1 : ((zPs C).set i ((pNo r, pEv r, ((pPk r).eraseIdx ((pPk r).idxOf kk)), pEp r, pLf r, (fup (pNd r) (2 * own) (some q.2.1)), pOn r, pKy r, pCh r, pRn r) : PeS))[i]? = some ((pNo r, pEv r, ((pPk r).eraseIdx ((pPk r).idxOf kk)), pEp r, pLf r, (fup (pNd r) (2 * own) (some q.2.1)), pOn r, pKy r, pCh r, pRn r) : PeS) := set_at hr
  obtain ⟨hli_17, hln_17, hel_17⟩ := PersL.at (Sub.self hwc_16)
  have hE_18 := hel_17 _ _ _ ha_2 hr1
  refine g_aload (q := 110) B dX1_join_108 rfl rfl (rv_r _) ?_
  refine g_aload (q := 112) B dX1_join_110 rfl rfl (rv_r _) ?_
  obtain ⟨bb_19, be_19, nb_19, ne_19, hc_19_0, hs_19_0, hs_19_1⟩ := StepP.at (hE_9)
  refine g_getNM (q := 115) B (ci := 6) (k := 5) (j := 0) in_X11 rfl dX1_join_112 rfl rfl (hc_19_0) (Nat.le_of_ble_eq_true rfl) q2064 rfl rfl ?_
  refine g_iload (q := 117) B dX1_join_115 rfl rfl ?_
  refine g_callS (q := 120) (is := [6]) (kc2 := 792) (ks2 := 6460) B [.ref x36, .int (nI st.1), .int (nI own)] (ct_X1_meeting_s g J (t := x36) (T := T) (l := st.1) (o := own) (W0 := v4)  (hE_7) (hsl) (by omega)) dX1_join_117 rfl q2738 q2739 q77 q2740 rfl rfl moX1_meeting rfl rfl (by decide) (by decide) (Nat.le_of_ble_eq_true rfl) (Nat.le_of_ble_eq_true rfl) (Nat.le_of_ble_eq_true rfl) (fun _ _ hx => noX_x hx) (fun v117 L1 hp117 => ?_)
  obtain ⟨rfl, rfl⟩ := hp117
  refine (show Go g κ 120 [some (.ref x), some (.int (nI i)), some (.ref a2), some (.ref pa), some (.int (nI nx)), some (.ref x36), some (.ref x52), some (.int (nI own)), none, none] [.int (oI (mtg T st.1 own))] [v0, v3, v6, v7, [(x, .inr (0, [.ref b, .ref lp, .ref lk, .ref lr, .ref lt, .ref ls, .ref lm, .ref so, .int (nI (zBn C))]))], v5, wc_11, wc_16, v4] 792 6460 from ?_)
  refine g_stk (y := .int (nI nd)) (by rw [hmt]; rfl) ?_
  refine g_istore (q := 122) (lv2 := [some (.ref x), some (.int (nI i)), some (.ref a2), some (.ref pa), some (.int (nI nx)), some (.ref x36), some (.ref x52), some (.int (nI own)), some (.int (nI nd)), none]) B dX1_join_120 rfl (Nat.le_of_ble_eq_true rfl) rfl ?_
  refine g_aload_n (q := 123) B dX1_join_122 rfl rfl (rv_r _) ?_
  refine g_aload_n (q := 124) B dX1_join_123 rfl rfl (rv_r _) ?_
  refine g_aload (q := 126) B dX1_join_124 rfl rfl (rv_r _) ?_
  refine g_aload (q := 128) B dX1_join_126 rfl rfl (rv_r _) ?_
  refine g_getNM (q := 131) B (ci := 6) (k := 5) (j := 0) in_X11 rfl dX1_join_128 rfl rfl (hc_19_0) (Nat.le_of_ble_eq_true rfl) q2064 rfl rfl ?_
  refine g_iload (q := 133) B dX1_join_131 rfl rfl ?_
  refine g_aload (q := 135) B dX1_join_133 rfl rfl (rv_r _) ?_
  obtain ⟨as_20, al_20, ap_20, fs_20, fl_20, fp_20, hB_20, hfs_20, hfl_20, hfp_20, hc_20_0, hc_20_1, hc_20_2, hc_20_3⟩ := TreeP.at (hE_7)
  refine g_getNM (q := 138) B (ci := 5) (k := 8) (j := 1) in_X10 rfl dX1_join_135 rfl rfl (hc_20_0) (Nat.le_of_ble_eq_true rfl) q2040 rfl rfl ?_
  refine g_iload (q := 140) B dX1_join_138 rfl rfl ?_
  refine g_ialdM (v := oI (T.2.1 nd)) (q := 141) B (k := 8) dX1_join_140 rfl rfl (hc_20_1) (vp_in_nI (by omega) (by omega)) (by rw [nI_clamp (by omega)]; exact hfs_20 _ (by omega)) ?_
  refine g_stk (y := .int (nI sv)) (by rw [hsv]; rfl) ?_
  refine g_callV (q := 144) (is := [4, 0, 5, 5]) (kc2 := 560) (ks2 := 5000) B [.ref a2, .ref x36, .int (nI st.1), .int (nI nd), .int (nI sv)] (ct_X1_climbs_s_L g J (pps := ps) (Ps := ((zPs C).set i ((pNo r, pEv r, ((pPk r).eraseIdx ((pPk r).idxOf kk)), pEp r, pLf r, (fup (pNd r) (2 * own) (some q.2.1)), pOn r, pKy r, pCh r, pRn r) : PeS))) (pcp := pcap) (ix := i) (pmd := pmd) (x := x) (lk := lk) (b := b) (lp := lp) (lr := lr) (lt := lt) (ls := ls) (lm := lm) (so := so) (bxs := (zBn C)) (a := a2) (pks := pks) (r := ((pNo r, pEv r, ((pPk r).eraseIdx ((pPk r).idxOf kk)), pEp r, pLf r, (fup (pNd r) (2 * own) (some q.2.1)), pOn r, pKy r, pCh r, pRn r) : PeS)) (ss := (zSs C)) (bx := (zBx C)) (z := (zZz C)) (t := x36) (T := T) (l := st.1) (fm := nd) (sec := sv) (TA := (PhS (zSs C))) (W3 := v4) hv0 hwc_16 (ha_2) (hr1) (hE_7) (hsl) (hnd) (hsc) (by rw [hM]; show (zSs C).length ≤ 990; omega) (by rw [hM]; exact Nat.le_refl _)) dX1_join_141 rfl (rc_at B (ci := 0) rfl (k := 4) rfl) rfl q2768 q2770 qs43 q77 q2771 rfl rfl moX1_climbs rfl rfl (by decide) (by decide) (Nat.le_of_ble_eq_true rfl) (by omega) (by omega) (fun _ _ hx => noX_x hx) (fun v141 L1 hp141 => ?_)
  obtain ⟨u1_141, u2_141, rfl, rfl, hu1_141, hu2_141⟩ := hp141
  refine (show Go g κ 144 [some (.ref x), some (.int (nI i)), some (.ref a2), some (.ref pa), some (.int (nI nx)), some (.ref x36), some (.ref x52), some (.int (nI own)), some (.int (nI nd)), none] [.int (nI ((clmK T st.1 nd (((zSs C), sv, false, pNd ((pNo r, pEv r, ((pPk r).eraseIdx ((pPk r).idxOf kk)), pEp r, pLf r, (fup (pNd r) (2 * own) (some q.2.1)), pOn r, pKy r, pCh r, pRn r) : PeS)) : CmS) T.1).2.1))] [v3, v6, v7, v5, wc_11, [(x, .inr (0, [.ref b, .ref lp, .ref lk, .ref lr, .ref lt, .ref ls, .ref lm, .ref so, .int (nI (zBn C))]))], u1_141, u2_141, v4] 560 5000 from ?_)
  refine g_stk (y := .int (nI last)) (by rw [hM]) ?_
  have hr_21 : BookP g b (zSs C) (zBx C) (zZz C) u1_141 := by have z := hu1_141; rw [hM] at z; exact z
  have hr_22 : PersL g lp ps ((zPs C).set i ((pNo r, pEv r, ((pPk r).eraseIdx ((pPk r).idxOf kk)), pEp r, pLf r, N2, pOn r, pKy r, pCh r, pRn r) : PeS)) pcap x pks pmd u2_141 := by have z := hu2_141; rw [List.set_set, hM] at z; exact z
  refine (show Go g κ 144 [some (.ref x), some (.int (nI i)), some (.ref a2), some (.ref pa), some (.int (nI nx)), some (.ref x36), some (.ref x52), some (.int (nI own)), some (.int (nI nd)), none] [.int (nI last)] [v3, v6, v7, v5, wc_11, [(x, .inr (0, [.ref b, .ref lp, .ref lk, .ref lr, .ref lt, .ref ls, .ref lm, .ref so, .int (nI (zBn C))]))], u1_141, u2_141, v4] 560 5000 from ?_)
  have hr2 : ((zPs C).set i ((pNo r, pEv r, ((pPk r).eraseIdx ((pPk r).idxOf kk)), pEp r, pLf r, N2, pOn r, pKy r, pCh r, pRn r) : PeS))[i]? = some ((pNo r, pEv r, ((pPk r).eraseIdx ((pPk r).idxOf kk)), pEp r, pLf r, N2, pOn r, pKy r, pCh r, pRn r) : PeS) := set_at hr
  have hesl := fnd_lt hes
  obtain ⟨hli_23, hln_23, hel_23⟩ := PersL.at (Sub.self hr_22)
  have hE_24 := hel_23 _ _ _ ha_2 hr2
  refine g_istore (q := 146) (lv2 := [some (.ref x), some (.int (nI i)), some (.ref a2), some (.ref pa), some (.int (nI nx)), some (.ref x36), some (.ref x52), some (.int (nI own)), some (.int (nI nd)), some (.int (nI last))]) B dX1_join_144 rfl (Nat.le_of_ble_eq_true rfl) rfl ?_
  refine g_aload_n (q := 147) B dX1_join_146 rfl rfl (rv_r _) ?_
  refine g_iload (q := 149) B dX1_join_147 rfl rfl ?_
  refine g_aload_n (q := 150) B dX1_join_149 rfl rfl (rv_r _) ?_
  refine g_get (q := 153) B (ci := 0) (k := 5) (j := 0) in_X1 rfl dX1_join_150 rfl rfl (Nat.le_of_ble_eq_true rfl) q277 rfl rfl ?_
  refine g_aload (q := 155) B dX1_join_153 rfl rfl (rv_r _) ?_
  refine g_getNM (q := 158) B (ci := 6) (k := 3) (j := 1) in_X11 rfl dX1_join_155 rfl rfl (hc_19_0) (Nat.le_of_ble_eq_true rfl) q2066 rfl rfl ?_
  refine g_stk (y := .int (nI bf)) (by rw [hbf]; rfl) ?_
  refine g_iconst (v := nI 4) (q := 159) B dX1_join_158 rfl (by decide) ?_
  refine g_callV (q := 162) (is := [6]) (kc2 := 560 - (20 + 13 * (PhS (zSs C) - PhS (zSs C)))) (ks2 := 5000 - (170 + 55 * (PhS (zSs C) - PhS (zSs C)))) B [.int (nI bf), .int (nI 4)] (ct_X2_from_p g J (b := b) (ss := (zSs C)) (bx := (zBx C)) (z := (zZz C)) (one := bf) (l := 4) (s2 := (zSs C)) (i := es) hr_21 (hbl) (by omega) (Or.inl (by decide)) (frm_s hes)) dX1_join_159 rfl (rc_in B (ci := 1) rfl (k := 6) rfl (BookP.hm hr_21)) rfl q1229 q1230 q1231 q78 q1232 rfl rfl moX2_from rfl rfl (by decide) (by decide) (Nat.le_of_ble_eq_true rfl) (by omega) (by omega) (fun _ _ hx => noX_x hx) (fun v159 L1 hp159 => ?_)
  obtain ⟨u0_159, rfl, rfl, hu0_159, hph_159⟩ := hp159
  refine (show Go g κ 162 [some (.ref x), some (.int (nI i)), some (.ref a2), some (.ref pa), some (.int (nI nx)), some (.ref x36), some (.ref x52), some (.int (nI own)), some (.int (nI nd)), some (.int (nI last))] [.int (nI es), .int (nI nx), .ref a2] [v3, v6, v7, v5, wc_11, [(x, .inr (0, [.ref b, .ref lp, .ref lk, .ref lr, .ref lt, .ref ls, .ref lm, .ref so, .int (nI (zBn C))]))], u2_141, v4, u0_159] (560 - (20 + 13 * (PhS (zSs C) - PhS (zSs C)))) (5000 - (170 + 55 * (PhS (zSs C) - PhS (zSs C)))) from ?_)
  refine g_callV (q := 165) (is := [6, 4, 4, 4, 4]) (kc2 := 0) (ks2 := 0) B [.int (nI nx), .int (nI es)] (ct_X4_enters_L g J (pps := ps) (Ps := ((zPs C).set i ((pNo r, pEv r, ((pPk r).eraseIdx ((pPk r).idxOf kk)), pEp r, pLf r, N2, pOn r, pKy r, pCh r, pRn r) : PeS))) (pcp := pcap) (ix := i) (pmd := pmd) (a := a2) (x := x) (pks := pks) (r := ((pNo r, pEv r, ((pPk r).eraseIdx ((pPk r).idxOf kk)), pEp r, pLf r, N2, pOn r, pKy r, pCh r, pRn r) : PeS)) (lk := lk) (Ks := ((zKs C).set kk (shtP q))) (kcap := kcap) (b := b) (ss := (zSs C)) (bx := (zBx C)) (z := (zZz C)) (Ts := (zTs C)) (tcap := tcap) (lp := lp) (lr := lr) (lt := lt) (ls := ls) (lm := lm) (so := so) (bxs := (zBn C)) (nx := nx) (sec := es) (T := T) (lf := own) (s1 := (zSs C)) (on := on) (s2 := (zSs C)) (ky := ky) (TA := (PhS (zSs C))) hr_22 hwc_11 hv4 hu0_159 (ha_2) (hr2) (hT) (by show lof T (pNo r) = some own; rw [hno_i]; exact hlo) (hesl) (frm_s hk5) (frm_s hk6) (by rw [hchs]; show (zSs C).length ≤ 998; omega) (by rw [hchs]; exact Nat.le_refl _) (by omega) (by intro j hj; rw [List.length_set]; exact hpk_i j (List.mem_of_mem_eraseIdx hj))) dX1_join_162 rfl (rc_in B (ci := 2) rfl (k := 6) rfl (Sub.hm (hE_24) fun _ z => PersP.hm z)) rfl q2168 q2169 q2170 q90 q2171 rfl rfl moX4_enters rfl rfl (by decide) (by decide) (Nat.le_of_ble_eq_true rfl) (by omega) (by omega) (fun _ _ hx => noX_x hx) (fun v162 L1 hp162 => ?_)
  obtain ⟨E162, u0_162, u4_162, rfl, rfl, hu0_162, hu4_162, hE_162⟩ := hp162
  refine (show Go g κ 165 [some (.ref x), some (.int (nI i)), some (.ref a2), some (.ref pa), some (.int (nI nx)), some (.ref x36), some (.ref x52), some (.int (nI own)), some (.int (nI nd)), some (.int (nI last))] [] [v3, v6, v7, v5, u0_162, wc_11, [(x, .inr (0, [.ref b, .ref lp, .ref lk, .ref lr, .ref lt, .ref ls, .ref lm, .ref so, .int (nI (zBn C))]))], v4, u4_162] 0 0 from ?_)
  have hr_25 : BookP g b (zSs C) (zBx C) (zZz C) u4_162 := by have z := hu4_162; rw [hchs] at z; exact z
  have hr_26 : PersL g lp ps ((zPs C).set i ((pNo r, E162, ((pPk r).eraseIdx ((pPk r).idxOf kk)), some nx, own, drpF T N2, on, ky, CH, none) : PeS)) pcap x pks pmd u0_162 := by have z := hu0_162; rw [List.set_set, hchs] at z; exact z
  have hEz := hE_162
  rw [hchs] at hEz
  refine g_iload (q := 167) B dX1_join_165 rfl rfl ?_
  obtain ⟨wc_27, ewc_27⟩ : ∃ w : va_W, w = ([[(x, .inr (0, [.ref b, .ref lp, .ref lk, .ref lr, .ref lt, .ref ls, .ref lm, .ref so, .int (nI (zBn C))]))], u4_162, u0_162, wc_11, v3, v4, v5, v6, v7] : List va_W).flatten := ⟨_, rfl⟩
  have hwc_27 : KgP g x ((zSs C, zBx C, zZz C, (zPs C).set i ((pNo r, E162, ((pPk r).eraseIdx ((pPk r).idxOf kk)), some nx, own, drpF T N2, on, ky, CH, none) : PeS), (zKs C).set kk (shtP q), zRs C, zTs C, zSt C, zMs C, zSo C, zBn C) : KsS) wc_27 := by
    rw [ewc_27]
    exact ⟨b, lp, lk, lr, lt, ls, lm, so, pcap, kcap, rcap, tcap, scap, mcap, socap, ps, pks, pmd, _, _, _, _, _, _, _, _, hcap, hr_25, hr_26, hwc_11, hv3, hv4, hv5, hv6, hv7, rfl⟩
  refine g_close (w := wc_27) [6, 7, 4, 4, 0, 3, 2, 0, 0] rfl ewc_27 rfl ?_
  refine (show Go g κ 167 [some (.ref x), some (.int (nI i)), some (.ref a2), some (.ref pa), some (.int (nI nx)), some (.ref x36), some (.ref x52), some (.int (nI own)), some (.int (nI nd)), some (.int (nI last))] [.int (nI nx)] [wc_27] 0 0 from ?_)
  exact g_iret B E dX1_join_167 (⟨E162, _, rfl, rfl, hwc_27, hEz⟩)
