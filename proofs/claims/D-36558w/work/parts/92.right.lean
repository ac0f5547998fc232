set_option maxRecDepth 100000
theorem gt_hi {k n : Nat} (hk : k < 2 ^ 31) (hn : n < 2 ^ 31) : nI n - nI 1 < nI k ↔ ¬ k < n := by
  rw [in_hi hn, nI_ti hk]; omega
theorem moX1_isFresh : Mo yX1_isFresh 1 := by
  refine ⟨by decide, by decide, by decide +kernel⟩
theorem moX1_holdsJust : Mo yX1_holdsJust 1 := by
  refine ⟨by decide, by decide, by decide +kernel⟩
theorem ct_X1_isRight (g : Gv) (J : Jd g) {x : Nat} {lk : Nat} {b : Nat} {lp : Nat} {lr : Nat} {lt : Nat} {ls : Nat} {lm : Nat} {so : Nat} {C : KsS} {ps : List Nat} {pcap : Nat} {pks : List Nat} {kcap : Nat} {tcap : Nat} {scap : Nat} {pmd : Int32} {i : Nat} {a : Nat} {r : PeS} {w1 : va_W} {w2 : va_W} {w3 : va_W} {w4 : va_W} {w5 : va_W} (hw1 : BookP g b (zSs C) (zBx C) (zZz C) w1) (hw2 : PersL g lp ps (zPs C) pcap x pks pmd w2) (hw3 : LoP g (PackP g) lk pks (zKs C) kcap w3) (hw4 : LhP g (TreeP g) lt (zTs C) tcap w4) (hw5 : LhP g (StepP g) ls (zSt C) scap w5) (hC : KsB C) (ha : ps[i]? = some a) (hr : (zPs C)[i]? = some r) (hep : ∀ m, pEp r = some m → m < (zTs C).length) (hky : ∀ (e : Nat) (s : StS), (zSt C)[e]? = some s → s.2.2.1 < (zSs C).length ∧ ∃ ky, fnd (zSs C) (s.2.2.1, none, 6) = some ky) : Ct g yX1_isRight (ws_ yX1_isRight cX1_isRight 7 (some .boolean)) 14 (2 * ((zSs C).length + capF (zSs C).length / 5) + 1250) (2 * ((zSs C).length + 4 * capF (zSs C).length) + 9500) [.ref x, .ref a] [[(x, .inr (0, [.ref b, .ref lp, .ref lk, .ref lr, .ref lt, .ref ls, .ref lm, .ref so, .int (nI (zBn C))]))], w1, w2, w3, w4, w5] (fun (rv_ : Option Value) (rL_ : List va_W) => ∃ (q : Bool) (E : Nat → Bool) (N : Nat → Bool) (u1 : va_W) (u2 : va_W), rv_ = some (.int (nI (if q = true then 1 else 0))) ∧ rL_ = [[(x, .inr (0, [.ref b, .ref lp, .ref lk, .ref lr, .ref lt, .ref ls, .ref lm, .ref so, .int (nI (zBn C))]))], u1, u2, w3, w4, w5] ∧ BookP g b (zSs C) (zBx C) (zZz C) u1 ∧ PersL g lp ps (zPs C) pcap x pks pmd u2 ∧ (∀ x, E x = true ↔ ClQ (zSs C) (zBx C) (fun y => pEv r y = true) x) ∧ (∀ x, N x = true ↔ ClQ (zSs C) (zBx C) (helP (zKs C) r) x) ∧ (q = true ↔ rgtP C r E N)) noX := by
  refine Ct.of "Keygrove" [some (.ref x), some (.ref a), none, none, none, none, none] rfl (by decide) rfl (Nat.le_of_ble_eq_true rfl) rfl ?_
  intro κ B E tb
  have hC0 := hC
  obtain ⟨hc1, hc2, hc3, hc4, hc5, hc6, hc7, hc8, hc9, hc10, hc11⟩ := hC0
  have hcf := capF_le (zSs C).length
  obtain ⟨hr1, hr2, hr3, hr4⟩ := hc11 _ _ hr
  obtain ⟨hli_1, hln_1, hel_1⟩ := PersL.at (Sub.self hw2)
  have hE_2 := hel_1 _ _ _ ha hr
  obtain ⟨-, -, -, -, -, -, -, -, -, -, hPB, -⟩ := PersP.at (hE_2)
  have hno := hPB.1
  have hkyb := hPB.2.2.2.1
  refine g_aload_n (q := 1) B dX1_isRight_0 rfl rfl (rv_r _) ?_
  refine g_get (q := 4) B (ci := 0) (k := 0) (j := 0) in_X1 rfl dX1_isRight_1 rfl rfl (Nat.le_of_ble_eq_true rfl) q277 rfl rfl ?_
  refine g_aload_n (q := 5) B dX1_isRight_4 rfl rfl (rv_r _) ?_
  obtain ⟨ev_3, pl_3, nd_3, ch_3, ecap_3, pcap_3, nn_3, nc_3, plc_3, md_3, hP_3, hpl_3, hec_3, hpc_3, hc_3_0, hs_3_0, hs_3_1, hs_3_2, hs_3_3⟩ := PersP.at (hE_2)
  refine g_getNM (q := 8) B (ci := 2) (k := 2) (j := 1) in_X4 rfl dX1_isRight_5 rfl rfl (hc_3_0) (Nat.le_of_ble_eq_true rfl) q1897 rfl rfl ?_
  refine g_callS (q := 11) (is := [2]) (kc2 := ((zSs C).length + capF (zSs C).length / 5) + 1240) (ks2 := ((zSs C).length + 4 * capF (zSs C).length) + 9490) B [.ref ev_3] (ct_X1_listOf_s g J (so := ev_3) (S := (pEv r)) (cap := ecap_3) (n := (zSs C).length) (W0 := w2)  (hs_3_0) (hr4) (by omega)) dX1_isRight_8 rfl q332 q333 q77 q334 rfl rfl moX1_listOf rfl rfl (by decide) (by decide) (Nat.le_of_ble_eq_true rfl) (by omega) (by omega) (fun _ _ hx => noX_x hx) (fun v8 L1 hp8 => ?_)
  obtain ⟨p8, vs8, u1_8, rfl, rfl, hu1_8, hvs_8, hvl_8⟩ := hp8
  refine (show Go g κ 11 [some (.ref x), some (.ref a), none, none, none, none, none] [.ref p8, .ref b] [[(x, .inr (0, [.ref b, .ref lp, .ref lk, .ref lr, .ref lt, .ref ls, .ref lm, .ref so, .int (nI (zBn C))]))], w1, w3, w4, w5, w2, u1_8] (((zSs C).length + capF (zSs C).length / 5) + 1240) (((zSs C).length + 4 * capF (zSs C).length) + 9490) from ?_)
  refine g_callV (q := 14) (is := [1, 5]) (kc2 := (((zSs C).length + capF (zSs C).length / 5) + 1240) - 34) (ks2 := (((zSs C).length + 4 * capF (zSs C).length) + 9490) - 80) B [.ref p8] (ct_X2_finds g J (b := b) (ss := (zSs C)) (bx := (zBx C)) (z := (zZz C)) (p := p8) (vs := vs8) (capv := (capF vs8.length)) hw1 hu1_8 (by first | assumption | omega | rfl) (by first | assumption | omega | rfl) (fun v h => hr4 v ((hvs_8 v).mp h))) dX1_isRight_11 rfl (rc_in B (ci := 1) rfl (k := 1) rfl (BookP.hm hw1)) rfl q792 q793 q794 q78 q795 rfl rfl moX2_finds rfl rfl (by decide) (by decide) (Nat.le_of_ble_eq_true rfl) (by omega) (by omega) (fun _ _ hx => noX_x hx) (fun v11 L1 hp11 => ?_)
  obtain ⟨r11, K11, cap11, u2_11, rfl, rfl, hu2_11, hK_11, hcap_11, hlt_11⟩ := hp11
  refine (show Go g κ 14 [some (.ref x), some (.ref a), none, none, none, none, none] [.ref r11] [[(x, .inr (0, [.ref b, .ref lp, .ref lk, .ref lr, .ref lt, .ref ls, .ref lm, .ref so, .int (nI (zBn C))]))], w3, w4, w5, w2, w1, u1_8, u2_11] ((((zSs C).length + capF (zSs C).length / 5) + 1240) - 34) ((((zSs C).length + 4 * capF (zSs C).length) + 9490) - 80) from ?_)
  refine g_astore_n (q := 15) (lv2 := [some (.ref x), some (.ref a), some (.ref r11), none, none, none, none]) B dX1_isRight_14 rfl (Nat.le_of_ble_eq_true rfl) (rv_r _) rfl ?_
  have hE_4 := hel_1 _ _ _ ha hr
  refine g_aload_n (q := 16) B dX1_isRight_15 rfl rfl (rv_r _) ?_
  refine g_get (q := 19) B (ci := 0) (k := 0) (j := 0) in_X1 rfl dX1_isRight_16 rfl rfl (Nat.le_of_ble_eq_true rfl) q277 rfl rfl ?_
  refine g_aload_n (q := 20) B dX1_isRight_19 rfl rfl (rv_r _) ?_
  refine g_callV (q := 23) (is := [4, 1]) (kc2 := (((zSs C).length + capF (zSs C).length / 5) + 1240) - 110) (ks2 := (((zSs C).length + 4 * capF (zSs C).length) + 9490) - 290) B [] (ct_X4_held_L g J (lp := lp) (pps := ps) (Ps := (zPs C)) (pcp := pcap) (ix := i) (pmd := pmd) (a := a) (x := x) (pks := pks) (r := r) (lk := lk) (Ks := (zKs C)) (kcap := kcap) hw2 hw3 (ha) (hr) (hr2)) dX1_isRight_20 rfl (rc_in B (ci := 2) rfl (k := 4) rfl (Sub.hm (hE_4) fun _ z => PersP.hm z)) rfl q1162 q1163 q1164 q90 q1165 rfl rfl moX4_held rfl rfl (by decide) (by decide) (Nat.le_of_ble_eq_true rfl) (by omega) (by omega) (fun _ _ hx => noX_x hx) (fun v20 L1 hp20 => ?_)
  obtain ⟨b20, S20, cap20, u0_20, u2_20, rfl, rfl, hu0_20, hu2_20, hS_20, hcap_20⟩ := hp20
  refine (show Go g κ 23 [some (.ref x), some (.ref a), some (.ref r11), none, none, none, none] [.ref b20, .ref b] [[(x, .inr (0, [.ref b, .ref lp, .ref lk, .ref lr, .ref lt, .ref ls, .ref lm, .ref so, .int (nI (zBn C))]))], w4, w5, w1, u1_8, u2_11, u0_20, w3, u2_20] ((((zSs C).length + capF (zSs C).length / 5) + 1240) - 110) ((((zSs C).length + 4 * capF (zSs C).length) + 9490) - 290) from ?_)
  have hSn := fun x h => hr3 x ((hS_20 x).mp h)
  refine g_callS (q := 26) (is := [8]) (kc2 := 1090) (ks2 := 9000) B [.ref b20] (ct_X1_listOf g J (so := b20) (S := S20) (cap := cap20) (n := (zSs C).length) hu2_20 (hSn) (by omega)) dX1_isRight_23 rfl q332 q333 q77 q334 rfl rfl moX1_listOf rfl rfl (by decide) (by decide) (Nat.le_of_ble_eq_true rfl) (by omega) (by omega) (fun _ _ hx => noX_x hx) (fun v23 L1 hp23 => ?_)
  obtain ⟨p23, vs23, u1_23, rfl, rfl, hu1_23, hvs_23, hvl_23⟩ := hp23
  refine (show Go g κ 26 [some (.ref x), some (.ref a), some (.ref r11), none, none, none, none] [.ref p23, .ref b] [[(x, .inr (0, [.ref b, .ref lp, .ref lk, .ref lr, .ref lt, .ref ls, .ref lm, .ref so, .int (nI (zBn C))]))], w4, w5, w1, u1_8, u2_11, u0_20, w3, u2_20, u1_23] 1090 9000 from ?_)
  refine g_callV (q := 29) (is := [3, 8]) (kc2 := 1056) (ks2 := 8920) B [.ref p23] (ct_X2_finds g J (b := b) (ss := (zSs C)) (bx := (zBx C)) (z := (zZz C)) (p := p23) (vs := vs23) (capv := (capF vs23.length)) hw1 hu1_23 (by first | assumption | omega | rfl) (by first | assumption | omega | rfl) (fun v h => hSn v ((hvs_23 v).mp h))) dX1_isRight_26 rfl (rc_in B (ci := 1) rfl (k := 3) rfl (BookP.hm hw1)) rfl q792 q793 q794 q78 q795 rfl rfl moX2_finds rfl rfl (by decide) (by decide) (Nat.le_of_ble_eq_true rfl) (Nat.le_of_ble_eq_true rfl) (Nat.le_of_ble_eq_true rfl) (fun _ _ hx => noX_x hx) (fun v26 L1 hp26 => ?_)
  obtain ⟨r26, K26, cap26, u2_26, rfl, rfl, hu2_26, hK_26, hcap_26, hlt_26⟩ := hp26
  refine (show Go g κ 29 [some (.ref x), some (.ref a), some (.ref r11), none, none, none, none] [.ref r26] [[(x, .inr (0, [.ref b, .ref lp, .ref lk, .ref lr, .ref lt, .ref ls, .ref lm, .ref so, .int (nI (zBn C))]))], w4, w5, u1_8, u2_11, u0_20, w3, u2_20, w1, u1_23, u2_26] 1056 8920 from ?_)
  refine g_astore_n (q := 30) (lv2 := [some (.ref x), some (.ref a), some (.ref r11), some (.ref r26), none, none, none]) B dX1_isRight_29 rfl (Nat.le_of_ble_eq_true rfl) (rv_r _) rfl ?_
  obtain ⟨hli_5, hln_5, hel_5⟩ := PersL.at (Sub.self hu0_20)
  have hE_6 := hel_5 _ _ _ ha hr
  have hQE := fun x => (hK_11 x).trans (ClQ.of hvs_8 x)
  have hQN := fun x => (hK_26 x).trans (ClQ.of (fun v => (hvs_23 v).trans (hS_20 v)) x)
  refine g_iconst (v := nI 1) (q := 31) B dX1_isRight_30 rfl (by decide) ?_
  refine g_istore (q := 33) (lv2 := [some (.ref x), some (.ref a), some (.ref r11), some (.ref r26), some (.int (nI 1)), none, none]) B dX1_isRight_31 rfl (Nat.le_of_ble_eq_true rfl) rfl ?_
  refine g_iconst (v := nI 0) (q := 34) B dX1_isRight_33 rfl (by decide) ?_
  refine g_istore (q := 36) (lv2 := [some (.ref x), some (.ref a), some (.ref r11), some (.ref r26), some (.int (nI 1)), some (.int (nI 0)), none]) B dX1_isRight_34 rfl (Nat.le_of_ble_eq_true rfl) rfl ?_
  have lp36 : ∀ (n36 : Nat) (k : Nat) (is : Bool) (l36_8 : va_W), BookP g b (zSs C) (zBx C) (zZz C) l36_8 → (k ≤ (zTs C).length) → (is = true ↔ ∀ e, e < k → epR C r K11 K26 e) → (zTs C).length - k = n36 → Go g κ 36 [some (.ref x), some (.ref a), some (.ref r11), some (.ref r26), some (.int (nI (if is = true then 1 else 0))), some (.int (nI k)), none] [] [[(x, .inr (0, [.ref b, .ref lp, .ref lk, .ref lr, .ref lt, .ref ls, .ref lm, .ref so, .int (nI (zBn C))]))], w4, w5, u1_8, u2_11, u0_20, w3, u2_20, l36_8, u1_23, u2_26] (30 + 40 * (24 - k)) (300 + 340 * (24 - k)) := by
    intro n36
    induction n36 using Nat.strongRecOn with
    | _ n36 ih36 =>
    intro k is l36_8 hl36_8 hk his hmu36
    refine g_iload (q := 38) B dX1_isRight_36 rfl rfl ?_
    refine g_aload_n (q := 39) B dX1_isRight_38 rfl rfl (rv_r _) ?_
    refine g_callV (q := 42) (is := [0, 0]) (kc2 := 30 + 40 * (24 - k)) (ks2 := 300 + 340 * (24 - k)) B [] (ct_X1_newest g J (x := x) (lk := lk) (b := b) (lp := lp) (lr := lr) (lt := lt) (ls := ls) (lm := lm) (so := so) (bxs := zBn C) (Ts := (zTs C)) (tcap := tcap) hw4 ) dX1_isRight_39 rfl (rc_at B (ci := 0) rfl (k := 0) rfl) rfl q1120 q1122 qs8 q77 q1123 rfl rfl moX1_newest rfl rfl (by decide) (by decide) (Nat.le_of_ble_eq_true rfl) (by omega) (by omega) (fun _ _ hx => noX_x hx) (fun v39 L1 hp39 => ?_)
    obtain ⟨rfl, rfl⟩ := hp39
    refine (show Go g κ 42 [some (.ref x), some (.ref a), some (.ref r11), some (.ref r26), some (.int (nI (if is = true then 1 else 0))), some (.int (nI k)), none] [.int (nI (zTs C).length - nI 1), .int (nI k)] [w5, u1_8, u2_11, u0_20, w3, u2_20, l36_8, u1_23, u2_26, [(x, .inr (0, [.ref b, .ref lp, .ref lk, .ref lr, .ref lt, .ref ls, .ref lm, .ref so, .int (nI (zBn C))]))], w4] (30 + 40 * (24 - k)) (300 + 340 * (24 - k)) from ?_)
    refine g_icmp_gt (tgt := 151) (q := 45) B dX1_isRight_42 rfl (by decide) (gt_hi (by omega) (by omega)) (fun c42 => ?_) (fun c42 => ?_)
    · skip
      have hisl : is = true ↔ ∀ e, e < (zTs C).length → epR C r K11 K26 e := by rw [his, show k = (zTs C).length by omega]
      refine g_iload (q := 153) B dX1_isRight_151 rfl rfl ?_
      refine g_if_eq (tgt := 182) (q := 156) B dX1_isRight_153 rfl (by decide) (bo_eq) (fun c153 => ?_) (fun c153 => ?_)
      · skip
        refine g_iconst (v := nI 0) (q := 183) B dX1_isRight_182 rfl (by decide) ?_
        refine g_istore (q := 185) (lv2 := [some (.ref x), some (.ref a), some (.ref r11), some (.ref r26), some (.int (nI 0)), some (.int (nI k)), none]) B dX1_isRight_183 rfl (Nat.le_of_ble_eq_true rfl) rfl ?_
        refine g_iload (q := 187) B dX1_isRight_185 rfl rfl ?_
        refine g_if_eq (tgt := 210) (q := 190) B dX1_isRight_187 rfl (by decide) (iff_true_intro (by decide)) (fun _ => ?_) (fun z => absurd trivial z)
        refine g_iconst (v := nI 0) (q := 211) B dX1_isRight_210 rfl (by decide) ?_
        refine g_pk [9, 6, 3, 3, 6, 0] rfl rfl ?_
        refine (show Go g κ 211 [some (.ref x), some (.ref a), some (.ref r11), some (.ref r26), some (.int (nI 0)), some (.int (nI k)), none] [.int (nI 0)] [[(x, .inr (0, [.ref b, .ref lp, .ref lk, .ref lr, .ref lt, .ref ls, .ref lm, .ref so, .int (nI (zBn C))]))], l36_8, u0_20, w3, w4, w5] (30 + 40 * (24 - k)) (300 + 340 * (24 - k)) from ?_)
        exact g_zret B E dX1_isRight_211 (by decide) (⟨false, K11, K26, _, _, rfl, rfl, hl36_8, hu0_20, hQE, hQN, ⟨(fun z => by cases z), fun z => absurd (hisl.mpr z.1) c153⟩⟩)
      · skip
        have c153 := Classical.not_not.mp c153
        refine g_aload_n (q := 157) B dX1_isRight_156 rfl rfl (rv_r _) ?_
        refine g_callV (q := 160) (is := [3]) (kc2 := 30 + 40 * (24 - k)) (ks2 := 300 + 340 * (24 - k)) B [] (ct_X4_isIn_s g J (a := a) (x := x) (pks := pks) (r := r) (W0 := u0_20)  (hE_6)) dX1_isRight_157 rfl (rc_in B (ci := 2) rfl (k := 3) rfl (Sub.hm (hE_6) fun _ z => PersP.hm z)) rfl q1211 q1207 q1208 q90 q1209 rfl rfl moX4_isIn rfl rfl (by decide) (by decide) (Nat.le_of_ble_eq_true rfl) (by omega) (by omega) (fun _ _ hx => noX_x hx) (fun v157 L1 hp157 => ?_)
        obtain ⟨rfl, rfl⟩ := hp157
        refine (show Go g κ 160 [some (.ref x), some (.ref a), some (.ref r11), some (.ref r26), some (.int (nI (if is = true then 1 else 0))), some (.int (nI k)), none] [.int (nI (if ¬ pEp r = none then 1 else 0))] [w5, u1_8, u2_11, w3, u2_20, l36_8, u1_23, u2_26, [(x, .inr (0, [.ref b, .ref lp, .ref lk, .ref lr, .ref lt, .ref ls, .ref lm, .ref so, .int (nI (zBn C))]))], w4, u0_20] (30 + 40 * (24 - k)) (300 + 340 * (24 - k)) from ?_)
        refine g_if_eq (tgt := 178) (q := 163) B dX1_isRight_160 rfl (by decide) (bo_eq) (fun c160 => ?_) (fun c160 => ?_)
        · skip
          refine g_iconst (v := nI 1) (q := 179) B dX1_isRight_178 rfl (by decide) ?_
          refine g_goto (tgt := 183) B dX1_isRight_179 (by decide) ?_
          refine g_istore (q := 185) (lv2 := [some (.ref x), some (.ref a), some (.ref r11), some (.ref r26), some (.int (nI 1)), some (.int (nI k)), none]) B dX1_isRight_183 rfl (Nat.le_of_ble_eq_true rfl) rfl ?_
          refine g_iload (q := 187) B dX1_isRight_185 rfl rfl ?_
          refine g_if_eq (tgt := 210) (q := 190) B dX1_isRight_187 rfl (by decide) (iff_false_intro (by decide)) (fun z => z.elim) (fun _ => ?_)
          refine g_aload_n (q := 191) B dX1_isRight_190 rfl rfl (rv_r _) ?_
          refine g_aload_n (q := 192) B dX1_isRight_191 rfl rfl (rv_r _) ?_
          refine g_callV (q := 195) (is := [8, 9, 8]) (kc2 := 30 + 40 * (24 - k)) (ks2 := 300 + 340 * (24 - k)) B [.ref a] (ct_X1_isFresh g J (x := x) (lk := lk) (b := b) (lp := lp) (lr := lr) (lt := lt) (ls := ls) (lm := lm) (so := so) (bxs := (zBn C)) (ps := ps) (Ps := (zPs C)) (pcap := pcap) (pks := pks) (pmd := pmd) (Ts := (zTs C)) (tcap := tcap) (i := i) (a := a) (r := r) hu0_20 hw4 (by first | assumption | omega | rfl) (by first | assumption | omega | rfl) (by first | assumption | omega | rfl)) dX1_isRight_192 rfl (rc_at B (ci := 0) rfl (k := 8) rfl) rfl q1785 q1787 qs13 q77 q1788 rfl rfl moX1_isFresh rfl rfl (by decide) (by decide) (Nat.le_of_ble_eq_true rfl) (by omega) (by omega) (fun _ _ hx => noX_x hx) (fun v192 L1 hp192 => ?_)
          obtain ⟨rfl, rfl⟩ := hp192
          refine (show Go g κ 195 [some (.ref x), some (.ref a), some (.ref r11), some (.ref r26), some (.int (nI 1)), some (.int (nI k)), none] [.int (nI (if isF (zTs C).length (pEp r) = true then 1 else 0))] [w5, u1_8, u2_11, w3, u2_20, l36_8, u1_23, u2_26, [(x, .inr (0, [.ref b, .ref lp, .ref lk, .ref lr, .ref lt, .ref ls, .ref lm, .ref so, .int (nI (zBn C))]))], u0_20, w4] (30 + 40 * (24 - k)) (300 + 340 * (24 - k)) from ?_)
          refine g_if_eq (tgt := 206) (q := 198) B dX1_isRight_195 rfl (by decide) (bo_eq) (fun c195 => ?_) (fun c195 => ?_)
          · skip
            refine g_iconst (v := nI 1) (q := 207) B dX1_isRight_206 rfl (by decide) ?_
            refine g_goto (tgt := 211) B dX1_isRight_207 (by decide) ?_
            refine g_pk [8, 5, 7, 3, 6, 0] rfl rfl ?_
            refine (show Go g κ 211 [some (.ref x), some (.ref a), some (.ref r11), some (.ref r26), some (.int (nI 1)), some (.int (nI k)), none] [.int (nI 1)] [[(x, .inr (0, [.ref b, .ref lp, .ref lk, .ref lr, .ref lt, .ref ls, .ref lm, .ref so, .int (nI (zBn C))]))], l36_8, u0_20, w3, w4, w5] (30 + 40 * (24 - k)) (300 + 340 * (24 - k)) from ?_)
            exact g_zret B E dX1_isRight_211 (by decide) (⟨true, K11, K26, _, _, rfl, rfl, hl36_8, hu0_20, hQE, hQN, ⟨fun _ => ⟨hisl.mp c153, (fun m s ky h1 h2 h3 => by rw [Classical.not_not.mp c160] at h1; cases h1), (fun z => absurd z c195)⟩, fun _ => rfl⟩⟩)
          · skip
            have c195 := Classical.not_not.mp c195
            have hlen : 0 < (zTs C).length := by
              rcases Nat.eq_zero_or_pos (zTs C).length with z | z
              · rw [z] at c195; cases e9 : pEp r with
                | none => rw [e9] at c195; exact absurd c195 isF_n
                | some m => rw [e9] at c195; simp [isF] at c195
              · exact z
            obtain ⟨T9, hT9⟩ := get_ex (xs := zTs C) (i := (zTs C).length - 1) (by omega)
            refine g_aload_n (q := 199) B dX1_isRight_198 rfl rfl (rv_r _) ?_
            refine g_aload_n (q := 200) B dX1_isRight_199 rfl rfl (rv_r _) ?_
            refine g_callV (q := 203) (is := [8, 8, 8]) (kc2 := 30 + 40 * (24 - k)) (ks2 := 300 + 340 * (24 - k)) B [.ref a] (ct_X1_holdsJust g J (x := x) (lk := lk) (b := b) (lp := lp) (lr := lr) (lt := lt) (ls := ls) (lm := lm) (so := so) (bxs := (zBn C)) (ps := ps) (Ps := (zPs C)) (pcap := pcap) (pks := pks) (pmd := pmd) (Ts := (zTs C)) (tcap := tcap) (i := i) (a := a) (r := r) (T := T9) hu0_20 hw4 (by first | assumption | omega | rfl) (by first | assumption | omega | rfl) (hT9)) dX1_isRight_200 rfl (rc_at B (ci := 0) rfl (k := 8) rfl) rfl q1789 q1791 qs14 q77 q1792 rfl rfl moX1_holdsJust rfl rfl (by decide) (by decide) (Nat.le_of_ble_eq_true rfl) (by omega) (by omega) (fun _ _ hx => noX_x hx) (fun v200 L1 hp200 => ?_)
            obtain ⟨rfl, rfl⟩ := hp200
            refine (show Go g κ 203 [some (.ref x), some (.ref a), some (.ref r11), some (.ref r26), some (.int (nI 1)), some (.int (nI k)), none] [.int (nI (if hjB T9 r = true then 1 else 0))] [w5, u1_8, u2_11, w3, u2_20, l36_8, u1_23, u2_26, [(x, .inr (0, [.ref b, .ref lp, .ref lk, .ref lr, .ref lt, .ref ls, .ref lm, .ref so, .int (nI (zBn C))]))], u0_20, w4] (30 + 40 * (24 - k)) (300 + 340 * (24 - k)) from ?_)
            refine g_if_eq (tgt := 210) (q := 206) B dX1_isRight_203 rfl (by decide) (bo_eq) (fun c203 => ?_) (fun c203 => ?_)
            · skip
              refine g_iconst (v := nI 0) (q := 211) B dX1_isRight_210 rfl (by decide) ?_
              refine g_pk [8, 5, 7, 3, 6, 0] rfl rfl ?_
              refine (show Go g κ 211 [some (.ref x), some (.ref a), some (.ref r11), some (.ref r26), some (.int (nI 1)), some (.int (nI k)), none] [.int (nI 0)] [[(x, .inr (0, [.ref b, .ref lp, .ref lk, .ref lr, .ref lt, .ref ls, .ref lm, .ref so, .int (nI (zBn C))]))], l36_8, u0_20, w3, w4, w5] (30 + 40 * (24 - k)) (300 + 340 * (24 - k)) from ?_)
              exact g_zret B E dX1_isRight_211 (by decide) (⟨false, K11, K26, _, _, rfl, rfl, hl36_8, hu0_20, hQE, hQN, ⟨(fun z => by cases z), fun z => absurd (z.2.2 c195 _ hT9) c203⟩⟩)
            · skip
              have c203 := Classical.not_not.mp c203
              refine g_iconst (v := nI 1) (q := 207) B dX1_isRight_206 rfl (by decide) ?_
              refine g_goto (tgt := 211) B dX1_isRight_207 (by decide) ?_
              refine g_pk [8, 5, 7, 3, 6, 0] rfl rfl ?_
              refine (show Go g κ 211 [some (.ref x), some (.ref a), some (.ref r11), some (.ref r26), some (.int (nI 1)), some (.int (nI k)), none] [.int (nI 1)] [[(x, .inr (0, [.ref b, .ref lp, .ref lk, .ref lr, .ref lt, .ref ls, .ref lm, .ref so, .int (nI (zBn C))]))], l36_8, u0_20, w3, w4, w5] (30 + 40 * (24 - k)) (300 + 340 * (24 - k)) from ?_)
              exact g_zret B E dX1_isRight_211 (by decide) (⟨true, K11, K26, _, _, rfl, rfl, hl36_8, hu0_20, hQE, hQN, ⟨fun _ => ⟨hisl.mp c153, (fun m s ky h1 h2 h3 => by rw [Classical.not_not.mp c160] at h1; cases h1), (fun _ T h => by rw [hT9] at h; cases h; exact c203)⟩, fun _ => rfl⟩⟩)
        · skip
          have c160 := Classical.not_not.mp c160
          obtain ⟨mF, hmF⟩ := Option.ne_none_iff_exists'.mp c160
          have hmb := hPB.2.2.2.2.1 _ hmF
          have hmt := hep _ hmF
          refine g_aload_n (q := 164) B dX1_isRight_163 rfl rfl (rv_r _) ?_
          obtain ⟨ev_7, pl_7, nd_7, ch_7, ecap_7, pcap_7, nn_7, nc_7, plc_7, md_7, hP_7, hpl_7, hec_7, hpc_7, hc_7_0, hs_7_0, hs_7_1, hs_7_2, hs_7_3⟩ := PersP.at (hE_6)
          refine g_getNM (q := 167) B (ci := 2) (k := 10) (j := 7) in_X4 rfl dX1_isRight_164 rfl rfl (hc_7_0) (Nat.le_of_ble_eq_true rfl) q1909 rfl rfl ?_
          refine g_aload_n (q := 168) B dX1_isRight_167 rfl rfl (rv_r _) ?_
          refine g_aload_n (q := 169) B dX1_isRight_168 rfl rfl (rv_r _) ?_
          refine g_getNM (q := 172) B (ci := 2) (k := 10) (j := 3) in_X4 rfl dX1_isRight_169 rfl rfl (hc_7_0) (Nat.le_of_ble_eq_true rfl) q1901 rfl rfl ?_
          refine g_stk (y := .int (nI mF)) (by rw [hmF]; rfl) ?_
          obtain ⟨st172, hst172⟩ := get_ex (xs := zSt C) (i := mF) (by omega)
          obtain ⟨hsl172, ky172, hky172⟩ := hky _ _ hst172
          have hkl172 := fnd_lt hky172
          refine g_callV (q := 175) (is := [8, 5, 0]) (kc2 := (30 + 40 * (24 - k)) - 20) (ks2 := (300 + 340 * (24 - k)) - 170) B [.int (nI mF)] (ct_X1_keyOf g J (x := x) (lk := lk) (b := b) (lp := lp) (lr := lr) (lt := lt) (ls := ls) (lm := lm) (so := so) (bxs := (zBn C)) (ss := (zSs C)) (bx := (zBx C)) (z := (zZz C)) (Ss := (zSt C)) (scap := scap) (e := mF) (s := st172) (ky := ky172) hl36_8 hw5 (hst172) (by omega) (hsl172) (hky172)) dX1_isRight_172 rfl (rc_at B (ci := 0) rfl (k := 8) rfl) rfl q1224 q1226 qs11 q77 q1227 rfl rfl moX1_keyOf rfl rfl (by decide) (by decide) (Nat.le_of_ble_eq_true rfl) (by omega) (by omega) (fun _ _ hx => noX_x hx) (fun v172 L1 hp172 => ?_)
          obtain ⟨u1_172, rfl, rfl, hu1_172⟩ := hp172
          refine (show Go g κ 175 [some (.ref x), some (.ref a), some (.ref r11), some (.ref r26), some (.int (nI (if is = true then 1 else 0))), some (.int (nI k)), none] [.int (nI ky172), .int (nI (pKy r))] [u1_8, u2_11, w3, u2_20, u1_23, u2_26, w4, u0_20, [(x, .inr (0, [.ref b, .ref lp, .ref lk, .ref lr, .ref lt, .ref ls, .ref lm, .ref so, .int (nI (zBn C))]))], u1_172, w5] ((30 + 40 * (24 - k)) - 20) ((300 + 340 * (24 - k)) - 170) from ?_)
          refine g_icmp_ne (tgt := 182) (q := 178) B dX1_isRight_175 rfl (by decide) (not_congr (nI_eq (by omega) (by omega))) (fun c175 => ?_) (fun c175 => ?_)
          · skip
            refine g_iconst (v := nI 0) (q := 183) B dX1_isRight_182 rfl (by decide) ?_
            refine g_istore (q := 185) (lv2 := [some (.ref x), some (.ref a), some (.ref r11), some (.ref r26), some (.int (nI 0)), some (.int (nI k)), none]) B dX1_isRight_183 rfl (Nat.le_of_ble_eq_true rfl) rfl ?_
            refine g_iload (q := 187) B dX1_isRight_185 rfl rfl ?_
            refine g_if_eq (tgt := 210) (q := 190) B dX1_isRight_187 rfl (by decide) (iff_true_intro (by decide)) (fun _ => ?_) (fun z => absurd trivial z)
            refine g_iconst (v := nI 0) (q := 211) B dX1_isRight_210 rfl (by decide) ?_
            refine g_pk [8, 8, 7, 2, 5, 5] rfl rfl ?_
            refine (show Go g κ 211 [some (.ref x), some (.ref a), some (.ref r11), some (.ref r26), some (.int (nI 0)), some (.int (nI k)), none] [.int (nI 0)] [[(x, .inr (0, [.ref b, .ref lp, .ref lk, .ref lr, .ref lt, .ref ls, .ref lm, .ref so, .int (nI (zBn C))]))], u1_172, u0_20, w3, w4, w5] ((30 + 40 * (24 - k)) - 20) ((300 + 340 * (24 - k)) - 170) from ?_)
            exact g_zret B E dX1_isRight_211 (by decide) (⟨false, K11, K26, _, _, rfl, rfl, hu1_172, hu0_20, hQE, hQN, ⟨(fun z => by cases z), fun z => absurd (z.2.1 _ _ _ hmF hst172 hky172) c175⟩⟩)
          · skip
            refine g_iconst (v := nI 1) (q := 179) B dX1_isRight_178 rfl (by decide) ?_
            refine g_goto (tgt := 183) B dX1_isRight_179 (by decide) ?_
            refine g_istore (q := 185) (lv2 := [some (.ref x), some (.ref a), some (.ref r11), some (.ref r26), some (.int (nI 1)), some (.int (nI k)), none]) B dX1_isRight_183 rfl (Nat.le_of_ble_eq_true rfl) rfl ?_
            refine g_iload (q := 187) B dX1_isRight_185 rfl rfl ?_
            refine g_if_eq (tgt := 210) (q := 190) B dX1_isRight_187 rfl (by decide) (iff_false_intro (by decide)) (fun z => z.elim) (fun _ => ?_)
            refine g_aload_n (q := 191) B dX1_isRight_190 rfl rfl (rv_r _) ?_
            refine g_aload_n (q := 192) B dX1_isRight_191 rfl rfl (rv_r _) ?_
            refine g_callV (q := 195) (is := [8, 7, 6]) (kc2 := (30 + 40 * (24 - k)) - 20) (ks2 := (300 + 340 * (24 - k)) - 170) B [.ref a] (ct_X1_isFresh g J (x := x) (lk := lk) (b := b) (lp := lp) (lr := lr) (lt := lt) (ls := ls) (lm := lm) (so := so) (bxs := (zBn C)) (ps := ps) (Ps := (zPs C)) (pcap := pcap) (pks := pks) (pmd := pmd) (Ts := (zTs C)) (tcap := tcap) (i := i) (a := a) (r := r) hu0_20 hw4 (by first | assumption | omega | rfl) (by first | assumption | omega | rfl) (by first | assumption | omega | rfl)) dX1_isRight_192 rfl (rc_at B (ci := 0) rfl (k := 8) rfl) rfl q1785 q1787 qs13 q77 q1788 rfl rfl moX1_isFresh rfl rfl (by decide) (by decide) (Nat.le_of_ble_eq_true rfl) (by omega) (by omega) (fun _ _ hx => noX_x hx) (fun v192 L1 hp192 => ?_)
            obtain ⟨rfl, rfl⟩ := hp192
            refine (show Go g κ 195 [some (.ref x), some (.ref a), some (.ref r11), some (.ref r26), some (.int (nI 1)), some (.int (nI k)), none] [.int (nI (if isF (zTs C).length (pEp r) = true then 1 else 0))] [u1_8, u2_11, w3, u2_20, u1_23, u2_26, u1_172, w5, [(x, .inr (0, [.ref b, .ref lp, .ref lk, .ref lr, .ref lt, .ref ls, .ref lm, .ref so, .int (nI (zBn C))]))], u0_20, w4] ((30 + 40 * (24 - k)) - 20) ((300 + 340 * (24 - k)) - 170) from ?_)
            refine g_if_eq (tgt := 206) (q := 198) B dX1_isRight_195 rfl (by decide) (bo_eq) (fun c195 => ?_) (fun c195 => ?_)
            · skip
              refine g_iconst (v := nI 1) (q := 207) B dX1_isRight_206 rfl (by decide) ?_
              refine g_goto (tgt := 211) B dX1_isRight_207 (by decide) ?_
              refine g_pk [8, 6, 7, 2, 6, 5] rfl rfl ?_
              refine (show Go g κ 211 [some (.ref x), some (.ref a), some (.ref r11), some (.ref r26), some (.int (nI 1)), some (.int (nI k)), none] [.int (nI 1)] [[(x, .inr (0, [.ref b, .ref lp, .ref lk, .ref lr, .ref lt, .ref ls, .ref lm, .ref so, .int (nI (zBn C))]))], u1_172, u0_20, w3, w4, w5] ((30 + 40 * (24 - k)) - 20) ((300 + 340 * (24 - k)) - 170) from ?_)
              exact g_zret B E dX1_isRight_211 (by decide) (⟨true, K11, K26, _, _, rfl, rfl, hu1_172, hu0_20, hQE, hQN, ⟨fun _ => ⟨hisl.mp c153, (fun m s ky h1 h2 h3 => by rw [hmF] at h1; cases h1; rw [hst172] at h2; cases h2; rw [hky172] at h3; cases h3; exact Classical.not_not.mp c175), (fun z => absurd z c195)⟩, fun _ => rfl⟩⟩)
            · skip
              have c195 := Classical.not_not.mp c195
              have hlen : 0 < (zTs C).length := by
                rcases Nat.eq_zero_or_pos (zTs C).length with z | z
                · rw [z] at c195; cases e9 : pEp r with
                  | none => rw [e9] at c195; exact absurd c195 isF_n
                  | some m => rw [e9] at c195; simp [isF] at c195
                · exact z
              obtain ⟨T9, hT9⟩ := get_ex (xs := zTs C) (i := (zTs C).length - 1) (by omega)
              refine g_aload_n (q := 199) B dX1_isRight_198 rfl rfl (rv_r _) ?_
              refine g_aload_n (q := 200) B dX1_isRight_199 rfl rfl (rv_r _) ?_
              refine g_callV (q := 203) (is := [8, 8, 8]) (kc2 := (30 + 40 * (24 - k)) - 20) (ks2 := (300 + 340 * (24 - k)) - 170) B [.ref a] (ct_X1_holdsJust g J (x := x) (lk := lk) (b := b) (lp := lp) (lr := lr) (lt := lt) (ls := ls) (lm := lm) (so := so) (bxs := (zBn C)) (ps := ps) (Ps := (zPs C)) (pcap := pcap) (pks := pks) (pmd := pmd) (Ts := (zTs C)) (tcap := tcap) (i := i) (a := a) (r := r) (T := T9) hu0_20 hw4 (by first | assumption | omega | rfl) (by first | assumption | omega | rfl) (hT9)) dX1_isRight_200 rfl (rc_at B (ci := 0) rfl (k := 8) rfl) rfl q1789 q1791 qs14 q77 q1792 rfl rfl moX1_holdsJust rfl rfl (by decide) (by decide) (Nat.le_of_ble_eq_true rfl) (by omega) (by omega) (fun _ _ hx => noX_x hx) (fun v200 L1 hp200 => ?_)
              obtain ⟨rfl, rfl⟩ := hp200
              refine (show Go g κ 203 [some (.ref x), some (.ref a), some (.ref r11), some (.ref r26), some (.int (nI 1)), some (.int (nI k)), none] [.int (nI (if hjB T9 r = true then 1 else 0))] [u1_8, u2_11, w3, u2_20, u1_23, u2_26, u1_172, w5, [(x, .inr (0, [.ref b, .ref lp, .ref lk, .ref lr, .ref lt, .ref ls, .ref lm, .ref so, .int (nI (zBn C))]))], u0_20, w4] ((30 + 40 * (24 - k)) - 20) ((300 + 340 * (24 - k)) - 170) from ?_)
              refine g_if_eq (tgt := 210) (q := 206) B dX1_isRight_203 rfl (by decide) (bo_eq) (fun c203 => ?_) (fun c203 => ?_)
              · skip
                refine g_iconst (v := nI 0) (q := 211) B dX1_isRight_210 rfl (by decide) ?_
                refine g_pk [8, 6, 7, 2, 6, 5] rfl rfl ?_
                refine (show Go g κ 211 [some (.ref x), some (.ref a), some (.ref r11), some (.ref r26), some (.int (nI 1)), some (.int (nI k)), none] [.int (nI 0)] [[(x, .inr (0, [.ref b, .ref lp, .ref lk, .ref lr, .ref lt, .ref ls, .ref lm, .ref so, .int (nI (zBn C))]))], u1_172, u0_20, w3, w4, w5] ((30 + 40 * (24 - k)) - 20) ((300 + 340 * (24 - k)) - 170) from ?_)
                exact g_zret B E dX1_isRight_211 (by decide) (⟨false, K11, K26, _, _, rfl, rfl, hu1_172, hu0_20, hQE, hQN, ⟨(fun z => by cases z), fun z => absurd (z.2.2 c195 _ hT9) c203⟩⟩)
              · skip
                have c203 := Classical.not_not.mp c203
                refine g_iconst (v := nI 1) (q := 207) B dX1_isRight_206 rfl (by decide) ?_
                refine g_goto (tgt := 211) B dX1_isRight_207 (by decide) ?_
                refine g_pk [8, 6, 7, 2, 6, 5] rfl rfl ?_
                refine (show Go g κ 211 [some (.ref x), some (.ref a), some (.ref r11), some (.ref r26), some (.int (nI 1)), some (.int (nI k)), none] [.int (nI 1)] [[(x, .inr (0, [.ref b, .ref lp, .ref lk, .ref lr, .ref lt, .ref ls, .ref lm, .ref so, .int (nI (zBn C))]))], u1_172, u0_20, w3, w4, w5] ((30 + 40 * (24 - k)) - 20) ((300 + 340 * (24 - k)) - 170) from ?_)
                exact g_zret B E dX1_isRight_211 (by decide) (⟨true, K11, K26, _, _, rfl, rfl, hu1_172, hu0_20, hQE, hQN, ⟨fun _ => ⟨hisl.mp c153, (fun m s ky h1 h2 h3 => by rw [hmF] at h1; cases h1; rw [hst172] at h2; cases h2; rw [hky172] at h3; cases h3; exact Classical.not_not.mp c175), (fun _ T h => by rw [hT9] at h; cases h; exact c203)⟩, fun _ => rfl⟩⟩)
    · skip
      refine g_aload_n (q := 46) B dX1_isRight_45 rfl rfl (rv_r _) ?_
      refine g_get (q := 49) B (ci := 0) (k := 9) (j := 4) in_X1 rfl dX1_isRight_46 rfl rfl (Nat.le_of_ble_eq_true rfl) q282 rfl rfl ?_
      refine g_iload (q := 51) B dX1_isRight_49 rfl rfl ?_
      obtain ⟨ps_8, md_8, hli_8, hln_8, hel_8⟩ := LhP.at (Sub.self hw4)
      obtain ⟨r51, hr51⟩ := get_ex (xs := (zTs C)) (i := k) (by omega)
      obtain ⟨x51, hx51⟩ := get_ex (xs := ps_8) (i := k) (by have := get_lt2 hr51; have := hln_8.1; omega)
      have hE_9 := hel_8 _ _ _ hx51 hr51
      refine g_callF (q := 56) (is := [10]) (kc2 := 30 + 40 * (24 - k)) (ks2 := 300 + 340 * (24 - k)) B [.int (nI k)] (ct_J2_get_s g J (p := lt) (xs := ps_8) (md := md_8) (cap := tcap) (i := k) (x := x51) (W0 := w4)  (hli_8) (hx51)) dX1_isRight_51 rfl (ci := 21) rfl (rc_in B (ci := 21) rfl (k := 10) rfl (LhP.hm hw4)) q1138 q1093 q1095 q81 q1097 q1092 q1091 q1096 q1094 q318 rfl rfl mojava_util_List_get__I_Ljava_lang_Object_ rfl rfl (by decide) (by decide) (Nat.le_of_ble_eq_true rfl) (by omega) (by omega) (fun _ _ hx => noX_x hx) (fun v51 L1 hp51 => ?_)
      obtain ⟨rfl, rfl⟩ := hp51
      refine (show Go g κ 56 [some (.ref x), some (.ref a), some (.ref r11), some (.ref r26), some (.int (nI (if is = true then 1 else 0))), some (.int (nI k)), none] [.ref x51] [w5, u1_8, u2_11, u0_20, w3, u2_20, l36_8, u1_23, u2_26, [(x, .inr (0, [.ref b, .ref lp, .ref lk, .ref lr, .ref lt, .ref ls, .ref lm, .ref so, .int (nI (zBn C))]))], w4] (30 + 40 * (24 - k)) (300 + 340 * (24 - k)) from ?_)
      refine g_castRS (ci := 5) (q := 59) B rfl (rc_in B (ci := 5) rfl (k := 10) rfl (Sub.hm (hE_9) fun _ z => TreeP.hm z)) dX1_isRight_56 rfl q1139 ?_
      refine g_aload_n (q := 60) B dX1_isRight_59 rfl rfl (rv_r _) ?_
      obtain ⟨ev_10, pl_10, nd_10, ch_10, ecap_10, pcap_10, nn_10, nc_10, plc_10, md_10, hP_10, hpl_10, hec_10, hpc_10, hc_10_0, hs_10_0, hs_10_1, hs_10_2, hs_10_3⟩ := PersP.at (hE_6)
      refine g_getNM (q := 63) B (ci := 2) (k := 3) (j := 0) in_X4 rfl dX1_isRight_60 rfl rfl (hc_10_0) (Nat.le_of_ble_eq_true rfl) q1895 rfl rfl ?_
      refine g_callV (q := 66) (is := [10]) (kc2 := 30 + 40 * (24 - k)) (ks2 := 300 + 340 * (24 - k)) B [.int (nI (pNo r))] (ct_X10_leafOf_s g J (t := x51) (T := r51) (p := pNo r) (W0 := w4)  (hE_9) (by omega)) dX1_isRight_63 rfl (rc_in B (ci := 5) rfl (k := 10) rfl (Sub.hm (hE_9) fun _ z => TreeP.hm z)) rfl q1220 q1221 q1222 q123 q1223 rfl rfl moX10_leafOf rfl rfl (by decide) (by decide) (Nat.le_of_ble_eq_true rfl) (by omega) (by omega) (fun _ _ hx => noX_x hx) (fun v63 L1 hp63 => ?_)
      obtain ⟨rfl, rfl⟩ := hp63
      refine (show Go g κ 66 [some (.ref x), some (.ref a), some (.ref r11), some (.ref r26), some (.int (nI (if is = true then 1 else 0))), some (.int (nI k)), none] [.int (oI (lof r51 (pNo r)))] [w5, u1_8, u2_11, u0_20, w3, u2_20, l36_8, u1_23, u2_26, [(x, .inr (0, [.ref b, .ref lp, .ref lk, .ref lr, .ref lt, .ref ls, .ref lm, .ref so, .int (nI (zBn C))]))], w4] (30 + 40 * (24 - k)) (300 + 340 * (24 - k)) from ?_)
      refine g_iconst (v := -1) (q := 67) B dX1_isRight_66 rfl (by decide) ?_
      refine g_icmp_eq (tgt := 74) (q := 70) B dX1_isRight_67 rfl (by decide) (oI_n ((fun n h => by have h1 := (lof_o h).1; have hTB := TreeP.b2 (hE_9); have := p2_4 hTB.1; omega))) (fun c67 => ?_) (fun c67 => ?_)
      · skip
        refine g_iconst (v := nI 0) (q := 75) B dX1_isRight_74 rfl (by decide) ?_
        refine g_istore (q := 77) (lv2 := [some (.ref x), some (.ref a), some (.ref r11), some (.ref r26), some (.int (nI (if is = true then 1 else 0))), some (.int (nI k)), some (.int (nI 0))]) B dX1_isRight_75 rfl (Nat.le_of_ble_eq_true rfl) rfl ?_
        refine g_iload (q := 79) B dX1_isRight_77 rfl rfl ?_
        refine g_if_eq (tgt := 101) (q := 82) B dX1_isRight_79 rfl (by decide) (bo_eq) (fun c79 => ?_) (fun c79 => ?_)
        · skip
          refine g_iconst (v := nI 0) (q := 102) B dX1_isRight_101 rfl (by decide) ?_
          refine g_istore (q := 104) (lv2 := [some (.ref x), some (.ref a), some (.ref r11), some (.ref r26), some (.int (nI 0)), some (.int (nI k)), some (.int (nI 0))]) B dX1_isRight_102 rfl (Nat.le_of_ble_eq_true rfl) rfl ?_
          refine g_iload (q := 106) B dX1_isRight_104 rfl rfl ?_
          refine g_if_eq (tgt := 142) (q := 109) B dX1_isRight_106 rfl (by decide) (iff_true_intro (by decide)) (fun _ => ?_) (fun z => absurd trivial z)
          refine g_iconst (v := nI 0) (q := 143) B dX1_isRight_142 rfl (by decide) ?_
          refine g_istore (q := 145) (lv2 := [some (.ref x), some (.ref a), some (.ref r11), some (.ref r26), some (.int (nI 0)), some (.int (nI k)), some (.int (nI 0))]) B dX1_isRight_143 rfl (Nat.le_of_ble_eq_true rfl) rfl ?_
          refine g_iinc (v := nI (k + 1)) (q := 148) (lv2 := [some (.ref x), some (.ref a), some (.ref r11), some (.ref r26), some (.int (nI 0)), some (.int (nI (k + 1))), some (.int (nI 0))]) B dX1_isRight_145 rfl rfl (nI_add _ 1) (Nat.le_of_ble_eq_true rfl) rfl ?_
          refine g_goto (tgt := 36) B dX1_isRight_148 (by decide) ?_
          refine g_fg 6 rfl ?_
          refine g_pk [9, 9, 0, 0, 0, 0, 0, 0, 0, 0, 0] rfl rfl ?_
          refine (show Go g κ 36 [some (.ref x), some (.ref a), some (.ref r11), some (.ref r26), some (.int (nI 0)), some (.int (nI (k + 1))), none] [] [[(x, .inr (0, [.ref b, .ref lp, .ref lk, .ref lr, .ref lt, .ref ls, .ref lm, .ref so, .int (nI (zBn C))]))], w4, w5, u1_8, u2_11, u0_20, w3, u2_20, l36_8, u1_23, u2_26] (30 + 40 * (24 - k)) (300 + 340 * (24 - k)) from ?_)
          refine g_room (kc2 := 30 + 40 * (24 - (k + 1))) (ks2 := 300 + 340 * (24 - (k + 1))) (by omega) (by omega) ?_
          exact ih36 _ (by omega) (k + 1) false l36_8 hl36_8 (by omega) (ep_s his (b := false) ⟨(fun z => by cases z), fun z => absurd z.1 c79⟩) rfl
        · skip
          have c79 := Classical.not_not.mp c79
          refine g_aload_n (q := 83) B dX1_isRight_82 rfl rfl (rv_r _) ?_
          refine g_aload_n (q := 84) B dX1_isRight_83 rfl rfl (rv_r _) ?_
          refine g_iload (q := 86) B dX1_isRight_84 rfl rfl ?_
          obtain ⟨st86, hst86⟩ := get_ex (xs := zSt C) (i := k) (by omega)
          obtain ⟨hsl86, ky86, hky86⟩ := hky _ _ hst86
          have hkl86 := fnd_lt hky86
          refine g_callV (q := 89) (is := [9, 6, 0]) (kc2 := (30 + 40 * (24 - k)) - 20) (ks2 := (300 + 340 * (24 - k)) - 170) B [.int (nI k)] (ct_X1_keyOf g J (x := x) (lk := lk) (b := b) (lp := lp) (lr := lr) (lt := lt) (ls := ls) (lm := lm) (so := so) (bxs := (zBn C)) (ss := (zSs C)) (bx := (zBx C)) (z := (zZz C)) (Ss := (zSt C)) (scap := scap) (e := k) (s := st86) (ky := ky86) hl36_8 hw5 (hst86) (by omega) (hsl86) (hky86)) dX1_isRight_86 rfl (rc_at B (ci := 0) rfl (k := 9) rfl) rfl q1224 q1226 qs11 q77 q1227 rfl rfl moX1_keyOf rfl rfl (by decide) (by decide) (Nat.le_of_ble_eq_true rfl) (by omega) (by omega) (fun _ _ hx => noX_x hx) (fun v86 L1 hp86 => ?_)
          obtain ⟨u1_86, rfl, rfl, hu1_86⟩ := hp86
          refine (show Go g κ 89 [some (.ref x), some (.ref a), some (.ref r11), some (.ref r26), some (.int (nI (if is = true then 1 else 0))), some (.int (nI k)), some (.int (nI 0))] [.int (nI ky86), .ref r11] [u1_8, u2_11, u0_20, w3, u2_20, u1_23, u2_26, w4, [(x, .inr (0, [.ref b, .ref lp, .ref lk, .ref lr, .ref lt, .ref ls, .ref lm, .ref so, .int (nI (zBn C))]))], u1_86, w5] ((30 + 40 * (24 - k)) - 20) ((300 + 340 * (24 - k)) - 170) from ?_)
          refine g_callV (q := 92) (is := [1]) (kc2 := (30 + 40 * (24 - k)) - 20) (ks2 := (300 + 340 * (24 - k)) - 170) B [.int (nI ky86)] (ct_J5_get g J (b := r11) (S := K11) (cap := cap11) (i := ky86) hu2_11 (by omega)) dX1_isRight_89 rfl (rc_in B (ci := 26) rfl (k := 1) rfl (SetP.hm hu2_11)) rfl q1784 q1110 q1111 q84 q1112 rfl rfl moJ5_get rfl rfl (by decide) (by decide) (Nat.le_of_ble_eq_true rfl) (by omega) (by omega) (fun _ _ hx => noX_x hx) (fun v89 L1 hp89 => ?_)
          obtain ⟨rfl, rfl⟩ := hp89
          refine (show Go g κ 92 [some (.ref x), some (.ref a), some (.ref r11), some (.ref r26), some (.int (nI (if is = true then 1 else 0))), some (.int (nI k)), some (.int (nI 0))] [.int (nI (if K11 ky86 = true then 1 else 0))] [u1_8, u0_20, w3, u2_20, u1_23, u2_26, w4, [(x, .inr (0, [.ref b, .ref lp, .ref lk, .ref lr, .ref lt, .ref ls, .ref lm, .ref so, .int (nI (zBn C))]))], u1_86, w5, u2_11] ((30 + 40 * (24 - k)) - 20) ((300 + 340 * (24 - k)) - 170) from ?_)
          refine g_iload (q := 94) B dX1_isRight_92 rfl rfl ?_
          refine g_icmp_ne (tgt := 101) (q := 97) B dX1_isRight_94 rfl (by decide) (bo_n0) (fun c94 => ?_) (fun c94 => ?_)
          · skip
            refine g_iconst (v := nI 0) (q := 102) B dX1_isRight_101 rfl (by decide) ?_
            refine g_istore (q := 104) (lv2 := [some (.ref x), some (.ref a), some (.ref r11), some (.ref r26), some (.int (nI 0)), some (.int (nI k)), some (.int (nI 0))]) B dX1_isRight_102 rfl (Nat.le_of_ble_eq_true rfl) rfl ?_
            refine g_iload (q := 106) B dX1_isRight_104 rfl rfl ?_
            refine g_if_eq (tgt := 142) (q := 109) B dX1_isRight_106 rfl (by decide) (iff_true_intro (by decide)) (fun _ => ?_) (fun z => absurd trivial z)
            refine g_iconst (v := nI 0) (q := 143) B dX1_isRight_142 rfl (by decide) ?_
            refine g_istore (q := 145) (lv2 := [some (.ref x), some (.ref a), some (.ref r11), some (.ref r26), some (.int (nI 0)), some (.int (nI k)), some (.int (nI 0))]) B dX1_isRight_143 rfl (Nat.le_of_ble_eq_true rfl) rfl ?_
            refine g_iinc (v := nI (k + 1)) (q := 148) (lv2 := [some (.ref x), some (.ref a), some (.ref r11), some (.ref r26), some (.int (nI 0)), some (.int (nI (k + 1))), some (.int (nI 0))]) B dX1_isRight_145 rfl rfl (nI_add _ 1) (Nat.le_of_ble_eq_true rfl) rfl ?_
            refine g_goto (tgt := 36) B dX1_isRight_148 (by decide) ?_
            refine g_fg 6 rfl ?_
            refine g_pk [7, 6, 7, 0, 6, 0, 0, 0, 2, 0, 0] rfl rfl ?_
            refine (show Go g κ 36 [some (.ref x), some (.ref a), some (.ref r11), some (.ref r26), some (.int (nI 0)), some (.int (nI (k + 1))), none] [] [[(x, .inr (0, [.ref b, .ref lp, .ref lk, .ref lr, .ref lt, .ref ls, .ref lm, .ref so, .int (nI (zBn C))]))], w4, w5, u1_8, u2_11, u0_20, w3, u2_20, u1_86, u1_23, u2_26] ((30 + 40 * (24 - k)) - 20) ((300 + 340 * (24 - k)) - 170) from ?_)
            refine g_room (kc2 := 30 + 40 * (24 - (k + 1))) (ks2 := 300 + 340 * (24 - (k + 1))) (by omega) (by omega) ?_
            exact ih36 _ (by omega) (k + 1) false u1_86 hu1_86 (by omega) (ep_s his (b := false) ⟨(fun z => by cases z), fun z => by have h := (epR_of hst86 hky86 hr51).mp z.2; exact (h.1.mp c94 c67).elim⟩) rfl
          · skip
            refine g_iconst (v := nI 1) (q := 98) B dX1_isRight_97 rfl (by decide) ?_
            refine g_goto (tgt := 102) B dX1_isRight_98 (by decide) ?_
            refine g_istore (q := 104) (lv2 := [some (.ref x), some (.ref a), some (.ref r11), some (.ref r26), some (.int (nI 1)), some (.int (nI k)), some (.int (nI 0))]) B dX1_isRight_102 rfl (Nat.le_of_ble_eq_true rfl) rfl ?_
            refine g_iload (q := 106) B dX1_isRight_104 rfl rfl ?_
            refine g_if_eq (tgt := 142) (q := 109) B dX1_isRight_106 rfl (by decide) (iff_false_intro (by decide)) (fun z => z.elim) (fun _ => ?_)
            refine g_aload_n (q := 110) B dX1_isRight_109 rfl rfl (rv_r _) ?_
            refine g_callV (q := 113) (is := [1]) (kc2 := (30 + 40 * (24 - k)) - 20) (ks2 := (300 + 340 * (24 - k)) - 170) B [] (ct_X4_isIn_s g J (a := a) (x := x) (pks := pks) (r := r) (W0 := u0_20)  (hE_6)) dX1_isRight_110 rfl (rc_in B (ci := 2) rfl (k := 1) rfl (Sub.hm (hE_6) fun _ z => PersP.hm z)) rfl q1211 q1207 q1208 q90 q1209 rfl rfl moX4_isIn rfl rfl (by decide) (by decide) (Nat.le_of_ble_eq_true rfl) (by omega) (by omega) (fun _ _ hx => noX_x hx) (fun v110 L1 hp110 => ?_)
            obtain ⟨rfl, rfl⟩ := hp110
            refine (show Go g κ 113 [some (.ref x), some (.ref a), some (.ref r11), some (.ref r26), some (.int (nI 1)), some (.int (nI k)), some (.int (nI 0))] [.int (nI (if ¬ pEp r = none then 1 else 0))] [u1_8, w3, u2_20, u1_23, u2_26, w4, [(x, .inr (0, [.ref b, .ref lp, .ref lk, .ref lr, .ref lt, .ref ls, .ref lm, .ref so, .int (nI (zBn C))]))], u1_86, w5, u2_11, u0_20] ((30 + 40 * (24 - k)) - 20) ((300 + 340 * (24 - k)) - 170) from ?_)
            refine g_if_eq (tgt := 138) (q := 116) B dX1_isRight_113 rfl (by decide) (bo_eq) (fun c113 => ?_) (fun c113 => ?_)
            · skip
              have e113 := Classical.not_not.mp c113
              refine g_iconst (v := nI 1) (q := 139) B dX1_isRight_138 rfl (by decide) ?_
              refine g_goto (tgt := 143) B dX1_isRight_139 (by decide) ?_
              refine g_istore (q := 145) (lv2 := [some (.ref x), some (.ref a), some (.ref r11), some (.ref r26), some (.int (nI 1)), some (.int (nI k)), some (.int (nI 0))]) B dX1_isRight_143 rfl (Nat.le_of_ble_eq_true rfl) rfl ?_
              refine g_iinc (v := nI (k + 1)) (q := 148) (lv2 := [some (.ref x), some (.ref a), some (.ref r11), some (.ref r26), some (.int (nI 1)), some (.int (nI (k + 1))), some (.int (nI 0))]) B dX1_isRight_145 rfl rfl (nI_add _ 1) (Nat.le_of_ble_eq_true rfl) rfl ?_
              refine g_goto (tgt := 36) B dX1_isRight_148 (by decide) ?_
              refine g_fg 6 rfl ?_
              refine g_pk [6, 5, 6, 0, 5, 5, 0, 0, 2, 0, 0] rfl rfl ?_
              refine (show Go g κ 36 [some (.ref x), some (.ref a), some (.ref r11), some (.ref r26), some (.int (nI 1)), some (.int (nI (k + 1))), none] [] [[(x, .inr (0, [.ref b, .ref lp, .ref lk, .ref lr, .ref lt, .ref ls, .ref lm, .ref so, .int (nI (zBn C))]))], w4, w5, u1_8, u2_11, u0_20, w3, u2_20, u1_86, u1_23, u2_26] ((30 + 40 * (24 - k)) - 20) ((300 + 340 * (24 - k)) - 170) from ?_)
              refine g_room (kc2 := 30 + 40 * (24 - (k + 1))) (ks2 := 300 + 340 * (24 - (k + 1))) (by omega) (by omega) ?_
              exact ih36 _ (by omega) (k + 1) true u1_86 hu1_86 (by omega) (ep_s his (b := true) ⟨fun _ => ⟨c79, (epR_of hst86 hky86 hr51).mpr ⟨⟨fun z => absurd z c94, fun z => absurd c67 z⟩, Or.inl e113⟩⟩, fun _ => rfl⟩) rfl
            · skip
              have c113 := Classical.not_not.mp c113
              obtain ⟨mE, hmE⟩ := Option.ne_none_iff_exists'.mp c113
              have hmb := hPB.2.2.2.2.1 _ hmE
              refine g_iload (q := 118) B dX1_isRight_116 rfl rfl ?_
              refine g_aload_n (q := 119) B dX1_isRight_118 rfl rfl (rv_r _) ?_
              refine g_getNM (q := 122) B (ci := 2) (k := 10) (j := 3) in_X4 rfl dX1_isRight_119 rfl rfl (hc_10_0) (Nat.le_of_ble_eq_true rfl) q1901 rfl rfl ?_
              refine g_stk (y := .int (nI mE)) (by rw [hmE]; rfl) ?_
              refine g_icmp_ge (tgt := 138) (q := 125) B dX1_isRight_122 rfl (by decide) (nI_leI (by omega) (by omega)) (fun c122 => ?_) (fun c122 => ?_)
              · skip
                refine g_iconst (v := nI 1) (q := 139) B dX1_isRight_138 rfl (by decide) ?_
                refine g_goto (tgt := 143) B dX1_isRight_139 (by decide) ?_
                refine g_istore (q := 145) (lv2 := [some (.ref x), some (.ref a), some (.ref r11), some (.ref r26), some (.int (nI 1)), some (.int (nI k)), some (.int (nI 0))]) B dX1_isRight_143 rfl (Nat.le_of_ble_eq_true rfl) rfl ?_
                refine g_iinc (v := nI (k + 1)) (q := 148) (lv2 := [some (.ref x), some (.ref a), some (.ref r11), some (.ref r26), some (.int (nI 1)), some (.int (nI (k + 1))), some (.int (nI 0))]) B dX1_isRight_145 rfl rfl (nI_add _ 1) (Nat.le_of_ble_eq_true rfl) rfl ?_
                refine g_goto (tgt := 36) B dX1_isRight_148 (by decide) ?_
                refine g_fg 6 rfl ?_
                refine g_pk [6, 5, 6, 0, 5, 5, 0, 0, 2, 0, 0] rfl rfl ?_
                refine (show Go g κ 36 [some (.ref x), some (.ref a), some (.ref r11), some (.ref r26), some (.int (nI 1)), some (.int (nI (k + 1))), none] [] [[(x, .inr (0, [.ref b, .ref lp, .ref lk, .ref lr, .ref lt, .ref ls, .ref lm, .ref so, .int (nI (zBn C))]))], w4, w5, u1_8, u2_11, u0_20, w3, u2_20, u1_86, u1_23, u2_26] ((30 + 40 * (24 - k)) - 20) ((300 + 340 * (24 - k)) - 170) from ?_)
                refine g_room (kc2 := 30 + 40 * (24 - (k + 1))) (ks2 := 300 + 340 * (24 - (k + 1))) (by omega) (by omega) ?_
                exact ih36 _ (by omega) (k + 1) true u1_86 hu1_86 (by omega) (ep_s his (b := true) ⟨fun _ => ⟨c79, (epR_of hst86 hky86 hr51).mpr ⟨⟨fun z => absurd z c94, fun z => absurd c67 z⟩, Or.inr (Or.inl ⟨mE, hmE, by omega⟩)⟩⟩, fun _ => rfl⟩) rfl
              · skip
                refine g_aload_n (q := 126) B dX1_isRight_125 rfl rfl (rv_r _) ?_
                refine g_aload_n (q := 127) B dX1_isRight_126 rfl rfl (rv_r _) ?_
                refine g_iload (q := 129) B dX1_isRight_127 rfl rfl ?_
                refine g_callV (q := 132) (is := [6, 6, 6]) (kc2 := (30 + 40 * (24 - k)) - 40) (ks2 := (300 + 340 * (24 - k)) - 340) B [.int (nI k)] (ct_X1_keyOf g J (x := x) (lk := lk) (b := b) (lp := lp) (lr := lr) (lt := lt) (ls := ls) (lm := lm) (so := so) (bxs := (zBn C)) (ss := (zSs C)) (bx := (zBx C)) (z := (zZz C)) (Ss := (zSt C)) (scap := scap) (e := k) (s := st86) (ky := ky86) hu1_86 hw5 (hst86) (by omega) (hsl86) (hky86)) dX1_isRight_129 rfl (rc_at B (ci := 0) rfl (k := 6) rfl) rfl q1224 q1226 qs11 q77 q1227 rfl rfl moX1_keyOf rfl rfl (by decide) (by decide) (Nat.le_of_ble_eq_true rfl) (by omega) (by omega) (fun _ _ hx => noX_x hx) (fun v129 L1 hp129 => ?_)
                obtain ⟨u1_129, rfl, rfl, hu1_129⟩ := hp129
                refine (show Go g κ 132 [some (.ref x), some (.ref a), some (.ref r11), some (.ref r26), some (.int (nI 1)), some (.int (nI k)), some (.int (nI 0))] [.int (nI ky86), .ref r26] [u1_8, w3, u2_20, u1_23, u2_26, w4, u2_11, u0_20, [(x, .inr (0, [.ref b, .ref lp, .ref lk, .ref lr, .ref lt, .ref ls, .ref lm, .ref so, .int (nI (zBn C))]))], u1_129, w5] ((30 + 40 * (24 - k)) - 40) ((300 + 340 * (24 - k)) - 340) from ?_)
                refine g_callV (q := 135) (is := [4]) (kc2 := (30 + 40 * (24 - k)) - 40) (ks2 := (300 + 340 * (24 - k)) - 340) B [.int (nI ky86)] (ct_J5_get g J (b := r26) (S := K26) (cap := cap26) (i := ky86) hu2_26 (by omega)) dX1_isRight_132 rfl (rc_in B (ci := 26) rfl (k := 4) rfl (SetP.hm hu2_26)) rfl q1784 q1110 q1111 q84 q1112 rfl rfl moJ5_get rfl rfl (by decide) (by decide) (Nat.le_of_ble_eq_true rfl) (by omega) (by omega) (fun _ _ hx => noX_x hx) (fun v132 L1 hp132 => ?_)
                obtain ⟨rfl, rfl⟩ := hp132
                refine (show Go g κ 135 [some (.ref x), some (.ref a), some (.ref r11), some (.ref r26), some (.int (nI 1)), some (.int (nI k)), some (.int (nI 0))] [.int (nI (if K26 ky86 = true then 1 else 0))] [u1_8, w3, u2_20, u1_23, w4, u2_11, u0_20, [(x, .inr (0, [.ref b, .ref lp, .ref lk, .ref lr, .ref lt, .ref ls, .ref lm, .ref so, .int (nI (zBn C))]))], u1_129, w5, u2_26] ((30 + 40 * (24 - k)) - 40) ((300 + 340 * (24 - k)) - 340) from ?_)
                refine g_if_ne (tgt := 142) (q := 138) B dX1_isRight_135 rfl (by decide) (bo_ne) (fun c135 => ?_) (fun c135 => ?_)
                · skip
                  refine g_iconst (v := nI 0) (q := 143) B dX1_isRight_142 rfl (by decide) ?_
                  refine g_istore (q := 145) (lv2 := [some (.ref x), some (.ref a), some (.ref r11), some (.ref r26), some (.int (nI 0)), some (.int (nI k)), some (.int (nI 0))]) B dX1_isRight_143 rfl (Nat.le_of_ble_eq_true rfl) rfl ?_
                  refine g_iinc (v := nI (k + 1)) (q := 148) (lv2 := [some (.ref x), some (.ref a), some (.ref r11), some (.ref r26), some (.int (nI 0)), some (.int (nI (k + 1))), some (.int (nI 0))]) B dX1_isRight_145 rfl rfl (nI_add _ 1) (Nat.le_of_ble_eq_true rfl) rfl ?_
                  refine g_goto (tgt := 36) B dX1_isRight_148 (by decide) ?_
                  refine g_fg 6 rfl ?_
                  refine g_pk [7, 4, 7, 0, 3, 3, 0, 0, 1, 0, 0] rfl rfl ?_
                  refine (show Go g κ 36 [some (.ref x), some (.ref a), some (.ref r11), some (.ref r26), some (.int (nI 0)), some (.int (nI (k + 1))), none] [] [[(x, .inr (0, [.ref b, .ref lp, .ref lk, .ref lr, .ref lt, .ref ls, .ref lm, .ref so, .int (nI (zBn C))]))], w4, w5, u1_8, u2_11, u0_20, w3, u2_20, u1_129, u1_23, u2_26] ((30 + 40 * (24 - k)) - 40) ((300 + 340 * (24 - k)) - 340) from ?_)
                  refine g_room (kc2 := 30 + 40 * (24 - (k + 1))) (ks2 := 300 + 340 * (24 - (k + 1))) (by omega) (by omega) ?_
                  exact ih36 _ (by omega) (k + 1) false u1_129 hu1_129 (by omega) (ep_s his (b := false) ⟨(fun z => by cases z), fun z => by have h := (epR_of hst86 hky86 hr51).mp z.2; rcases h.2 with h | ⟨m, h, h2⟩ | h; exact (c113 h).elim; rw [hmE] at h; cases h; omega; exact (h c135).elim⟩) rfl
                · skip
                  refine g_iconst (v := nI 1) (q := 139) B dX1_isRight_138 rfl (by decide) ?_
                  refine g_goto (tgt := 143) B dX1_isRight_139 (by decide) ?_
                  refine g_istore (q := 145) (lv2 := [some (.ref x), some (.ref a), some (.ref r11), some (.ref r26), some (.int (nI 1)), some (.int (nI k)), some (.int (nI 0))]) B dX1_isRight_143 rfl (Nat.le_of_ble_eq_true rfl) rfl ?_
                  refine g_iinc (v := nI (k + 1)) (q := 148) (lv2 := [some (.ref x), some (.ref a), some (.ref r11), some (.ref r26), some (.int (nI 1)), some (.int (nI (k + 1))), some (.int (nI 0))]) B dX1_isRight_145 rfl rfl (nI_add _ 1) (Nat.le_of_ble_eq_true rfl) rfl ?_
                  refine g_goto (tgt := 36) B dX1_isRight_148 (by decide) ?_
                  refine g_fg 6 rfl ?_
                  refine g_pk [7, 4, 7, 0, 3, 3, 0, 0, 1, 0, 0] rfl rfl ?_
                  refine (show Go g κ 36 [some (.ref x), some (.ref a), some (.ref r11), some (.ref r26), some (.int (nI 1)), some (.int (nI (k + 1))), none] [] [[(x, .inr (0, [.ref b, .ref lp, .ref lk, .ref lr, .ref lt, .ref ls, .ref lm, .ref so, .int (nI (zBn C))]))], w4, w5, u1_8, u2_11, u0_20, w3, u2_20, u1_129, u1_23, u2_26] ((30 + 40 * (24 - k)) - 40) ((300 + 340 * (24 - k)) - 340) from ?_)
                  refine g_room (kc2 := 30 + 40 * (24 - (k + 1))) (ks2 := 300 + 340 * (24 - (k + 1))) (by omega) (by omega) ?_
                  exact ih36 _ (by omega) (k + 1) true u1_129 hu1_129 (by omega) (ep_s his (b := true) ⟨fun _ => ⟨c79, (epR_of hst86 hky86 hr51).mpr ⟨⟨fun z => absurd z c94, fun z => absurd c67 z⟩, Or.inr (Or.inr c135)⟩⟩, fun _ => rfl⟩) rfl
      · skip
        obtain ⟨v67, ev67⟩ := Option.ne_none_iff_exists'.mp c67
        refine g_iconst (v := nI 1) (q := 71) B dX1_isRight_70 rfl (by decide) ?_
        refine g_goto (tgt := 75) B dX1_isRight_71 (by decide) ?_
        refine g_istore (q := 77) (lv2 := [some (.ref x), some (.ref a), some (.ref r11), some (.ref r26), some (.int (nI (if is = true then 1 else 0))), some (.int (nI k)), some (.int (nI 1))]) B dX1_isRight_75 rfl (Nat.le_of_ble_eq_true rfl) rfl ?_
        refine g_iload (q := 79) B dX1_isRight_77 rfl rfl ?_
        refine g_if_eq (tgt := 101) (q := 82) B dX1_isRight_79 rfl (by decide) (bo_eq) (fun c79 => ?_) (fun c79 => ?_)
        · skip
          refine g_iconst (v := nI 0) (q := 102) B dX1_isRight_101 rfl (by decide) ?_
          refine g_istore (q := 104) (lv2 := [some (.ref x), some (.ref a), some (.ref r11), some (.ref r26), some (.int (nI 0)), some (.int (nI k)), some (.int (nI 1))]) B dX1_isRight_102 rfl (Nat.le_of_ble_eq_true rfl) rfl ?_
          refine g_iload (q := 106) B dX1_isRight_104 rfl rfl ?_
          refine g_if_eq (tgt := 142) (q := 109) B dX1_isRight_106 rfl (by decide) (iff_true_intro (by decide)) (fun _ => ?_) (fun z => absurd trivial z)
          refine g_iconst (v := nI 0) (q := 143) B dX1_isRight_142 rfl (by decide) ?_
          refine g_istore (q := 145) (lv2 := [some (.ref x), some (.ref a), some (.ref r11), some (.ref r26), some (.int (nI 0)), some (.int (nI k)), some (.int (nI 1))]) B dX1_isRight_143 rfl (Nat.le_of_ble_eq_true rfl) rfl ?_
          refine g_iinc (v := nI (k + 1)) (q := 148) (lv2 := [some (.ref x), some (.ref a), some (.ref r11), some (.ref r26), some (.int (nI 0)), some (.int (nI (k + 1))), some (.int (nI 1))]) B dX1_isRight_145 rfl rfl (nI_add _ 1) (Nat.le_of_ble_eq_true rfl) rfl ?_
          refine g_goto (tgt := 36) B dX1_isRight_148 (by decide) ?_
          refine g_fg 6 rfl ?_
          refine g_pk [9, 9, 0, 0, 0, 0, 0, 0, 0, 0, 0] rfl rfl ?_
          refine (show Go g κ 36 [some (.ref x), some (.ref a), some (.ref r11), some (.ref r26), some (.int (nI 0)), some (.int (nI (k + 1))), none] [] [[(x, .inr (0, [.ref b, .ref lp, .ref lk, .ref lr, .ref lt, .ref ls, .ref lm, .ref so, .int (nI (zBn C))]))], w4, w5, u1_8, u2_11, u0_20, w3, u2_20, l36_8, u1_23, u2_26] (30 + 40 * (24 - k)) (300 + 340 * (24 - k)) from ?_)
          refine g_room (kc2 := 30 + 40 * (24 - (k + 1))) (ks2 := 300 + 340 * (24 - (k + 1))) (by omega) (by omega) ?_
          exact ih36 _ (by omega) (k + 1) false l36_8 hl36_8 (by omega) (ep_s his (b := false) ⟨(fun z => by cases z), fun z => absurd z.1 c79⟩) rfl
        · skip
          have c79 := Classical.not_not.mp c79
          refine g_aload_n (q := 83) B dX1_isRight_82 rfl rfl (rv_r _) ?_
          refine g_aload_n (q := 84) B dX1_isRight_83 rfl rfl (rv_r _) ?_
          refine g_iload (q := 86) B dX1_isRight_84 rfl rfl ?_
          obtain ⟨st86, hst86⟩ := get_ex (xs := zSt C) (i := k) (by omega)
          obtain ⟨hsl86, ky86, hky86⟩ := hky _ _ hst86
          have hkl86 := fnd_lt hky86
          refine g_callV (q := 89) (is := [9, 6, 0]) (kc2 := (30 + 40 * (24 - k)) - 20) (ks2 := (300 + 340 * (24 - k)) - 170) B [.int (nI k)] (ct_X1_keyOf g J (x := x) (lk := lk) (b := b) (lp := lp) (lr := lr) (lt := lt) (ls := ls) (lm := lm) (so := so) (bxs := (zBn C)) (ss := (zSs C)) (bx := (zBx C)) (z := (zZz C)) (Ss := (zSt C)) (scap := scap) (e := k) (s := st86) (ky := ky86) hl36_8 hw5 (hst86) (by omega) (hsl86) (hky86)) dX1_isRight_86 rfl (rc_at B (ci := 0) rfl (k := 9) rfl) rfl q1224 q1226 qs11 q77 q1227 rfl rfl moX1_keyOf rfl rfl (by decide) (by decide) (Nat.le_of_ble_eq_true rfl) (by omega) (by omega) (fun _ _ hx => noX_x hx) (fun v86 L1 hp86 => ?_)
          obtain ⟨u1_86, rfl, rfl, hu1_86⟩ := hp86
          refine (show Go g κ 89 [some (.ref x), some (.ref a), some (.ref r11), some (.ref r26), some (.int (nI (if is = true then 1 else 0))), some (.int (nI k)), some (.int (nI 1))] [.int (nI ky86), .ref r11] [u1_8, u2_11, u0_20, w3, u2_20, u1_23, u2_26, w4, [(x, .inr (0, [.ref b, .ref lp, .ref lk, .ref lr, .ref lt, .ref ls, .ref lm, .ref so, .int (nI (zBn C))]))], u1_86, w5] ((30 + 40 * (24 - k)) - 20) ((300 + 340 * (24 - k)) - 170) from ?_)
          refine g_callV (q := 92) (is := [1]) (kc2 := (30 + 40 * (24 - k)) - 20) (ks2 := (300 + 340 * (24 - k)) - 170) B [.int (nI ky86)] (ct_J5_get g J (b := r11) (S := K11) (cap := cap11) (i := ky86) hu2_11 (by omega)) dX1_isRight_89 rfl (rc_in B (ci := 26) rfl (k := 1) rfl (SetP.hm hu2_11)) rfl q1784 q1110 q1111 q84 q1112 rfl rfl moJ5_get rfl rfl (by decide) (by decide) (Nat.le_of_ble_eq_true rfl) (by omega) (by omega) (fun _ _ hx => noX_x hx) (fun v89 L1 hp89 => ?_)
          obtain ⟨rfl, rfl⟩ := hp89
          refine (show Go g κ 92 [some (.ref x), some (.ref a), some (.ref r11), some (.ref r26), some (.int (nI (if is = true then 1 else 0))), some (.int (nI k)), some (.int (nI 1))] [.int (nI (if K11 ky86 = true then 1 else 0))] [u1_8, u0_20, w3, u2_20, u1_23, u2_26, w4, [(x, .inr (0, [.ref b, .ref lp, .ref lk, .ref lr, .ref lt, .ref ls, .ref lm, .ref so, .int (nI (zBn C))]))], u1_86, w5, u2_11] ((30 + 40 * (24 - k)) - 20) ((300 + 340 * (24 - k)) - 170) from ?_)
          refine g_iload (q := 94) B dX1_isRight_92 rfl rfl ?_
          refine g_icmp_ne (tgt := 101) (q := 97) B dX1_isRight_94 rfl (by decide) (bo_n1) (fun c94 => ?_) (fun c94 => ?_)
          · skip
            refine g_iconst (v := nI 0) (q := 102) B dX1_isRight_101 rfl (by decide) ?_
            refine g_istore (q := 104) (lv2 := [some (.ref x), some (.ref a), some (.ref r11), some (.ref r26), some (.int (nI 0)), some (.int (nI k)), some (.int (nI 1))]) B dX1_isRight_102 rfl (Nat.le_of_ble_eq_true rfl) rfl ?_
            refine g_iload (q := 106) B dX1_isRight_104 rfl rfl ?_
            refine g_if_eq (tgt := 142) (q := 109) B dX1_isRight_106 rfl (by decide) (iff_true_intro (by decide)) (fun _ => ?_) (fun z => absurd trivial z)
            refine g_iconst (v := nI 0) (q := 143) B dX1_isRight_142 rfl (by decide) ?_
            refine g_istore (q := 145) (lv2 := [some (.ref x), some (.ref a), some (.ref r11), some (.ref r26), some (.int (nI 0)), some (.int (nI k)), some (.int (nI 1))]) B dX1_isRight_143 rfl (Nat.le_of_ble_eq_true rfl) rfl ?_
            refine g_iinc (v := nI (k + 1)) (q := 148) (lv2 := [some (.ref x), some (.ref a), some (.ref r11), some (.ref r26), some (.int (nI 0)), some (.int (nI (k + 1))), some (.int (nI 1))]) B dX1_isRight_145 rfl rfl (nI_add _ 1) (Nat.le_of_ble_eq_true rfl) rfl ?_
            refine g_goto (tgt := 36) B dX1_isRight_148 (by decide) ?_
            refine g_fg 6 rfl ?_
            refine g_pk [7, 6, 7, 0, 6, 0, 0, 0, 2, 0, 0] rfl rfl ?_
            refine (show Go g κ 36 [some (.ref x), some (.ref a), some (.ref r11), some (.ref r26), some (.int (nI 0)), some (.int (nI (k + 1))), none] [] [[(x, .inr (0, [.ref b, .ref lp, .ref lk, .ref lr, .ref lt, .ref ls, .ref lm, .ref so, .int (nI (zBn C))]))], w4, w5, u1_8, u2_11, u0_20, w3, u2_20, u1_86, u1_23, u2_26] ((30 + 40 * (24 - k)) - 20) ((300 + 340 * (24 - k)) - 170) from ?_)
            refine g_room (kc2 := 30 + 40 * (24 - (k + 1))) (ks2 := 300 + 340 * (24 - (k + 1))) (by omega) (by omega) ?_
            exact ih36 _ (by omega) (k + 1) false u1_86 hu1_86 (by omega) (ep_s his (b := false) ⟨(fun z => by cases z), fun z => by have h := (epR_of hst86 hky86 hr51).mp z.2; exact (c94 (h.1.mpr c67)).elim⟩) rfl
          · skip
            refine g_iconst (v := nI 1) (q := 98) B dX1_isRight_97 rfl (by decide) ?_
            refine g_goto (tgt := 102) B dX1_isRight_98 (by decide) ?_
            refine g_istore (q := 104) (lv2 := [some (.ref x), some (.ref a), some (.ref r11), some (.ref r26), some (.int (nI 1)), some (.int (nI k)), some (.int (nI 1))]) B dX1_isRight_102 rfl (Nat.le_of_ble_eq_true rfl) rfl ?_
            refine g_iload (q := 106) B dX1_isRight_104 rfl rfl ?_
            refine g_if_eq (tgt := 142) (q := 109) B dX1_isRight_106 rfl (by decide) (iff_false_intro (by decide)) (fun z => z.elim) (fun _ => ?_)
            refine g_aload_n (q := 110) B dX1_isRight_109 rfl rfl (rv_r _) ?_
            refine g_callV (q := 113) (is := [1]) (kc2 := (30 + 40 * (24 - k)) - 20) (ks2 := (300 + 340 * (24 - k)) - 170) B [] (ct_X4_isIn_s g J (a := a) (x := x) (pks := pks) (r := r) (W0 := u0_20)  (hE_6)) dX1_isRight_110 rfl (rc_in B (ci := 2) rfl (k := 1) rfl (Sub.hm (hE_6) fun _ z => PersP.hm z)) rfl q1211 q1207 q1208 q90 q1209 rfl rfl moX4_isIn rfl rfl (by decide) (by decide) (Nat.le_of_ble_eq_true rfl) (by omega) (by omega) (fun _ _ hx => noX_x hx) (fun v110 L1 hp110 => ?_)
            obtain ⟨rfl, rfl⟩ := hp110
            refine (show Go g κ 113 [some (.ref x), some (.ref a), some (.ref r11), some (.ref r26), some (.int (nI 1)), some (.int (nI k)), some (.int (nI 1))] [.int (nI (if ¬ pEp r = none then 1 else 0))] [u1_8, w3, u2_20, u1_23, u2_26, w4, [(x, .inr (0, [.ref b, .ref lp, .ref lk, .ref lr, .ref lt, .ref ls, .ref lm, .ref so, .int (nI (zBn C))]))], u1_86, w5, u2_11, u0_20] ((30 + 40 * (24 - k)) - 20) ((300 + 340 * (24 - k)) - 170) from ?_)
            refine g_if_eq (tgt := 138) (q := 116) B dX1_isRight_113 rfl (by decide) (bo_eq) (fun c113 => ?_) (fun c113 => ?_)
            · skip
              have e113 := Classical.not_not.mp c113
              refine g_iconst (v := nI 1) (q := 139) B dX1_isRight_138 rfl (by decide) ?_
              refine g_goto (tgt := 143) B dX1_isRight_139 (by decide) ?_
              refine g_istore (q := 145) (lv2 := [some (.ref x), some (.ref a), some (.ref r11), some (.ref r26), some (.int (nI 1)), some (.int (nI k)), some (.int (nI 1))]) B dX1_isRight_143 rfl (Nat.le_of_ble_eq_true rfl) rfl ?_
              refine g_iinc (v := nI (k + 1)) (q := 148) (lv2 := [some (.ref x), some (.ref a), some (.ref r11), some (.ref r26), some (.int (nI 1)), some (.int (nI (k + 1))), some (.int (nI 1))]) B dX1_isRight_145 rfl rfl (nI_add _ 1) (Nat.le_of_ble_eq_true rfl) rfl ?_
              refine g_goto (tgt := 36) B dX1_isRight_148 (by decide) ?_
              refine g_fg 6 rfl ?_
              refine g_pk [6, 5, 6, 0, 5, 5, 0, 0, 2, 0, 0] rfl rfl ?_
              refine (show Go g κ 36 [some (.ref x), some (.ref a), some (.ref r11), some (.ref r26), some (.int (nI 1)), some (.int (nI (k + 1))), none] [] [[(x, .inr (0, [.ref b, .ref lp, .ref lk, .ref lr, .ref lt, .ref ls, .ref lm, .ref so, .int (nI (zBn C))]))], w4, w5, u1_8, u2_11, u0_20, w3, u2_20, u1_86, u1_23, u2_26] ((30 + 40 * (24 - k)) - 20) ((300 + 340 * (24 - k)) - 170) from ?_)
              refine g_room (kc2 := 30 + 40 * (24 - (k + 1))) (ks2 := 300 + 340 * (24 - (k + 1))) (by omega) (by omega) ?_
              exact ih36 _ (by omega) (k + 1) true u1_86 hu1_86 (by omega) (ep_s his (b := true) ⟨fun _ => ⟨c79, (epR_of hst86 hky86 hr51).mpr ⟨⟨fun _ => c67, fun _ => Classical.not_not.mp c94⟩, Or.inl e113⟩⟩, fun _ => rfl⟩) rfl
            · skip
              have c113 := Classical.not_not.mp c113
              obtain ⟨mE, hmE⟩ := Option.ne_none_iff_exists'.mp c113
              have hmb := hPB.2.2.2.2.1 _ hmE
              refine g_iload (q := 118) B dX1_isRight_116 rfl rfl ?_
              refine g_aload_n (q := 119) B dX1_isRight_118 rfl rfl (rv_r _) ?_
              refine g_getNM (q := 122) B (ci := 2) (k := 10) (j := 3) in_X4 rfl dX1_isRight_119 rfl rfl (hc_10_0) (Nat.le_of_ble_eq_true rfl) q1901 rfl rfl ?_
              refine g_stk (y := .int (nI mE)) (by rw [hmE]; rfl) ?_
              refine g_icmp_ge (tgt := 138) (q := 125) B dX1_isRight_122 rfl (by decide) (nI_leI (by omega) (by omega)) (fun c122 => ?_) (fun c122 => ?_)
              · skip
                refine g_iconst (v := nI 1) (q := 139) B dX1_isRight_138 rfl (by decide) ?_
                refine g_goto (tgt := 143) B dX1_isRight_139 (by decide) ?_
                refine g_istore (q := 145) (lv2 := [some (.ref x), some (.ref a), some (.ref r11), some (.ref r26), some (.int (nI 1)), some (.int (nI k)), some (.int (nI 1))]) B dX1_isRight_143 rfl (Nat.le_of_ble_eq_true rfl) rfl ?_
                refine g_iinc (v := nI (k + 1)) (q := 148) (lv2 := [some (.ref x), some (.ref a), some (.ref r11), some (.ref r26), some (.int (nI 1)), some (.int (nI (k + 1))), some (.int (nI 1))]) B dX1_isRight_145 rfl rfl (nI_add _ 1) (Nat.le_of_ble_eq_true rfl) rfl ?_
                refine g_goto (tgt := 36) B dX1_isRight_148 (by decide) ?_
                refine g_fg 6 rfl ?_
                refine g_pk [6, 5, 6, 0, 5, 5, 0, 0, 2, 0, 0] rfl rfl ?_
                refine (show Go g κ 36 [some (.ref x), some (.ref a), some (.ref r11), some (.ref r26), some (.int (nI 1)), some (.int (nI (k + 1))), none] [] [[(x, .inr (0, [.ref b, .ref lp, .ref lk, .ref lr, .ref lt, .ref ls, .ref lm, .ref so, .int (nI (zBn C))]))], w4, w5, u1_8, u2_11, u0_20, w3, u2_20, u1_86, u1_23, u2_26] ((30 + 40 * (24 - k)) - 20) ((300 + 340 * (24 - k)) - 170) from ?_)
                refine g_room (kc2 := 30 + 40 * (24 - (k + 1))) (ks2 := 300 + 340 * (24 - (k + 1))) (by omega) (by omega) ?_
                exact ih36 _ (by omega) (k + 1) true u1_86 hu1_86 (by omega) (ep_s his (b := true) ⟨fun _ => ⟨c79, (epR_of hst86 hky86 hr51).mpr ⟨⟨fun _ => c67, fun _ => Classical.not_not.mp c94⟩, Or.inr (Or.inl ⟨mE, hmE, by omega⟩)⟩⟩, fun _ => rfl⟩) rfl
              · skip
                refine g_aload_n (q := 126) B dX1_isRight_125 rfl rfl (rv_r _) ?_
                refine g_aload_n (q := 127) B dX1_isRight_126 rfl rfl (rv_r _) ?_
                refine g_iload (q := 129) B dX1_isRight_127 rfl rfl ?_
                refine g_callV (q := 132) (is := [6, 6, 6]) (kc2 := (30 + 40 * (24 - k)) - 40) (ks2 := (300 + 340 * (24 - k)) - 340) B [.int (nI k)] (ct_X1_keyOf g J (x := x) (lk := lk) (b := b) (lp := lp) (lr := lr) (lt := lt) (ls := ls) (lm := lm) (so := so) (bxs := (zBn C)) (ss := (zSs C)) (bx := (zBx C)) (z := (zZz C)) (Ss := (zSt C)) (scap := scap) (e := k) (s := st86) (ky := ky86) hu1_86 hw5 (hst86) (by omega) (hsl86) (hky86)) dX1_isRight_129 rfl (rc_at B (ci := 0) rfl (k := 6) rfl) rfl q1224 q1226 qs11 q77 q1227 rfl rfl moX1_keyOf rfl rfl (by decide) (by decide) (Nat.le_of_ble_eq_true rfl) (by omega) (by omega) (fun _ _ hx => noX_x hx) (fun v129 L1 hp129 => ?_)
                obtain ⟨u1_129, rfl, rfl, hu1_129⟩ := hp129
                refine (show Go g κ 132 [some (.ref x), some (.ref a), some (.ref r11), some (.ref r26), some (.int (nI 1)), some (.int (nI k)), some (.int (nI 1))] [.int (nI ky86), .ref r26] [u1_8, w3, u2_20, u1_23, u2_26, w4, u2_11, u0_20, [(x, .inr (0, [.ref b, .ref lp, .ref lk, .ref lr, .ref lt, .ref ls, .ref lm, .ref so, .int (nI (zBn C))]))], u1_129, w5] ((30 + 40 * (24 - k)) - 40) ((300 + 340 * (24 - k)) - 340) from ?_)
                refine g_callV (q := 135) (is := [4]) (kc2 := (30 + 40 * (24 - k)) - 40) (ks2 := (300 + 340 * (24 - k)) - 340) B [.int (nI ky86)] (ct_J5_get g J (b := r26) (S := K26) (cap := cap26) (i := ky86) hu2_26 (by omega)) dX1_isRight_132 rfl (rc_in B (ci := 26) rfl (k := 4) rfl (SetP.hm hu2_26)) rfl q1784 q1110 q1111 q84 q1112 rfl rfl moJ5_get rfl rfl (by decide) (by decide) (Nat.le_of_ble_eq_true rfl) (by omega) (by omega) (fun _ _ hx => noX_x hx) (fun v132 L1 hp132 => ?_)
                obtain ⟨rfl, rfl⟩ := hp132
                refine (show Go g κ 135 [some (.ref x), some (.ref a), some (.ref r11), some (.ref r26), some (.int (nI 1)), some (.int (nI k)), some (.int (nI 1))] [.int (nI (if K26 ky86 = true then 1 else 0))] [u1_8, w3, u2_20, u1_23, w4, u2_11, u0_20, [(x, .inr (0, [.ref b, .ref lp, .ref lk, .ref lr, .ref lt, .ref ls, .ref lm, .ref so, .int (nI (zBn C))]))], u1_129, w5, u2_26] ((30 + 40 * (24 - k)) - 40) ((300 + 340 * (24 - k)) - 340) from ?_)
                refine g_if_ne (tgt := 142) (q := 138) B dX1_isRight_135 rfl (by decide) (bo_ne) (fun c135 => ?_) (fun c135 => ?_)
                · skip
                  refine g_iconst (v := nI 0) (q := 143) B dX1_isRight_142 rfl (by decide) ?_
                  refine g_istore (q := 145) (lv2 := [some (.ref x), some (.ref a), some (.ref r11), some (.ref r26), some (.int (nI 0)), some (.int (nI k)), some (.int (nI 1))]) B dX1_isRight_143 rfl (Nat.le_of_ble_eq_true rfl) rfl ?_
                  refine g_iinc (v := nI (k + 1)) (q := 148) (lv2 := [some (.ref x), some (.ref a), some (.ref r11), some (.ref r26), some (.int (nI 0)), some (.int (nI (k + 1))), some (.int (nI 1))]) B dX1_isRight_145 rfl rfl (nI_add _ 1) (Nat.le_of_ble_eq_true rfl) rfl ?_
                  refine g_goto (tgt := 36) B dX1_isRight_148 (by decide) ?_
                  refine g_fg 6 rfl ?_
                  refine g_pk [7, 4, 7, 0, 3, 3, 0, 0, 1, 0, 0] rfl rfl ?_
                  refine (show Go g κ 36 [some (.ref x), some (.ref a), some (.ref r11), some (.ref r26), some (.int (nI 0)), some (.int (nI (k + 1))), none] [] [[(x, .inr (0, [.ref b, .ref lp, .ref lk, .ref lr, .ref lt, .ref ls, .ref lm, .ref so, .int (nI (zBn C))]))], w4, w5, u1_8, u2_11, u0_20, w3, u2_20, u1_129, u1_23, u2_26] ((30 + 40 * (24 - k)) - 40) ((300 + 340 * (24 - k)) - 340) from ?_)
                  refine g_room (kc2 := 30 + 40 * (24 - (k + 1))) (ks2 := 300 + 340 * (24 - (k + 1))) (by omega) (by omega) ?_
                  exact ih36 _ (by omega) (k + 1) false u1_129 hu1_129 (by omega) (ep_s his (b := false) ⟨(fun z => by cases z), fun z => by have h := (epR_of hst86 hky86 hr51).mp z.2; rcases h.2 with h | ⟨m, h, h2⟩ | h; exact (c113 h).elim; rw [hmE] at h; cases h; omega; exact (h c135).elim⟩) rfl
                · skip
                  refine g_iconst (v := nI 1) (q := 139) B dX1_isRight_138 rfl (by decide) ?_
                  refine g_goto (tgt := 143) B dX1_isRight_139 (by decide) ?_
                  refine g_istore (q := 145) (lv2 := [some (.ref x), some (.ref a), some (.ref r11), some (.ref r26), some (.int (nI 1)), some (.int (nI k)), some (.int (nI 1))]) B dX1_isRight_143 rfl (Nat.le_of_ble_eq_true rfl) rfl ?_
                  refine g_iinc (v := nI (k + 1)) (q := 148) (lv2 := [some (.ref x), some (.ref a), some (.ref r11), some (.ref r26), some (.int (nI 1)), some (.int (nI (k + 1))), some (.int (nI 1))]) B dX1_isRight_145 rfl rfl (nI_add _ 1) (Nat.le_of_ble_eq_true rfl) rfl ?_
                  refine g_goto (tgt := 36) B dX1_isRight_148 (by decide) ?_
                  refine g_fg 6 rfl ?_
                  refine g_pk [7, 4, 7, 0, 3, 3, 0, 0, 1, 0, 0] rfl rfl ?_
                  refine (show Go g κ 36 [some (.ref x), some (.ref a), some (.ref r11), some (.ref r26), some (.int (nI 1)), some (.int (nI (k + 1))), none] [] [[(x, .inr (0, [.ref b, .ref lp, .ref lk, .ref lr, .ref lt, .ref ls, .ref lm, .ref so, .int (nI (zBn C))]))], w4, w5, u1_8, u2_11, u0_20, w3, u2_20, u1_129, u1_23, u2_26] ((30 + 40 * (24 - k)) - 40) ((300 + 340 * (24 - k)) - 340) from ?_)
                  refine g_room (kc2 := 30 + 40 * (24 - (k + 1))) (ks2 := 300 + 340 * (24 - (k + 1))) (by omega) (by omega) ?_
                  exact ih36 _ (by omega) (k + 1) true u1_129 hu1_129 (by omega) (ep_s his (b := true) ⟨fun _ => ⟨c79, (epR_of hst86 hky86 hr51).mpr ⟨⟨fun _ => c67, fun _ => Classical.not_not.mp c94⟩, Or.inr (Or.inr c135)⟩⟩, fun _ => rfl⟩) rfl
  refine g_room (kc2 := 30 + 40 * (24 - 0)) (ks2 := 300 + 340 * (24 - 0)) (by omega) (by omega) ?_
  exact lp36 _ 0 true w1 hw1 (Nat.zero_le _) (⟨fun _ e h => absurd h (Nat.not_lt_zero e), fun _ => rfl⟩) rfl
