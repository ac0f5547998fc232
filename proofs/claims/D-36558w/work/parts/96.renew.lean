set_option maxRecDepth 100000
theorem ct_X1_follows (g : Gv) (J : Jd g) {x : Nat} {lk : Nat} {b : Nat} {lp : Nat} {lr : Nat} {lt : Nat} {ls : Nat} {lm : Nat} {so : Nat} {bxs : Nat} {ss : List Sec} {bx : List (Nat × Nat)} {z : Int32} {t : Nat} {sec : Nat} {T : TrS} {s1 : List Sec} {on : Nat} {s2 : List Sec} {ky : Nat} {TA : Nat} {w1 : va_W} {wt : va_W} (hw1 : BookP g b ss bx z w1) (hT : Sub (TreeP g t T) wt) (hsec : sec < ss.length) (hf1 : frm ss (sec, none, 5) = (s1, on)) (hf2 : frm s1 (sec, none, 6) = (s2, ky)) (hfl : (chS T sec s2 (2 ^ T.1)).1.length ≤ 998) (hTA : PhS (chS T sec s2 (2 ^ T.1)).1 ≤ TA) : Ct g yX1_follows (ws_ yX1_follows cX1_follows 7 none) 13 (400 + 13 * (TA - PhS ss)) (3500 + 55 * (TA - PhS ss)) [.ref x, .ref t, .int (nI sec)] [[(x, .inr (0, [.ref b, .ref lp, .ref lk, .ref lr, .ref lt, .ref ls, .ref lm, .ref so, .int (nI bxs)]))], w1, wt] (fun (rv_ : Option Value) (rL_ : List va_W) => ∃ (u1 : va_W), rv_ = none ∧ rL_ = [[(x, .inr (0, [.ref b, .ref lp, .ref lk, .ref lr, .ref lt, .ref ls, .ref lm, .ref so, .int (nI bxs)]))], u1, wt] ∧ BookP g b ((chS T sec s2 (2 ^ T.1)).1) bx z u1) noX := by
  refine Ct.of "Keygrove" [some (.ref x), some (.ref t), some (.int (nI sec)), none, none, none, none] rfl (by decide) rfl (Nat.le_of_ble_eq_true rfl) rfl ?_
  intro κ B E tb
  have hTB := TreeP.b2 hT
  have hp2 := p2_4 hTB.1
  have hg1 := Ph_fr hf1
  have hg2 := Ph_fr hf2
  have hg4 : PhS s2 ≤ PhS (chS T sec s2 (2 ^ T.1)).1 ∧ s2.length ≤ (chS T sec s2 (2 ^ T.1)).1.length := chS_m T sec s2 (Nat.zero_le (2 ^ T.1))
  refine g_aload_n (q := 1) B dX1_follows_0 rfl rfl (rv_r _) ?_
  refine g_get (q := 4) B (ci := 0) (k := 0) (j := 0) in_X1 rfl dX1_follows_1 rfl rfl (Nat.le_of_ble_eq_true rfl) q277 rfl rfl ?_
  refine g_iload_n (q := 5) B dX1_follows_4 rfl rfl ?_
  refine g_iconst (v := nI 5) (q := 6) B dX1_follows_5 rfl (by decide) ?_
  refine g_callV (q := 9) (is := [1]) (kc2 := 380 + 13 * (TA - PhS s1)) (ks2 := 3330 + 55 * (TA - PhS s1)) B [.int (nI sec), .int (nI 5)] (ct_X2_from_p g J (b := b) (ss := ss) (bx := bx) (z := z) (one := sec) (l := 5) (s2 := s1) (i := on) hw1 (by first | assumption | omega | rfl) (by first | assumption | omega | rfl) (by first | assumption | omega | rfl) (hf1)) dX1_follows_6 rfl (rc_in B (ci := 1) rfl (k := 1) rfl (BookP.hm hw1)) rfl q1229 q1230 q1231 q78 q1232 rfl rfl moX2_from rfl rfl (by decide) (by decide) (Nat.le_of_ble_eq_true rfl) (by omega) (by omega) (fun _ _ hx => noX_x hx) (fun v6 L1 hp6 => ?_)
  obtain ⟨u0_6, rfl, rfl, hu0_6, hph_6⟩ := hp6
  refine (show Go g κ 9 [some (.ref x), some (.ref t), some (.int (nI sec)), none, none, none, none] [.int (nI on)] [[(x, .inr (0, [.ref b, .ref lp, .ref lk, .ref lr, .ref lt, .ref ls, .ref lm, .ref so, .int (nI bxs)]))], wt, u0_6] (380 + 13 * (TA - PhS s1)) (3330 + 55 * (TA - PhS s1)) from ?_)
  refine g_istore_n (q := 10) (lv2 := [some (.ref x), some (.ref t), some (.int (nI sec)), some (.int (nI on)), none, none, none]) B dX1_follows_9 rfl (Nat.le_of_ble_eq_true rfl) rfl ?_
  refine g_aload_n (q := 11) B dX1_follows_10 rfl rfl (rv_r _) ?_
  refine g_get (q := 14) B (ci := 0) (k := 0) (j := 0) in_X1 rfl dX1_follows_11 rfl rfl (Nat.le_of_ble_eq_true rfl) q277 rfl rfl ?_
  refine g_iload_n (q := 15) B dX1_follows_14 rfl rfl ?_
  refine g_bipush (v := nI 6) (q := 17) B dX1_follows_15 rfl (by decide) ?_
  refine g_callV (q := 20) (is := [2]) (kc2 := 360 + 13 * (TA - PhS s2)) (ks2 := 3160 + 55 * (TA - PhS s2)) B [.int (nI sec), .int (nI 6)] (ct_X2_from_p g J (b := b) (ss := s1) (bx := bx) (z := z) (one := sec) (l := 6) (s2 := s2) (i := ky) hu0_6 (by first | assumption | omega | rfl) (by first | assumption | omega | rfl) (by first | assumption | omega | rfl) (hf2)) dX1_follows_17 rfl (rc_in B (ci := 1) rfl (k := 2) rfl (BookP.hm hu0_6)) rfl q1229 q1230 q1231 q78 q1232 rfl rfl moX2_from rfl rfl (by decide) (by decide) (Nat.le_of_ble_eq_true rfl) (by omega) (by omega) (fun _ _ hx => noX_x hx) (fun v17 L1 hp17 => ?_)
  obtain ⟨u0_17, rfl, rfl, hu0_17, hph_17⟩ := hp17
  refine (show Go g κ 20 [some (.ref x), some (.ref t), some (.int (nI sec)), some (.int (nI on)), none, none, none] [.int (nI ky)] [[(x, .inr (0, [.ref b, .ref lp, .ref lk, .ref lr, .ref lt, .ref ls, .ref lm, .ref so, .int (nI bxs)]))], wt, u0_17] (360 + 13 * (TA - PhS s2)) (3160 + 55 * (TA - PhS s2)) from ?_)
  refine g_istore (q := 22) (lv2 := [some (.ref x), some (.ref t), some (.int (nI sec)), some (.int (nI on)), some (.int (nI ky)), none, none]) B dX1_follows_20 rfl (Nat.le_of_ble_eq_true rfl) rfl ?_
  refine g_iconst (v := nI 0) (q := 23) B dX1_follows_22 rfl (by decide) ?_
  refine g_istore (q := 25) (lv2 := [some (.ref x), some (.ref t), some (.int (nI sec)), some (.int (nI on)), some (.int (nI ky)), some (.int (nI 0)), none]) B dX1_follows_23 rfl (Nat.le_of_ble_eq_true rfl) rfl ?_
  have lp25 : ∀ (n25 : Nat) (k : Nat) (l25_2 : va_W), BookP g b ((chS T sec s2 k).1) bx z l25_2 → (k ≤ 2 ^ T.1) → 2 ^ T.1 - k = n25 → Go g κ 25 [some (.ref x), some (.ref t), some (.int (nI sec)), some (.int (nI on)), some (.int (nI ky)), some (.int (nI k)), none] [] [[(x, .inr (0, [.ref b, .ref lp, .ref lk, .ref lr, .ref lt, .ref ls, .ref lm, .ref so, .int (nI bxs)]))], wt, l25_2] (20 * (16 - k) + 13 * (TA - PhS (chS T sec s2 k).1)) (170 * (16 - k) + 55 * (TA - PhS (chS T sec s2 k).1)) := by
    intro n25
    induction n25 using Nat.strongRecOn with
    | _ n25 ih25 =>
    intro k l25_2 hl25_2 hk hmu25
    have hgk := chS_m T sec s2 hk
    have hgs := chS_mo T sec s2 k
    have hgz : PhS s2 ≤ PhS (chS T sec s2 k).1 ∧ s2.length ≤ (chS T sec s2 k).1.length := chS_m T sec s2 (Nat.zero_le k)
    refine g_iload (q := 27) B dX1_follows_25 rfl rfl ?_
    refine g_aload_n (q := 28) B dX1_follows_27 rfl rfl (rv_r _) ?_
    obtain ⟨as_1, al_1, ap_1, fs_1, fl_1, fp_1, hB_1, hfs_1, hfl_1, hfp_1, hc_1_0, hc_1_1, hc_1_2, hc_1_3⟩ := TreeP.at (hT)
    refine g_getNM (q := 31) B (ci := 5) (k := 1) (j := 0) in_X10 rfl dX1_follows_28 rfl rfl (hc_1_0) (Nat.le_of_ble_eq_true rfl) q2037 rfl rfl ?_
    refine g_icmp_ge (tgt := 66) (q := 34) B dX1_follows_31 rfl (by decide) (nI_leI (by omega) (by omega)) (fun c31 => ?_) (fun c31 => ?_)
    · skip
      have hr_2 : BookP g b ((chS T sec s2 (2 ^ T.1)).1) bx z l25_2 := (show k = 2 ^ T.1 by omega) ▸ hl25_2
      refine g_pk [0, 1, 0] rfl rfl ?_
      refine (show Go g κ 66 [some (.ref x), some (.ref t), some (.int (nI sec)), some (.int (nI on)), some (.int (nI ky)), some (.int (nI k)), none] [] [[(x, .inr (0, [.ref b, .ref lp, .ref lk, .ref lr, .ref lt, .ref ls, .ref lm, .ref so, .int (nI bxs)]))], l25_2, wt] (20 * (16 - k) + 13 * (TA - PhS (chS T sec s2 k).1)) (170 * (16 - k) + 55 * (TA - PhS (chS T sec s2 k).1)) from ?_)
      exact g_vret B E dX1_follows_66 (⟨l25_2, rfl, rfl, hr_2⟩)
    · skip
      refine g_aload_n (q := 35) B dX1_follows_34 rfl rfl (rv_r _) ?_
      refine g_getNM (q := 38) B (ci := 5) (k := 1) (j := 3) in_X10 rfl dX1_follows_35 rfl rfl (hc_1_0) (Nat.le_of_ble_eq_true rfl) q2045 rfl rfl ?_
      refine g_iload (q := 40) B dX1_follows_38 rfl rfl ?_
      refine g_ialdM (v := oI (T.2.2.2 k)) (q := 41) B (k := 1) dX1_follows_40 rfl rfl (hc_1_3) (vp_in_nI (by omega) (by omega)) (by rw [nI_clamp (by omega)]; exact hfp_1 _ (by omega)) ?_
      refine g_iconst (v := -1) (q := 42) B dX1_follows_41 rfl (by decide) ?_
      refine g_icmp_eq (tgt := 60) (q := 45) B dX1_follows_42 rfl (by decide) (oI_n ((fun n h => by have := hB_1.2.2.2 _ _ h; omega))) (fun c42 => ?_) (fun c42 => ?_)
      · skip
        have hcn := chS_n (sec := sec) (ss := s2) c42
        have hr_3 : BookP g b ((chS T sec s2 (k + 1)).1) bx z l25_2 := by rw [hcn]; exact hl25_2
        refine g_iinc (v := nI (k + 1)) (q := 63) (lv2 := [some (.ref x), some (.ref t), some (.int (nI sec)), some (.int (nI on)), some (.int (nI ky)), some (.int (nI (k + 1))), none]) B dX1_follows_60 rfl rfl (nI_add _ 1) (Nat.le_of_ble_eq_true rfl) rfl ?_
        refine g_goto (tgt := 25) B dX1_follows_63 (by decide) ?_
        refine g_room (kc2 := 20 * (16 - (k + 1)) + 13 * (TA - PhS (chS T sec s2 (k + 1)).1)) (ks2 := 170 * (16 - (k + 1)) + 55 * (TA - PhS (chS T sec s2 (k + 1)).1)) (by omega) (by omega) ?_
        exact ih25 _ (by omega) (k + 1) l25_2 hr_3 (by first | assumption | omega | rfl) rfl
      · skip
        obtain ⟨v42, ev42⟩ := Option.ne_none_iff_exists'.mp c42
        have hcn := chS_y (sec := sec) (ss := s2) c42
        have hgt := chS_m T sec s2 (show k + 1 ≤ 2 ^ T.1 by omega)
        have hgf : frm (chS T sec s2 k).1 (sec, none, 100 + k) = ((chS T sec s2 (k + 1)).1, (frm (chS T sec s2 k).1 (sec, none, 100 + k)).2) := by rw [hcn]
        refine g_aload_n (q := 46) B dX1_follows_45 rfl rfl (rv_r _) ?_
        refine g_get (q := 49) B (ci := 0) (k := 0) (j := 0) in_X1 rfl dX1_follows_46 rfl rfl (Nat.le_of_ble_eq_true rfl) q277 rfl rfl ?_
        refine g_iload_n (q := 50) B dX1_follows_49 rfl rfl ?_
        refine g_bipush (v := nI 100) (q := 52) B dX1_follows_50 rfl (by decide) ?_
        refine g_iload (q := 54) B dX1_follows_52 rfl rfl ?_
        refine g_iadd (v := nI (100 + k)) (q := 55) B dX1_follows_54 rfl (nI_add _ _) ?_
        refine g_callV (q := 58) (is := [2]) (kc2 := 20 * (15 - k) + 13 * (TA - PhS (chS T sec s2 (k + 1)).1)) (ks2 := 170 * (15 - k) + 55 * (TA - PhS (chS T sec s2 (k + 1)).1)) B [.int (nI sec), .int (nI (100 + k))] (ct_X2_from_p g J (b := b) (ss := (chS T sec s2 k).1) (bx := bx) (z := z) (one := sec) (l := 100 + k) (s2 := (chS T sec s2 (k + 1)).1) (i := (frm (chS T sec s2 k).1 (sec, none, 100 + k)).2) hl25_2 (by omega) (by omega) (Or.inr ⟨by omega, by omega⟩) (hgf)) dX1_follows_55 rfl (rc_in B (ci := 1) rfl (k := 2) rfl (BookP.hm hl25_2)) rfl q1229 q1230 q1231 q78 q1232 rfl rfl moX2_from rfl rfl (by decide) (by decide) (Nat.le_of_ble_eq_true rfl) (by omega) (by omega) (fun _ _ hx => noX_x hx) (fun v55 L1 hp55 => ?_)
        obtain ⟨u0_55, rfl, rfl, hu0_55, hph_55⟩ := hp55
        refine (show Go g κ 58 [some (.ref x), some (.ref t), some (.int (nI sec)), some (.int (nI on)), some (.int (nI ky)), some (.int (nI k)), none] [.int (nI ((frm (chS T sec s2 k).1 (sec, none, 100 + k)).2))] [[(x, .inr (0, [.ref b, .ref lp, .ref lk, .ref lr, .ref lt, .ref ls, .ref lm, .ref so, .int (nI bxs)]))], wt, u0_55] (20 * (15 - k) + 13 * (TA - PhS (chS T sec s2 (k + 1)).1)) (170 * (15 - k) + 55 * (TA - PhS (chS T sec s2 (k + 1)).1)) from ?_)
        refine g_istore (q := 60) (lv2 := [some (.ref x), some (.ref t), some (.int (nI sec)), some (.int (nI on)), some (.int (nI ky)), some (.int (nI k)), some (.int (nI ((frm (chS T sec s2 k).1 (sec, none, 100 + k)).2)))]) B dX1_follows_58 rfl (Nat.le_of_ble_eq_true rfl) rfl ?_
        refine g_iinc (v := nI (k + 1)) (q := 63) (lv2 := [some (.ref x), some (.ref t), some (.int (nI sec)), some (.int (nI on)), some (.int (nI ky)), some (.int (nI (k + 1))), some (.int (nI ((frm (chS T sec s2 k).1 (sec, none, 100 + k)).2)))]) B dX1_follows_60 rfl rfl (nI_add _ 1) (Nat.le_of_ble_eq_true rfl) rfl ?_
        refine g_goto (tgt := 25) B dX1_follows_63 (by decide) ?_
        refine g_fg 6 rfl ?_
        refine g_room (kc2 := 20 * (16 - (k + 1)) + 13 * (TA - PhS (chS T sec s2 (k + 1)).1)) (ks2 := 170 * (16 - (k + 1)) + 55 * (TA - PhS (chS T sec s2 (k + 1)).1)) (by omega) (by omega) ?_
        exact ih25 _ (by omega) (k + 1) u0_55 hu0_55 (by first | assumption | omega | rfl) rfl
  have hz0 : PhS (chS T sec s2 0).1 = PhS s2 := rfl
  have hr_4 : BookP g b ((chS T sec s2 0).1) bx z u0_17 := hu0_17
  refine g_room (kc2 := 20 * (16 - 0) + 13 * (TA - PhS (chS T sec s2 0).1)) (ks2 := 170 * (16 - 0) + 55 * (TA - PhS (chS T sec s2 0).1)) (by omega) (by omega) ?_
  exact lp25 _ 0 u0_17 hr_4 (Nat.zero_le _) rfl
theorem moX2_draw : Mo yX2_draw 0 := by
  refine ⟨by decide, by decide, by decide +kernel⟩
theorem nwX19 : ∀ j, j < 2 → defaultValue (tyX19 j) = vp_V [.int (nI 0), .int (nI 0)] j := by
  intro j hj
  match j, hj with
  | 0, _ => rfl
  | 1, _ => rfl
  | n + 2, hj => exact absurd hj (by omega)
theorem moX19_init : Mo yX19_init 2 := by
  refine ⟨by decide, by decide, by decide +kernel⟩
theorem ct_X1_renew (g : Gv) (J : Jd g) {x : Nat} {C : KsS} {v : Int32} {w0 : va_W} (hw0 : KgP g x C w0) (hC : KsB C) : Ct g yX1_renew (ws_ yX1_renew cX1_renew 3 (some .int)) 10 120 (600 + 4 * (PhS (zSs C ++ [drw (zZz C)]) - PhS (zSs C))) [.ref x, .int v] [w0] (fun (rv_ : Option Value) (rL_ : List va_W) => ∃ (i : Nat) (r : PeS) (E : Nat → Bool) (u0 : va_W), rv_ = some (.int (nI ((zRs C).length + 1))) ∧ rL_ = [u0] ∧ KgP g x ((zSs C ++ [drw (zZz C)], zBx C, lcg (zZz C), (zPs C).set i ((pNo r, E, pPk r, pEp r, pLf r, pNd r, pOn r, pKy r, pCh r, some (zSs C).length) : PeS), zKs C, zRs C ++ [(2, pLf r, (zSs C).length)], zTs C, zSt C, zMs C, zSo C, zBn C) : KsS) u0 ∧ (v = nI i) ∧ ((zPs C)[i]? = some r) ∧ ((isF (zTs C).length (pEp r) = true ∧ pRn r = none)) ∧ ((zRs C).length < 8) ∧ (∀ y, E y = true ↔ pEv r y = true ∨ helP (zKs C) ((pNo r, pEv r, pPk r, pEp r, pLf r, pNd r, pOn r, pKy r, pCh r, some (zSs C).length) : PeS) y)) (fun (rE_ : String) (rL_ : List va_W) => rL_ = [w0] ∧ ((rE_ = "java/lang/IndexOutOfBoundsException" ∧ (¬ inR v (zPs C).length = true)) ∨ (rE_ = "java/lang/UnsupportedOperationException" ∧ (∃ (i : Nat) (r : PeS), v = nI i ∧ (zPs C)[i]? = some r ∧ ¬ (isF (zTs C).length (pEp r) = true ∧ pRn r = none))) ∨ (rE_ = "java/lang/IllegalStateException" ∧ (∃ (i : Nat) (r : PeS), v = nI i ∧ (zPs C)[i]? = some r ∧ (isF (zTs C).length (pEp r) = true ∧ pRn r = none) ∧ ¬ (zRs C).length < 8)))) := by
  refine Ct.of "Keygrove" [some (.ref x), some (.int v), none] rfl (by decide) rfl (Nat.le_of_ble_eq_true rfl) rfl ?_
  intro κ B E tb
  have hC0 := hC
  obtain ⟨hc1, hc2, hc3, hc4, hc5, hc6, hc7, hc8, hc9, hc10, hc11⟩ := hC0
  obtain ⟨b, lp, lk, lr, lt, ls, lm, so, pcap, kcap, rcap, tcap, scap, mcap, socap, ps, pks, pmd, v0, v1, v2, v3, v4, v5, v6, v7, hcap, hv0, hv1, hv2, hv3, hv4, hv5, hv6, hv7, rfl⟩ := hw0
  refine g_open 0 rfl rfl rfl ?_
  refine (show Go g κ 0 [some (.ref x), some (.int v), none] [] [[(x, .inr (0, [.ref b, .ref lp, .ref lk, .ref lr, .ref lt, .ref ls, .ref lm, .ref so, .int (nI (zBn C))]))], v0, v1, v2, v3, v4, v5, v6, v7] 120 (600 + 4 * (PhS (zSs C ++ [drw (zZz C)]) - PhS (zSs C))) from ?_)
  refine g_aload_n (q := 1) B dX1_renew_0 rfl rfl (rv_r _) ?_
  refine g_iload_n (q := 2) B dX1_renew_1 rfl rfl ?_
  refine g_callV (q := 5) (is := [0, 1]) (kc2 := 119) (ks2 := (600 + 4 * (PhS (zSs C ++ [drw (zZz C)]) - PhS (zSs C))) - 6) B [.int v] (ct_X1_personWith g J (x := x) (lk := lk) (b := b) (lp := lp) (lr := lr) (lt := lt) (ls := ls) (lm := lm) (so := so) (bxs := zBn C) (ps := ps) (Ps := (zPs C)) (pcap := pcap) (pks := pks) (pmd := pmd) (v := v) hv1 (by first | assumption | omega | rfl)) dX1_renew_2 rfl (rc_at B (ci := 0) rfl (k := 0) rfl) rfl q1961 q1963 qs15 q77 q1964 rfl rfl moX1_personWith rfl rfl (by decide) (by decide) (Nat.le_of_ble_eq_true rfl) (Nat.le_of_ble_eq_true rfl) (by omega) (fun E2 L1 hx2 => ?_) (fun v2 L1 hp2 => ?_)
  · skip
    obtain ⟨rfl, hx2⟩ := hx2
    obtain ⟨rfl, hx2⟩ := hx2
    refine gx_cl [7, 0, 6, 0, 0, 0, 0, 0, 0] rfl ?_
    exact g_out B E tb (by first | exact ⟨rfl, Or.inl ⟨rfl, hx2⟩⟩ | exact ⟨rfl, Or.inl ⟨rfl, by simp_all⟩⟩)
  obtain ⟨i2, a2, r2, rfl, rfl, hv_2, ha_2, hr_2⟩ := hp2
  refine (show Go g κ 5 [some (.ref x), some (.int v), none] [.ref a2] [v0, v2, v3, v4, v5, v6, v7, [(x, .inr (0, [.ref b, .ref lp, .ref lk, .ref lr, .ref lt, .ref ls, .ref lm, .ref so, .int (nI (zBn C))]))], v1] 119 ((600 + 4 * (PhS (zSs C ++ [drw (zZz C)]) - PhS (zSs C))) - 6) from ?_)
  subst hv_2
  obtain ⟨hli_1, hln_1, hel_1⟩ := PersL.at (Sub.self hv1)
  have hE_2 := hel_1 _ _ _ ha_2 hr_2
  refine (show Go g κ 5 [some (.ref x), some (.int (nI i2)), none] [.ref a2] [v0, v2, v3, v4, v5, v6, v7, [(x, .inr (0, [.ref b, .ref lp, .ref lk, .ref lr, .ref lt, .ref ls, .ref lm, .ref so, .int (nI (zBn C))]))], v1] 119 ((600 + 4 * (PhS (zSs C ++ [drw (zZz C)]) - PhS (zSs C))) - 6) from ?_)
  obtain ⟨kc1, kc2, kc3, kc4, kc5, kc6, kc7⟩ := (show capB pcap kcap rcap tcap scap mcap socap from hcap)
  refine g_astore_n (q := 6) (lv2 := [some (.ref x), some (.int (nI i2)), some (.ref a2)]) B dX1_renew_5 rfl (Nat.le_of_ble_eq_true rfl) (rv_r _) rfl ?_
  refine g_aload_n (q := 7) B dX1_renew_6 rfl rfl (rv_r _) ?_
  refine g_aload_n (q := 8) B dX1_renew_7 rfl rfl (rv_r _) ?_
  refine g_callV (q := 11) (is := [7, 7, 3]) (kc2 := 119) (ks2 := (600 + 4 * (PhS (zSs C ++ [drw (zZz C)]) - PhS (zSs C))) - 6) B [.ref a2] (ct_X1_isFresh g J (x := x) (lk := lk) (b := b) (lp := lp) (lr := lr) (lt := lt) (ls := ls) (lm := lm) (so := so) (bxs := (zBn C)) (ps := ps) (Ps := (zPs C)) (pcap := pcap) (pks := pks) (pmd := pmd) (Ts := (zTs C)) (tcap := tcap) (i := i2) (a := a2) (r := r2) hv1 hv4 (by first | assumption | omega | rfl) (by first | assumption | omega | rfl) (by first | assumption | omega | rfl)) dX1_renew_8 rfl (rc_at B (ci := 0) rfl (k := 7) rfl) rfl q1785 q1787 qs13 q77 q1788 rfl rfl moX1_isFresh rfl rfl (by decide) (by decide) (Nat.le_of_ble_eq_true rfl) (Nat.le_of_ble_eq_true rfl) (by omega) (fun _ _ hx => noX_x hx) (fun v8 L1 hp8 => ?_)
  obtain ⟨rfl, rfl⟩ := hp8
  refine (show Go g κ 11 [some (.ref x), some (.int (nI i2)), some (.ref a2)] [.int (nI (if isF (zTs C).length (pEp r2) = true then 1 else 0))] [v0, v2, v3, v5, v6, v7, [(x, .inr (0, [.ref b, .ref lp, .ref lk, .ref lr, .ref lt, .ref ls, .ref lm, .ref so, .int (nI (zBn C))]))], v1, v4] 119 ((600 + 4 * (PhS (zSs C ++ [drw (zZz C)]) - PhS (zSs C))) - 6) from ?_)
  refine g_if_eq (tgt := 26) (q := 14) B dX1_renew_11 rfl (by decide) (bo_eq) (fun c11 => ?_) (fun c11 => ?_)
  · skip
    refine g_iconst (v := nI 0) (q := 27) B dX1_renew_26 rfl (by decide) ?_
    refine g_callS (q := 30) (is := []) (kc2 := 118) (ks2 := (600 + 4 * (PhS (zSs C ++ [drw (zZz C)]) - PhS (zSs C))) - 12) B [.int (nI 0)] (ct_X1_can g J (c := False) (dc := instDecidableFalse)  ) dX1_renew_27 rfl q2331 q2332 q77 q2333 rfl rfl moX1_can rfl rfl (by decide) (by decide) (Nat.le_of_ble_eq_true rfl) (Nat.le_of_ble_eq_true rfl) (by omega) (fun E27 L1 hx27 => ?_) (fun v27 L1 hp27 => ?_)
    · skip
      obtain ⟨rfl, hx27⟩ := hx27
      obtain ⟨rfl, hx27⟩ := hx27
      refine gx_cl [6, 0, 5, 0, 0, 3, 0, 0, 0] rfl ?_
      exact g_out B E tb (by first | exact ⟨rfl, Or.inr (Or.inl ⟨rfl, hx27⟩)⟩ | exact ⟨rfl, Or.inr (Or.inl ⟨rfl, ⟨i2, r2, rfl, hr_2, by rintro ⟨z1, z2⟩; first | exact c11 z1 | exact c19 z2⟩⟩)⟩ | exact ⟨rfl, Or.inr (Or.inl ⟨rfl, by simp_all⟩)⟩)
    obtain ⟨rfl, rfl, ht_27⟩ := hp27
    exact ht_27.elim
  · skip
    have c11 := Classical.not_not.mp c11
    refine g_aload_n (q := 15) B dX1_renew_14 rfl rfl (rv_r _) ?_
    obtain ⟨ev_3, pl_3, nd_3, ch_3, ecap_3, pcap_3, nn_3, nc_3, plc_3, md_3, hP_3, hpl_3, hec_3, hpc_3, hc_3_0, hs_3_0, hs_3_1, hs_3_2, hs_3_3⟩ := PersP.at (hE_2)
    refine g_getNM (q := 18) B (ci := 2) (k := 7) (j := 9) in_X4 rfl dX1_renew_15 rfl rfl (hc_3_0) (Nat.le_of_ble_eq_true rfl) q1913 rfl rfl ?_
    refine g_iconst (v := -1) (q := 19) B dX1_renew_18 rfl (by decide) ?_
    refine g_icmp_ne (tgt := 26) (q := 22) B dX1_renew_19 rfl (by decide) (oI_nn ((fun n h => by have := hP_3.2.2.2.2.2.1 _ h; omega))) (fun c19 => ?_) (fun c19 => ?_)
    · skip
      obtain ⟨v19, ev19⟩ := Option.ne_none_iff_exists'.mp c19
      refine g_iconst (v := nI 0) (q := 27) B dX1_renew_26 rfl (by decide) ?_
      refine g_callS (q := 30) (is := []) (kc2 := 118) (ks2 := (600 + 4 * (PhS (zSs C ++ [drw (zZz C)]) - PhS (zSs C))) - 12) B [.int (nI 0)] (ct_X1_can g J (c := False) (dc := instDecidableFalse)  ) dX1_renew_27 rfl q2331 q2332 q77 q2333 rfl rfl moX1_can rfl rfl (by decide) (by decide) (Nat.le_of_ble_eq_true rfl) (Nat.le_of_ble_eq_true rfl) (by omega) (fun E27 L1 hx27 => ?_) (fun v27 L1 hp27 => ?_)
      · skip
        obtain ⟨rfl, hx27⟩ := hx27
        obtain ⟨rfl, hx27⟩ := hx27
        refine gx_cl [6, 0, 5, 0, 0, 3, 0, 0, 0] rfl ?_
        exact g_out B E tb (by first | exact ⟨rfl, Or.inr (Or.inl ⟨rfl, hx27⟩)⟩ | exact ⟨rfl, Or.inr (Or.inl ⟨rfl, ⟨i2, r2, rfl, hr_2, by rintro ⟨z1, z2⟩; first | exact c11 z1 | exact c19 z2⟩⟩)⟩ | exact ⟨rfl, Or.inr (Or.inl ⟨rfl, by simp_all⟩)⟩)
      obtain ⟨rfl, rfl, ht_27⟩ := hp27
      exact ht_27.elim
    · skip
      have c19 := Classical.not_not.mp c19
      refine g_iconst (v := nI 1) (q := 23) B dX1_renew_22 rfl (by decide) ?_
      refine g_goto (tgt := 27) B dX1_renew_23 (by decide) ?_
      refine g_callS (q := 30) (is := []) (kc2 := 118) (ks2 := (600 + 4 * (PhS (zSs C ++ [drw (zZz C)]) - PhS (zSs C))) - 12) B [.int (nI 1)] (ct_X1_can g J (c := True) (dc := instDecidableTrue)  ) dX1_renew_27 rfl q2331 q2332 q77 q2333 rfl rfl moX1_can rfl rfl (by decide) (by decide) (Nat.le_of_ble_eq_true rfl) (Nat.le_of_ble_eq_true rfl) (by omega) (fun E27 L1 hx27 => ?_) (fun v27 L1 hp27 => ?_)
      · skip
        obtain ⟨rfl, hx27⟩ := hx27
        obtain ⟨rfl, hx27⟩ := hx27
        exact absurd trivial hx27
      obtain ⟨rfl, rfl, ht_27⟩ := hp27
      refine (show Go g κ 30 [some (.ref x), some (.int (nI i2)), some (.ref a2)] [] [v0, v2, v3, v5, v6, v7, [(x, .inr (0, [.ref b, .ref lp, .ref lk, .ref lr, .ref lt, .ref ls, .ref lm, .ref so, .int (nI (zBn C))]))], v1, v4] 118 ((600 + 4 * (PhS (zSs C ++ [drw (zZz C)]) - PhS (zSs C))) - 12) from ?_)
      refine g_aload_n (q := 31) B dX1_renew_30 rfl rfl (rv_r _) ?_
      refine g_get (q := 34) B (ci := 0) (k := 6) (j := 3) in_X1 rfl dX1_renew_31 rfl rfl (Nat.le_of_ble_eq_true rfl) q280 rfl rfl ?_
      obtain ⟨ps_4, md_4, hli_4, hln_4, hel_4⟩ := LhP.at (Sub.self hv3)
      refine g_callF (q := 39) (is := [2]) (kc2 := 118) (ks2 := (600 + 4 * (PhS (zSs C ++ [drw (zZz C)]) - PhS (zSs C))) - 12) B [] (ct_J2_size_s g J (p := lr) (xs := ps_4) (md := md_4) (cap := rcap) (W0 := v3)  (hli_4)) dX1_renew_34 rfl (ci := 21) rfl (rc_in B (ci := 21) rfl (k := 2) rfl (PropL.hm hv3)) q315 q319 q321 q81 q323 q317 q316 q322 q320 q318 rfl rfl mojava_util_List_size___I rfl rfl (by decide) (by decide) (Nat.le_of_ble_eq_true rfl) (Nat.le_of_ble_eq_true rfl) (by omega) (fun _ _ hx => noX_x hx) (fun v34 L1 hp34 => ?_)
      obtain ⟨rfl, rfl⟩ := hp34
      refine (show Go g κ 39 [some (.ref x), some (.int (nI i2)), some (.ref a2)] [.int (nI ps_4.length)] [v0, v2, v5, v6, v7, [(x, .inr (0, [.ref b, .ref lp, .ref lk, .ref lr, .ref lt, .ref ls, .ref lm, .ref so, .int (nI (zBn C))]))], v1, v4, v3] 118 ((600 + 4 * (PhS (zSs C ++ [drw (zZz C)]) - PhS (zSs C))) - 12) from ?_)
      rw [hln_4.1]
      refine (show Go g κ 39 [some (.ref x), some (.int (nI i2)), some (.ref a2)] [.int (nI ((zRs C).length))] [v0, v2, v5, v6, v7, [(x, .inr (0, [.ref b, .ref lp, .ref lk, .ref lr, .ref lt, .ref ls, .ref lm, .ref so, .int (nI (zBn C))]))], v1, v4, v3] 118 ((600 + 4 * (PhS (zSs C ++ [drw (zZz C)]) - PhS (zSs C))) - 12) from ?_)
      refine g_bipush (v := nI 8) (q := 41) B dX1_renew_39 rfl (by decide) ?_
      refine g_icmp_ge (tgt := 48) (q := 44) B dX1_renew_41 rfl (by decide) (nI_leI (by omega) (by omega)) (fun c41 => ?_) (fun c41 => ?_)
      · skip
        refine g_iconst (v := nI 0) (q := 49) B dX1_renew_48 rfl (by decide) ?_
        refine g_callS (q := 52) (is := []) (kc2 := 117) (ks2 := (600 + 4 * (PhS (zSs C ++ [drw (zZz C)]) - PhS (zSs C))) - 18) B [.int (nI 0)] (ct_X1_ready g J (c := False) (dc := instDecidableFalse)  ) dX1_renew_49 rfl q1839 q1840 q77 q1841 rfl rfl moX1_ready rfl rfl (by decide) (by decide) (Nat.le_of_ble_eq_true rfl) (Nat.le_of_ble_eq_true rfl) (by omega) (fun E49 L1 hx49 => ?_) (fun v49 L1 hp49 => ?_)
        · skip
          obtain ⟨rfl, hx49⟩ := hx49
          obtain ⟨rfl, hx49⟩ := hx49
          refine gx_cl [5, 0, 4, 0, 4, 3, 0, 0, 0] rfl ?_
          exact g_out B E tb (by first | exact ⟨rfl, Or.inr (Or.inr (⟨rfl, hx49⟩))⟩ | exact ⟨rfl, Or.inr (Or.inr (⟨rfl, ⟨i2, r2, rfl, hr_2, ⟨c11, c19⟩, by omega⟩⟩))⟩ | exact ⟨rfl, Or.inr (Or.inr (⟨rfl, by simp_all⟩))⟩)
        obtain ⟨rfl, rfl, ht_49⟩ := hp49
        exact ht_49.elim
      · skip
        refine g_iconst (v := nI 1) (q := 45) B dX1_renew_44 rfl (by decide) ?_
        refine g_goto (tgt := 49) B dX1_renew_45 (by decide) ?_
        refine g_callS (q := 52) (is := []) (kc2 := 117) (ks2 := (600 + 4 * (PhS (zSs C ++ [drw (zZz C)]) - PhS (zSs C))) - 18) B [.int (nI 1)] (ct_X1_ready g J (c := True) (dc := instDecidableTrue)  ) dX1_renew_49 rfl q1839 q1840 q77 q1841 rfl rfl moX1_ready rfl rfl (by decide) (by decide) (Nat.le_of_ble_eq_true rfl) (Nat.le_of_ble_eq_true rfl) (by omega) (fun E49 L1 hx49 => ?_) (fun v49 L1 hp49 => ?_)
        · skip
          obtain ⟨rfl, hx49⟩ := hx49
          obtain ⟨rfl, hx49⟩ := hx49
          exact absurd trivial hx49
        obtain ⟨rfl, rfl, ht_49⟩ := hp49
        refine (show Go g κ 52 [some (.ref x), some (.int (nI i2)), some (.ref a2)] [] [v0, v2, v5, v6, v7, [(x, .inr (0, [.ref b, .ref lp, .ref lk, .ref lr, .ref lt, .ref ls, .ref lm, .ref so, .int (nI (zBn C))]))], v1, v4, v3] 117 ((600 + 4 * (PhS (zSs C ++ [drw (zZz C)]) - PhS (zSs C))) - 18) from ?_)
        refine g_aload_n (q := 53) B dX1_renew_52 rfl rfl (rv_r _) ?_
        refine g_aload_n (q := 54) B dX1_renew_53 rfl rfl (rv_r _) ?_
        refine g_get (q := 57) B (ci := 0) (k := 5) (j := 0) in_X1 rfl dX1_renew_54 rfl rfl (Nat.le_of_ble_eq_true rfl) q277 rfl rfl ?_
        refine g_callV (q := 60) (is := [0]) (kc2 := 100) (ks2 := 500) B [] (ct_X2_draw_p g J (b := b) (ss := (zSs C)) (bx := (zBx C)) (z := (zZz C)) hv0 (by omega)) dX1_renew_57 rfl (rc_in B (ci := 1) rfl (k := 0) rfl (BookP.hm hv0)) rfl q1976 q1977 q1978 q78 q1979 rfl rfl moX2_draw rfl rfl (by decide) (by decide) (Nat.le_of_ble_eq_true rfl) (Nat.le_of_ble_eq_true rfl) (by omega) (fun _ _ hx => noX_x hx) (fun v57 L1 hp57 => ?_)
        obtain ⟨u0_57, rfl, rfl, hu0_57, hph_57⟩ := hp57
        refine (show Go g κ 60 [some (.ref x), some (.int (nI i2)), some (.ref a2)] [.int (nI ((zSs C).length)), .ref a2] [v2, v5, v6, v7, [(x, .inr (0, [.ref b, .ref lp, .ref lk, .ref lr, .ref lt, .ref ls, .ref lm, .ref so, .int (nI (zBn C))]))], v1, v4, v3, u0_57] 100 500 from ?_)
        obtain ⟨pu1_p, pwi_p, pu2_p, hpwi_p, hpcl_p, hpe_p⟩ := PersL.opn hv1 ha_2 hr_2
        refine g_open 5 rfl hpe_p rfl ?_
        refine (show Go g κ 60 [some (.ref x), some (.int (nI i2)), some (.ref a2)] [.int (nI ((zSs C).length)), .ref a2] [v2, v5, v6, v7, [(x, .inr (0, [.ref b, .ref lp, .ref lk, .ref lr, .ref lt, .ref ls, .ref lm, .ref so, .int (nI (zBn C))]))], v4, v3, u0_57, pu1_p, pwi_p, pu2_p] 100 500 from ?_)
        obtain ⟨ev_p, pl_p, nd_p, ch_p, ecap_p, pcap_p, nn_p, nc_p, plc_p, md_p, v0_p, v1_p, v2_p, v3_p, hP_p, hpl_p, hec_p, hpc_p, hv0_p, hv1_p, hv2_p, hv3_p, rfl⟩ := hpwi_p
        refine g_open 9 rfl rfl rfl ?_
        refine (show Go g κ 60 [some (.ref x), some (.int (nI i2)), some (.ref a2)] [.int (nI ((zSs C).length)), .ref a2] [v2, v5, v6, v7, [(x, .inr (0, [.ref b, .ref lp, .ref lk, .ref lr, .ref lt, .ref ls, .ref lm, .ref so, .int (nI (zBn C))]))], v4, v3, u0_57, pu1_p, pu2_p, [(a2, .inr (2, [.int (nI (pNo r2)), .ref ev_p, .ref pl_p, .int (oI (pEp r2)), .int (nI (pLf r2)), .ref nd_p, .int (nI (pOn r2)), .int (nI (pKy r2)), .ref ch_p, .int (oI (pRn r2)), .ref x]))], v0_p, v1_p, v2_p, v3_p] 100 500 from ?_)
        refine g_putN (q := 63) (L2 := [v2, v5, v6, v7, [(x, .inr (0, [.ref b, .ref lp, .ref lk, .ref lr, .ref lt, .ref ls, .ref lm, .ref so, .int (nI (zBn C))]))], v4, v3, u0_57, pu1_p, pu2_p, [(a2, .inr (2, [.int (nI (pNo r2)), .ref ev_p, .ref pl_p, .int (oI (pEp r2)), .int (nI (pLf r2)), .ref nd_p, .int (nI (pOn r2)), .int (nI (pKy r2)), .ref ch_p, .int (nI ((zSs C).length)), .ref x]))], v0_p, v1_p, v2_p, v3_p]) B (ci := 2) (k := 10) (j := 9) in_X4 tyX4 tyX4_ok nmX4 rfl dX1_renew_60 rfl rfl (Nat.le_of_ble_eq_true rfl) q1913 rfl rfl rfl rfl (Nat.le_of_ble_eq_true rfl) rfl ?_
        obtain ⟨wc_5, ewc_5⟩ : ∃ w : va_W, w = ([[(a2, .inr (2, [.int (nI (pNo r2)), .ref ev_p, .ref pl_p, .int (oI (pEp r2)), .int (nI (pLf r2)), .ref nd_p, .int (nI (pOn r2)), .int (nI (pKy r2)), .ref ch_p, .int (nI ((zSs C).length)), .ref x]))], v0_p, v1_p, v2_p, v3_p] : List va_W).flatten := ⟨_, rfl⟩
        have hwc_5 : PersP g a2 x pks ((pNo r2, pEv r2, pPk r2, pEp r2, pLf r2, pNd r2, pOn r2, pKy r2, pCh r2, some (zSs C).length) : PeS) wc_5 := by
          rw [ewc_5]
          exact ⟨ev_p, pl_p, nd_p, ch_p, ecap_p, pcap_p, nn_p, nc_p, plc_p, md_p, _, _, _, _, (by have hP0 := hP_p; obtain ⟨hp0, hp1, hp2, hp3, hp4, hp5, hp6, hp7, hp8⟩ := hP0; exact ⟨hp0, hp1, hp2, hp3, hp4, fun n h => by cases h; omega, hp6, hp7, hp8⟩), hpl_p, hec_p, hpc_p, hv0_p, hv1_p, hv2_p, hv3_p, rfl⟩
        refine g_close (w := wc_5) [10, 10, 10, 10, 10] rfl ewc_5 rfl ?_
        refine (show Go g κ 63 [some (.ref x), some (.int (nI i2)), some (.ref a2)] [] [v2, v5, v6, v7, [(x, .inr (0, [.ref b, .ref lp, .ref lk, .ref lr, .ref lt, .ref ls, .ref lm, .ref so, .int (nI (zBn C))]))], v4, v3, u0_57, pu1_p, pu2_p, wc_5] 100 500 from ?_)
        obtain ⟨wc_6, ewc_6⟩ : ∃ w : va_W, w = ([pu1_p, wc_5, pu2_p] : List va_W).flatten := ⟨_, rfl⟩
        have hwc_6 : PersL g lp ps ((zPs C).set i2 ((pNo r2, pEv r2, pPk r2, pEp r2, pLf r2, pNd r2, pOn r2, pKy r2, pCh r2, some (zSs C).length) : PeS)) pcap x pks pmd wc_6 := by
          rw [ewc_6]
          exact hpcl_p _ _ hwc_5
        refine g_close (w := wc_6) [8, 9, 8] rfl ewc_6 rfl ?_
        refine (show Go g κ 63 [some (.ref x), some (.int (nI i2)), some (.ref a2)] [] [v2, v5, v6, v7, [(x, .inr (0, [.ref b, .ref lp, .ref lk, .ref lr, .ref lt, .ref ls, .ref lm, .ref so, .int (nI (zBn C))]))], v4, v3, u0_57, wc_6] 100 500 from ?_)
        have hr3 : ((zPs C).set i2 ((pNo r2, pEv r2, pPk r2, pEp r2, pLf r2, pNd r2, pOn r2, pKy r2, pCh r2, some (zSs C).length) : PeS))[i2]? = some ((pNo r2, pEv r2, pPk r2, pEp r2, pLf r2, pNd r2, pOn r2, pKy r2, pCh r2, some (zSs C).length) : PeS) := set_at hr_2
        obtain ⟨hli_7, hln_7, hel_7⟩ := PersL.at (Sub.self hwc_6)
        have hE_8 := hel_7 _ _ _ ha_2 hr3
        refine g_aload_n (q := 64) B dX1_renew_63 rfl rfl (rv_r _) ?_
        refine g_callV (q := 67) (is := [8, 0]) (kc2 := 23) (ks2 := 230) B [] (ct_X4_notes_L g J (lp := lp) (pps := ps) (Ps := ((zPs C).set i2 ((pNo r2, pEv r2, pPk r2, pEp r2, pLf r2, pNd r2, pOn r2, pKy r2, pCh r2, some (zSs C).length) : PeS))) (pcp := pcap) (ix := i2) (pmd := pmd) (a := a2) (x := x) (pks := pks) (r := ((pNo r2, pEv r2, pPk r2, pEp r2, pLf r2, pNd r2, pOn r2, pKy r2, pCh r2, some (zSs C).length) : PeS)) (lk := lk) (Ks := (zKs C)) (kcap := kcap) hwc_6 hv2 (ha_2) (hr3) ((hc11 _ _ hr_2).2.1)) dX1_renew_64 rfl (rc_in B (ci := 2) rfl (k := 8) rfl (Sub.hm (hE_8) fun _ z => PersP.hm z)) rfl q2012 q2013 q2014 q90 q2015 rfl rfl moX4_notes rfl rfl (by decide) (by decide) (Nat.le_of_ble_eq_true rfl) (Nat.le_of_ble_eq_true rfl) (Nat.le_of_ble_eq_true rfl) (fun _ _ hx => noX_x hx) (fun v64 L1 hp64 => ?_)
        obtain ⟨E64, u0_64, rfl, rfl, hu0_64, hE_64⟩ := hp64
        refine (show Go g κ 67 [some (.ref x), some (.int (nI i2)), some (.ref a2)] [] [v5, v6, v7, [(x, .inr (0, [.ref b, .ref lp, .ref lk, .ref lr, .ref lt, .ref ls, .ref lm, .ref so, .int (nI (zBn C))]))], v4, v3, u0_57, u0_64, v2] 23 230 from ?_)
        have hr_9 : PersL g lp ps ((zPs C).set i2 ((pNo r2, E64, pPk r2, pEp r2, pLf r2, pNd r2, pOn r2, pKy r2, pCh r2, some (zSs C).length) : PeS)) pcap x pks pmd u0_64 := by have z := hu0_64; rw [List.set_set] at z; exact z
        have hr4 : ((zPs C).set i2 ((pNo r2, E64, pPk r2, pEp r2, pLf r2, pNd r2, pOn r2, pKy r2, pCh r2, some (zSs C).length) : PeS))[i2]? = some ((pNo r2, E64, pPk r2, pEp r2, pLf r2, pNd r2, pOn r2, pKy r2, pCh r2, some (zSs C).length) : PeS) := set_at hr_2
        obtain ⟨hli_10, hln_10, hel_10⟩ := PersL.at (Sub.self hr_9)
        have hE_11 := hel_10 _ _ _ ha_2 hr4
        refine g_aload_n (q := 68) B dX1_renew_67 rfl rfl (rv_r _) ?_
        refine g_new (q := 71) (kc2 := 22) (ks2 := 228) (fs := [.int (nI 0), .int (nI 0)]) B (ci := 10) in_X19 tyX19_ok rfl dX1_renew_68 rfl q2439 q2440 q143 (nwX19) (Nat.le_of_ble_eq_true rfl) (Nat.le_of_ble_eq_true rfl) (fun n68 => ?_)
        refine (show Go g κ 71 [some (.ref x), some (.int (nI i2)), some (.ref a2)] [.ref n68, .ref x] [v5, v6, v7, [(x, .inr (0, [.ref b, .ref lp, .ref lk, .ref lr, .ref lt, .ref ls, .ref lm, .ref so, .int (nI (zBn C))]))], v4, v3, u0_57, u0_64, v2, [(n68, .inr (10, [.int (nI 0), .int (nI 0)]))]] 22 228 from ?_)
        refine g_dup (q := 72) B dX1_renew_71 rfl rfl ?_
        refine g_aload_n (q := 73) B dX1_renew_72 rfl rfl (rv_r _) ?_
        obtain ⟨ev_12, pl_12, nd_12, ch_12, ecap_12, pcap_12, nn_12, nc_12, plc_12, md_12, hP_12, hpl_12, hec_12, hpc_12, hc_12_0, hs_12_0, hs_12_1, hs_12_2, hs_12_3⟩ := PersP.at (hE_11)
        refine g_getNM (q := 76) B (ci := 2) (k := 7) (j := 4) in_X4 rfl dX1_renew_73 rfl rfl (hc_12_0) (Nat.le_of_ble_eq_true rfl) q1903 rfl rfl ?_
        refine g_aload_n (q := 77) B dX1_renew_76 rfl rfl (rv_r _) ?_
        refine g_getNM (q := 80) B (ci := 2) (k := 7) (j := 9) in_X4 rfl dX1_renew_77 rfl rfl (hc_12_0) (Nat.le_of_ble_eq_true rfl) q1913 rfl rfl ?_
        refine g_stk (y := .int (nI ((zSs C).length))) (by rw [(show pRn ((pNo r2, E64, pPk r2, pEp r2, pLf r2, pNd r2, pOn r2, pKy r2, pCh r2, some (zSs C).length) : PeS) = some ((zSs C).length) from rfl)]; rfl) ?_
        refine g_callI (q := 83) (is := [9]) (kc2 := 22) (ks2 := 228) B [.int (nI (pLf ((pNo r2, E64, pPk r2, pEp r2, pLf r2, pNd r2, pOn r2, pKy r2, pCh r2, some (zSs C).length) : PeS))), .int (nI ((zSs C).length))] (ct_X19_init g J (a := n68) (l := pLf ((pNo r2, E64, pPk r2, pEp r2, pLf r2, pNd r2, pOn r2, pKy r2, pCh r2, some (zSs C).length) : PeS)) (s := (zSs C).length)  ) dX1_renew_80 rfl rfl q2441 q2442 q143 q2443 rfl rfl moX19_init rfl rfl (by decide) (by decide) (Nat.le_of_ble_eq_true rfl) (Nat.le_of_ble_eq_true rfl) (Nat.le_of_ble_eq_true rfl) (fun _ _ hx => noX_x hx) (fun v80 L1 hp80 => ?_)
        obtain ⟨rfl, rfl⟩ := hp80
        refine (show Go g κ 83 [some (.ref x), some (.int (nI i2)), some (.ref a2)] [.ref n68, .ref x] [v5, v6, v7, [(x, .inr (0, [.ref b, .ref lp, .ref lk, .ref lr, .ref lt, .ref ls, .ref lm, .ref so, .int (nI (zBn C))]))], v4, v3, u0_57, u0_64, v2, [(n68, .inr (10, [.int (nI (pLf ((pNo r2, E64, pPk r2, pEp r2, pLf r2, pNd r2, pOn r2, pKy r2, pCh r2, some (zSs C).length) : PeS))), .int (nI ((zSs C).length))]))]] 22 228 from ?_)
        obtain ⟨wc_13, ewc_13⟩ : ∃ w : va_W, w = ([[(n68, .inr (10, [.int (nI (pLf ((pNo r2, E64, pPk r2, pEp r2, pLf r2, pNd r2, pOn r2, pKy r2, pCh r2, some (zSs C).length) : PeS))), .int (nI ((zSs C).length))]))]] : List va_W).flatten := ⟨_, rfl⟩
        have hwc_13 : PropQ g n68 pks ((2, pLf r2, (zSs C).length) : PrS) wc_13 := by
          rw [ewc_13]
          exact Or.inr (Or.inr ⟨rfl, rfl⟩)
        refine g_close (w := wc_13) [9] rfl ewc_13 rfl ?_
        refine (show Go g κ 83 [some (.ref x), some (.int (nI i2)), some (.ref a2)] [.ref n68, .ref x] [v5, v6, v7, [(x, .inr (0, [.ref b, .ref lp, .ref lk, .ref lr, .ref lt, .ref ls, .ref lm, .ref so, .int (nI (zBn C))]))], v4, v3, u0_57, u0_64, v2, wc_13] 22 228 from ?_)
        refine g_callV (q := 86) (is := [3, 4, 7]) (kc2 := 21) (ks2 := 168) B [.ref n68] (ct_X1_proposes g J (x := x) (lk := lk) (b := b) (lp := lp) (lr := lr) (lt := lt) (ls := ls) (lm := lm) (so := so) (bxs := (zBn C)) (Rs := (zRs C)) (rcap := rcap) (pks := pks) (a := n68) (r := ((2, pLf r2, (zSs C).length) : PrS)) hv3 hwc_13 (by first | assumption | omega | rfl) (by first | assumption | omega | rfl)) dX1_renew_83 rfl (rc_at B (ci := 0) rfl (k := 3) rfl) rfl q2406 q2408 qs30 q77 q2409 rfl rfl moX1_proposes rfl rfl (by decide) (by decide) (Nat.le_of_ble_eq_true rfl) (Nat.le_of_ble_eq_true rfl) (Nat.le_of_ble_eq_true rfl) (fun _ _ hx => noX_x hx) (fun v83 L1 hp83 => ?_)
        obtain ⟨u1_83, rfl, rfl, hu1_83⟩ := hp83
        refine (show Go g κ 86 [some (.ref x), some (.int (nI i2)), some (.ref a2)] [.int (nI ((zRs C).length + 1))] [v5, v6, v7, v4, u0_57, u0_64, v2, [(x, .inr (0, [.ref b, .ref lp, .ref lk, .ref lr, .ref lt, .ref ls, .ref lm, .ref so, .int (nI (zBn C))]))], u1_83] 21 168 from ?_)
        obtain ⟨wc_14, ewc_14⟩ : ∃ w : va_W, w = ([[(x, .inr (0, [.ref b, .ref lp, .ref lk, .ref lr, .ref lt, .ref ls, .ref lm, .ref so, .int (nI (zBn C))]))], u0_57, u0_64, v2, u1_83, v4, v5, v6, v7] : List va_W).flatten := ⟨_, rfl⟩
        have hwc_14 : KgP g x ((zSs C ++ [drw (zZz C)], zBx C, lcg (zZz C), (zPs C).set i2 ((pNo r2, E64, pPk r2, pEp r2, pLf r2, pNd r2, pOn r2, pKy r2, pCh r2, some (zSs C).length) : PeS), zKs C, zRs C ++ [(2, pLf r2, (zSs C).length)], zTs C, zSt C, zMs C, zSo C, zBn C) : KsS) wc_14 := by
          rw [ewc_14]
          exact ⟨b, lp, lk, lr, lt, ls, lm, so, pcap, kcap, (if (zRs C).length = rcap then growN rcap else rcap), tcap, scap, mcap, socap, ps, pks, pmd, _, _, _, _, _, _, _, _, ⟨kc1, kc2, grow_b (by omega) kc3, kc4, kc5, kc6, kc7⟩, hu0_57, hr_9, hv2, hu1_83, hv4, hv5, hv6, hv7, rfl⟩
        refine g_close (w := wc_14) [7, 4, 4, 4, 4, 3, 0, 0, 0] rfl ewc_14 rfl ?_
        refine (show Go g κ 86 [some (.ref x), some (.int (nI i2)), some (.ref a2)] [.int (nI ((zRs C).length + 1))] [wc_14] 21 168 from ?_)
        exact g_iret B E dX1_renew_86 (⟨i2, r2, E64, _, rfl, rfl, hwc_14, rfl, hr_2, ⟨c11, c19⟩, by omega, hE_64⟩)
