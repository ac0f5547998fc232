set_option maxRecDepth 100000
def blk (T : TrS) (k : Nat) : Nat := ((List.range k).filter fun i => (T.2.1 i).isNone).length
theorem blk_l (T : TrS) (k : Nat) : blk T k ≤ k := Nat.le_trans (List.length_filter_le _ _) (by simp)
theorem blk_s {T : TrS} {k n : Nat} (h : blk T k + (if T.2.1 k = none then 1 else 0) = n) : blk T (k + 1) = n := by
  subst h; unfold blk; rw [List.range_succ, List.filter_append, List.length_append]
  cases h2 : T.2.1 k <;> simp [h2]
theorem fd_ok : ∀ l, l < 5 → ∀ m, m < 32 → vf_n32 (FP.fdiv (FP.i2f (nI m)) (FP.i2f (nI (2 * 2 ^ l - 1)))) := by unfold vf_n32; decide +kernel
theorem blk_t {T : TrS} {k : Nat} (h : T.2.1 k = none) : nI (blk T k) + nI 1 = nI (blk T (k + 1)) := by rw [nI_add, blk_s (n := blk T k + 1) (by rw [if_pos h])]
theorem blk_f {T : TrS} {k : Nat} (h : ¬ T.2.1 k = none) : nI (blk T k) + nI 0 = nI (blk T (k + 1)) := by rw [nI_add, blk_s (n := blk T k + 0) (by rw [if_neg h])]
theorem ct_X1_blankShare (g : Gv) (J : Jd g) {x : Nat} {C : KsS} {T : TrS} {w0 : va_W} (hw0 : KgP g x C w0) (hC : KsB C) (hT : zTs C ≠ [] → (zTs C)[(zTs C).length - 1]? = some T) : Ct g yX1_blankShare (ws_ yX1_blankShare cX1_blankShare 3 (some .float)) 10 10 60 [.ref x] [w0] (fun (rv_ : Option Value) (rL_ : List va_W) => ∃ (u0 : va_W), rv_ = some (.float (FP.fdiv (FP.i2f (nI (blk T (2 * 2 ^ T.1 - 1)))) (FP.i2f (nI (2 * 2 ^ T.1 - 1))))) ∧ rL_ = [u0] ∧ KgP g x C u0 ∧ (zTs C ≠ [])) (fun (rE_ : String) (rL_ : List va_W) => rL_ = [w0] ∧ ((rE_ = "java/lang/ArithmeticException" ∧ (¬ zTs C ≠ [])))) := by
  refine Ct.of "Keygrove" [some (.ref x), none, none] rfl (by decide) rfl (Nat.le_of_ble_eq_true rfl) rfl ?_
  intro κ B E tb
  have hC0 := hC
  obtain ⟨hc1, hc2, hc3, hc4, hc5, hc6, hc7, hc8, hc9, hc10, hc11⟩ := hC0
  obtain ⟨b, lp, lk, lr, lt, ls, lm, so, pcap, kcap, rcap, tcap, scap, mcap, socap, ps, pks, pmd, v0, v1, v2, v3, v4, v5, v6, v7, hcap, hv0, hv1, hv2, hv3, hv4, hv5, hv6, hv7, rfl⟩ := hw0
  refine g_open 0 rfl rfl rfl ?_
  refine (show Go g κ 0 [some (.ref x), none, none] [] [[(x, .inr (0, [.ref b, .ref lp, .ref lk, .ref lr, .ref lt, .ref ls, .ref lm, .ref so, .int (nI (zBn C))]))], v0, v1, v2, v3, v4, v5, v6, v7] 10 60 from ?_)
  refine g_aload_n (q := 1) B dX1_blankShare_0 rfl rfl (rv_r _) ?_
  refine g_get (q := 4) B (ci := 0) (k := 0) (j := 4) in_X1 rfl dX1_blankShare_1 rfl rfl (Nat.le_of_ble_eq_true rfl) q282 rfl rfl ?_
  obtain ⟨ps_1, md_1, hli_1, hln_1, hel_1⟩ := LhP.at (Sub.self hv4)
  refine g_callF (q := 9) (is := [5]) (kc2 := 10) (ks2 := 60) B [] (ct_J2_isEmpty_s g J (p := lt) (xs := ps_1) (md := md_1) (cap := tcap) (W0 := v4)  (hli_1)) dX1_blankShare_4 rfl (ci := 21) rfl (rc_in B (ci := 21) rfl (k := 5) rfl (LhP.hm hv4)) q1125 q1128 q1130 q81 q1132 q1127 q1126 q1131 q1129 q318 rfl rfl mojava_util_List_isEmpty___Z rfl rfl (by decide) (by decide) (Nat.le_of_ble_eq_true rfl) (Nat.le_of_ble_eq_true rfl) (Nat.le_of_ble_eq_true rfl) (fun _ _ hx => noX_x hx) (fun v4 L1 hp4 => ?_)
  obtain ⟨rfl, rfl⟩ := hp4
  refine (show Go g κ 9 [some (.ref x), none, none] [.int (nI (if ps_1.length = 0 then 1 else 0))] [[(x, .inr (0, [.ref b, .ref lp, .ref lk, .ref lr, .ref lt, .ref ls, .ref lm, .ref so, .int (nI (zBn C))]))], v0, v1, v2, v3, v5, v6, v7, v4] 10 60 from ?_)
  rw [hln_1.1]
  refine (show Go g κ 9 [some (.ref x), none, none] [.int (nI (if (zTs C).length = 0 then 1 else 0))] [[(x, .inr (0, [.ref b, .ref lp, .ref lk, .ref lr, .ref lt, .ref ls, .ref lm, .ref so, .int (nI (zBn C))]))], v0, v1, v2, v3, v5, v6, v7, v4] 10 60 from ?_)
  refine g_if_eq (tgt := 20) (q := 12) B dX1_blankShare_9 rfl (by decide) (bo_eq) (fun c9 => ?_) (fun c9 => ?_)
  · skip
    have hne : zTs C ≠ [] := fun z => c9 (by rw [z]; rfl)
    refine g_iconst (v := nI 0) (q := 21) B dX1_blankShare_20 rfl (by decide) ?_
    refine g_istore_n (q := 22) (lv2 := [some (.ref x), some (.int (nI 0)), none]) B dX1_blankShare_21 rfl (Nat.le_of_ble_eq_true rfl) rfl ?_
    refine g_iconst (v := nI 0) (q := 23) B dX1_blankShare_22 rfl (by decide) ?_
    refine g_istore_n (q := 24) (lv2 := [some (.ref x), some (.int (nI 0)), some (.int (nI 0))]) B dX1_blankShare_23 rfl (Nat.le_of_ble_eq_true rfl) rfl ?_
    have lp24 : ∀ (n24 : Nat) (k : Nat) , (k ≤ (2 * 2 ^ T.1 - 1)) → (2 * 2 ^ T.1 - 1) - k = n24 → Go g κ 24 [some (.ref x), some (.int (nI (blk T k))), some (.int (nI k))] [] [[(x, .inr (0, [.ref b, .ref lp, .ref lk, .ref lr, .ref lt, .ref ls, .ref lm, .ref so, .int (nI (zBn C))]))], v0, v1, v2, v3, v5, v6, v7, v4] (10 - 1) (60 - 1) := by
      intro n24
      induction n24 using Nat.strongRecOn with
      | _ n24 ih24 =>
      intro k  hk hmu24
      refine g_iload_n (q := 25) B dX1_blankShare_24 rfl rfl ?_
      refine g_aload_n (q := 26) B dX1_blankShare_25 rfl rfl (rv_r _) ?_
      refine g_callV (q := 29) (is := [0, 7]) (kc2 := 10 - 1) (ks2 := 60 - 1) B [] (ct_X1_tree g J (x := x) (lk := lk) (b := b) (lp := lp) (lr := lr) (lt := lt) (ls := ls) (lm := lm) (so := so) (bxs := zBn C) (Ts := (zTs C)) (tcap := tcap) (T := T) hv4 (hT hne)) dX1_blankShare_26 rfl (rc_at B (ci := 0) rfl (k := 0) rfl) rfl q1133 q1135 qs9 q77 q1136 rfl rfl moX1_tree rfl rfl (by decide) (by decide) (Nat.le_of_ble_eq_true rfl) (by omega) (by omega) (fun _ _ hx => noX_x hx) (fun v26 L1 hp26 => ?_)
      obtain ⟨t26, rfl, rfl, hE_26⟩ := hp26
      refine (show Go g κ 29 [some (.ref x), some (.int (nI (blk T k))), some (.int (nI k))] [.ref t26, .int (nI k)] [v0, v1, v2, v3, v5, v6, v7, [(x, .inr (0, [.ref b, .ref lp, .ref lk, .ref lr, .ref lt, .ref ls, .ref lm, .ref so, .int (nI (zBn C))]))], v4] (10 - 1) (60 - 1) from ?_)
      have hTB26 := TreeP.b2 hE_26
      have hp226 := p2_4 hTB26.1
      refine g_callV (q := 32) (is := [8]) (kc2 := 10 - 1) (ks2 := 60 - 1) B [] (ct_X10_nodes_s g J (t := t26) (T := T) (W0 := v4)  (hE_26)) dX1_blankShare_29 rfl (rc_in B (ci := 5) rfl (k := 8) rfl (Sub.hm (hE_26) fun _ z => TreeP.hm z)) rfl q1140 q1141 q1142 q123 q1143 rfl rfl moX10_nodes rfl rfl (by decide) (by decide) (Nat.le_of_ble_eq_true rfl) (by omega) (by omega) (fun _ _ hx => noX_x hx) (fun v29 L1 hp29 => ?_)
      obtain ⟨rfl, rfl⟩ := hp29
      refine (show Go g κ 32 [some (.ref x), some (.int (nI (blk T k))), some (.int (nI k))] [.int (nI (2 * 2 ^ T.1 - 1)), .int (nI k)] [v0, v1, v2, v3, v5, v6, v7, [(x, .inr (0, [.ref b, .ref lp, .ref lk, .ref lr, .ref lt, .ref ls, .ref lm, .ref so, .int (nI (zBn C))]))], v4] (10 - 1) (60 - 1) from ?_)
      refine g_icmp_ge (tgt := 60) (q := 35) B dX1_blankShare_32 rfl (by decide) (nI_leI (by omega) (by omega)) (fun c32 => ?_) (fun c32 => ?_)
      · skip
        refine g_iload_n (q := 61) B dX1_blankShare_60 rfl rfl ?_
        refine g_i2f (v := FP.i2f (nI (blk T k))) (q := 62) B dX1_blankShare_61 rfl rfl ?_
        refine g_aload_n (q := 63) B dX1_blankShare_62 rfl rfl (rv_r _) ?_
        refine g_callV (q := 66) (is := [7, 7]) (kc2 := 10 - 1) (ks2 := 60 - 1) B [] (ct_X1_tree g J (x := x) (lk := lk) (b := b) (lp := lp) (lr := lr) (lt := lt) (ls := ls) (lm := lm) (so := so) (bxs := (zBn C)) (Ts := (zTs C)) (tcap := tcap) (T := T) hv4 (hT hne)) dX1_blankShare_63 rfl (rc_at B (ci := 0) rfl (k := 7) rfl) rfl q1133 q1135 qs9 q77 q1136 rfl rfl moX1_tree rfl rfl (by decide) (by decide) (Nat.le_of_ble_eq_true rfl) (by omega) (by omega) (fun _ _ hx => noX_x hx) (fun v63 L1 hp63 => ?_)
        obtain ⟨t63, rfl, rfl, hE_63⟩ := hp63
        refine (show Go g κ 66 [some (.ref x), some (.int (nI (blk T k))), some (.int (nI k))] [.ref t63, .float (FP.i2f (nI (blk T k)))] [v0, v1, v2, v3, v5, v6, v7, [(x, .inr (0, [.ref b, .ref lp, .ref lk, .ref lr, .ref lt, .ref ls, .ref lm, .ref so, .int (nI (zBn C))]))], v4] (10 - 1) (60 - 1) from ?_)
        have hTB63 := TreeP.b2 hE_63
        have hp263 := p2_4 hTB63.1
        refine g_callV (q := 69) (is := [8]) (kc2 := 10 - 1) (ks2 := 60 - 1) B [] (ct_X10_nodes_s g J (t := t63) (T := T) (W0 := v4)  (hE_63)) dX1_blankShare_66 rfl (rc_in B (ci := 5) rfl (k := 8) rfl (Sub.hm (hE_63) fun _ z => TreeP.hm z)) rfl q1140 q1141 q1142 q123 q1143 rfl rfl moX10_nodes rfl rfl (by decide) (by decide) (Nat.le_of_ble_eq_true rfl) (by omega) (by omega) (fun _ _ hx => noX_x hx) (fun v66 L1 hp66 => ?_)
        obtain ⟨rfl, rfl⟩ := hp66
        refine (show Go g κ 69 [some (.ref x), some (.int (nI (blk T k))), some (.int (nI k))] [.int (nI (2 * 2 ^ T.1 - 1)), .float (FP.i2f (nI (blk T k)))] [v0, v1, v2, v3, v5, v6, v7, [(x, .inr (0, [.ref b, .ref lp, .ref lk, .ref lr, .ref lt, .ref ls, .ref lm, .ref so, .int (nI (zBn C))]))], v4] (10 - 1) (60 - 1) from ?_)
        refine g_i2f (v := FP.i2f (nI (2 * 2 ^ T.1 - 1))) (q := 70) B dX1_blankShare_69 rfl rfl ?_
        refine g_fdiv (v := FP.fdiv (FP.i2f (nI (blk T k))) (FP.i2f (nI (2 * 2 ^ T.1 - 1)))) (q := 71) B dX1_blankShare_70 rfl (by rw [show k = (2 * 2 ^ T.1 - 1) by omega]; exact fd_ok _ (Nat.lt_succ_of_le hTB63.1) _ (by have := blk_l T (2 * 2 ^ T.1 - 1); omega)) rfl ?_
        obtain ⟨wc_2, ewc_2⟩ : ∃ w : va_W, w = ([[(x, .inr (0, [.ref b, .ref lp, .ref lk, .ref lr, .ref lt, .ref ls, .ref lm, .ref so, .int (nI (zBn C))]))], v0, v1, v2, v3, v4, v5, v6, v7] : List va_W).flatten := ⟨_, rfl⟩
        have hwc_2 : KgP g x C wc_2 := by
          rw [ewc_2]
          exact ⟨b, lp, lk, lr, lt, ls, lm, so, pcap, kcap, rcap, tcap, scap, mcap, socap, ps, pks, pmd, _, _, _, _, _, _, _, _, hcap, hv0, hv1, hv2, hv3, hv4, hv5, hv6, hv7, rfl⟩
        refine g_close (w := wc_2) [7, 0, 0, 0, 0, 3, 0, 0, 0] rfl ewc_2 rfl ?_
        refine (show Go g κ 71 [some (.ref x), some (.int (nI (blk T k))), some (.int (nI k))] [.float (FP.fdiv (FP.i2f (nI (blk T k))) (FP.i2f (nI (2 * 2 ^ T.1 - 1))))] [wc_2] (10 - 1) (60 - 1) from ?_)
        exact g_fret B E dX1_blankShare_71 (⟨_, by rw [show k = (2 * 2 ^ T.1 - 1) by omega], rfl, hwc_2, hne⟩)
      · skip
        refine g_iload_n (q := 36) B dX1_blankShare_35 rfl rfl ?_
        refine g_aload_n (q := 37) B dX1_blankShare_36 rfl rfl (rv_r _) ?_
        refine g_callV (q := 40) (is := [7, 7]) (kc2 := 10 - 1) (ks2 := 60 - 1) B [] (ct_X1_tree g J (x := x) (lk := lk) (b := b) (lp := lp) (lr := lr) (lt := lt) (ls := ls) (lm := lm) (so := so) (bxs := (zBn C)) (Ts := (zTs C)) (tcap := tcap) (T := T) hv4 (hT hne)) dX1_blankShare_37 rfl (rc_at B (ci := 0) rfl (k := 7) rfl) rfl q1133 q1135 qs9 q77 q1136 rfl rfl moX1_tree rfl rfl (by decide) (by decide) (Nat.le_of_ble_eq_true rfl) (by omega) (by omega) (fun _ _ hx => noX_x hx) (fun v37 L1 hp37 => ?_)
        obtain ⟨t37, rfl, rfl, hE_37⟩ := hp37
        refine (show Go g κ 40 [some (.ref x), some (.int (nI (blk T k))), some (.int (nI k))] [.ref t37, .int (nI (blk T k))] [v0, v1, v2, v3, v5, v6, v7, [(x, .inr (0, [.ref b, .ref lp, .ref lk, .ref lr, .ref lt, .ref ls, .ref lm, .ref so, .int (nI (zBn C))]))], v4] (10 - 1) (60 - 1) from ?_)
        have hTB37 := TreeP.b2 hE_37
        have hp237 := p2_4 hTB37.1
        refine g_iload_n (q := 41) B dX1_blankShare_40 rfl rfl ?_
        refine g_callV (q := 44) (is := [8]) (kc2 := 10 - 1) (ks2 := 60 - 1) B [.int (nI k)] (ct_X10_isBlank_s g J (t := t37) (T := T) (n := k) (W0 := v4)  (hE_37) (by first | assumption | omega | rfl)) dX1_blankShare_41 rfl (rc_in B (ci := 5) rfl (k := 8) rfl (Sub.hm (hE_37) fun _ z => TreeP.hm z)) rfl q1144 q1145 q1146 q123 q1147 rfl rfl moX10_isBlank rfl rfl (by decide) (by decide) (Nat.le_of_ble_eq_true rfl) (by omega) (by omega) (fun _ _ hx => noX_x hx) (fun v41 L1 hp41 => ?_)
        obtain ⟨rfl, rfl⟩ := hp41
        refine (show Go g κ 44 [some (.ref x), some (.int (nI (blk T k))), some (.int (nI k))] [.int (nI (if T.2.1 k = none then 1 else 0)), .int (nI (blk T k))] [v0, v1, v2, v3, v5, v6, v7, [(x, .inr (0, [.ref b, .ref lp, .ref lk, .ref lr, .ref lt, .ref ls, .ref lm, .ref so, .int (nI (zBn C))]))], v4] (10 - 1) (60 - 1) from ?_)
        refine g_if_eq (tgt := 51) (q := 47) B dX1_blankShare_44 rfl (by decide) (bo_eq) (fun c44 => ?_) (fun c44 => ?_)
        · skip
          refine g_iconst (v := nI 0) (q := 52) B dX1_blankShare_51 rfl (by decide) ?_
          refine g_iadd (v := nI (blk T (k + 1))) (q := 53) B dX1_blankShare_52 rfl (by first | exact blk_t (by simpa using c44) | exact blk_f (by simpa using c44)) ?_
          refine g_istore_n (q := 54) (lv2 := [some (.ref x), some (.int (nI (blk T (k + 1)))), some (.int (nI k))]) B dX1_blankShare_53 rfl (Nat.le_of_ble_eq_true rfl) rfl ?_
          refine g_iinc (v := nI (k + 1)) (q := 57) (lv2 := [some (.ref x), some (.int (nI (blk T (k + 1)))), some (.int (nI (k + 1)))]) B dX1_blankShare_54 rfl rfl (nI_add _ 1) (Nat.le_of_ble_eq_true rfl) rfl ?_
          refine g_goto (tgt := 24) B dX1_blankShare_57 (by decide) ?_
          refine g_pk [7, 0, 0, 0, 0, 0, 0, 0, 0] rfl rfl ?_
          refine (show Go g κ 24 [some (.ref x), some (.int (nI (blk T (k + 1)))), some (.int (nI (k + 1)))] [] [[(x, .inr (0, [.ref b, .ref lp, .ref lk, .ref lr, .ref lt, .ref ls, .ref lm, .ref so, .int (nI (zBn C))]))], v0, v1, v2, v3, v5, v6, v7, v4] (10 - 1) (60 - 1) from ?_)
          exact ih24 _ (by omega) (k + 1) (by omega) rfl
        · skip
          have c44 := Classical.not_not.mp c44
          refine g_iconst (v := nI 1) (q := 48) B dX1_blankShare_47 rfl (by decide) ?_
          refine g_goto (tgt := 52) B dX1_blankShare_48 (by decide) ?_
          refine g_iadd (v := nI (blk T (k + 1))) (q := 53) B dX1_blankShare_52 rfl (by first | exact blk_t (by simpa using c44) | exact blk_f (by simpa using c44)) ?_
          refine g_istore_n (q := 54) (lv2 := [some (.ref x), some (.int (nI (blk T (k + 1)))), some (.int (nI k))]) B dX1_blankShare_53 rfl (Nat.le_of_ble_eq_true rfl) rfl ?_
          refine g_iinc (v := nI (k + 1)) (q := 57) (lv2 := [some (.ref x), some (.int (nI (blk T (k + 1)))), some (.int (nI (k + 1)))]) B dX1_blankShare_54 rfl rfl (nI_add _ 1) (Nat.le_of_ble_eq_true rfl) rfl ?_
          refine g_goto (tgt := 24) B dX1_blankShare_57 (by decide) ?_
          refine g_pk [7, 0, 0, 0, 0, 0, 0, 0, 0] rfl rfl ?_
          refine (show Go g κ 24 [some (.ref x), some (.int (nI (blk T (k + 1)))), some (.int (nI (k + 1)))] [] [[(x, .inr (0, [.ref b, .ref lp, .ref lk, .ref lr, .ref lt, .ref ls, .ref lm, .ref so, .int (nI (zBn C))]))], v0, v1, v2, v3, v5, v6, v7, v4] (10 - 1) (60 - 1) from ?_)
          exact ih24 _ (by omega) (k + 1) (by omega) rfl
    refine g_room (kc2 := 10 - 1) (ks2 := 60 - 1) (by omega) (by omega) ?_
    exact lp24 _ 0 (Nat.zero_le _) rfl
  · skip
    have c9 := Classical.not_not.mp c9
    obtain ⟨wc_3, ewc_3⟩ : ∃ w : va_W, w = ([[(x, .inr (0, [.ref b, .ref lp, .ref lk, .ref lr, .ref lt, .ref ls, .ref lm, .ref so, .int (nI (zBn C))]))], v0, v1, v2, v3, v4, v5, v6, v7] : List va_W).flatten := ⟨_, rfl⟩
    have hwc_3 : KgP g x C wc_3 := by
      rw [ewc_3]
      exact ⟨b, lp, lk, lr, lt, ls, lm, so, pcap, kcap, rcap, tcap, scap, mcap, socap, ps, pks, pmd, _, _, _, _, _, _, _, _, hcap, hv0, hv1, hv2, hv3, hv4, hv5, hv6, hv7, rfl⟩
    refine g_close (w := wc_3) [0, 0, 0, 0, 0, 3, 0, 0, 0] rfl ewc_3 rfl ?_
    refine (show Go g κ 12 [some (.ref x), none, none] [] [wc_3] 10 60 from ?_)
    exact g_throw0 B E tb J (cls := "java/lang/ArithmeticException") (names := ["java/lang/RuntimeException", "java/lang/Exception"]) (ik := 499) (ic := 501) (by unfold ThrowOk; decide +kernel) dX1_blankShare_12 dX1_blankShare_15 dX1_blankShare_16 dX1_blankShare_19 rfl (by decide) (by decide) (by decide) (by omega) (by omega) (⟨by rw [ewc_3], rfl, fun z => z (List.length_eq_zero_iff.mp c9)⟩)
