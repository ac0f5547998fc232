set_option maxRecDepth 100000
theorem ct_X1_goesAlong (g : Gv) (J : Jd g) {x : Nat} {lk : Nat} {b : Nat} {lp : Nat} {lr : Nat} {lt : Nat} {ls : Nat} {lm : Nat} {so : Nat} {bxs : Nat} {ss : List Sec} {bx : List (Nat × Nat)} {z : Int32} {c : Nat} {r : ChS} {s2 : List Sec} {i : Nat} {w1 : va_W} {w2 : va_W} (hw1 : BookP g b ss bx z w1) (hw2 : ChnP g c r w2) (hl : ss.length < 999) (hr1 : r.1 < ss.length) (hr2 : r.2.1 < 99) (hf : frm ss (r.1, none, 8) = (s2, i)) : Ct g yX1_goesAlong (ws_ yX1_goesAlong cX1_goesAlong 2 none) 13 (30 + 13 * (PhS s2 - PhS ss)) (200 + 55 * (PhS s2 - PhS ss)) [.ref x, .ref c] [[(x, .inr (0, [.ref b, .ref lp, .ref lk, .ref lr, .ref lt, .ref ls, .ref lm, .ref so, .int (nI bxs)]))], w1, w2] (fun (rv_ : Option Value) (rL_ : List va_W) => ∃ (u1 : va_W) (u2 : va_W), rv_ = none ∧ rL_ = [[(x, .inr (0, [.ref b, .ref lp, .ref lk, .ref lr, .ref lt, .ref ls, .ref lm, .ref so, .int (nI bxs)]))], u1, u2] ∧ BookP g b s2 bx z u1 ∧ ChnP g c ((i, r.2.1 + 1, r.2.2) : ChS) u2 ∧ (PhS ss ≤ PhS s2 ∧ ss.length ≤ s2.length ∧ s2.length ≤ ss.length + 1 ∧ i < s2.length)) noX := by
  refine Ct.of "Keygrove" [some (.ref x), some (.ref c)] rfl (by decide) rfl (Nat.le_of_ble_eq_true rfl) rfl ?_
  intro κ B E tb
  obtain ⟨lf_c, nl_c, v0_c, hC_c, hv0_c, rfl⟩ := hw2
  refine g_open 2 rfl rfl rfl ?_
  refine (show Go g κ 0 [some (.ref x), some (.ref c)] [] [[(x, .inr (0, [.ref b, .ref lp, .ref lk, .ref lr, .ref lt, .ref ls, .ref lm, .ref so, .int (nI bxs)]))], w1, [(c, .inr (7, [.int (nI r.1), .int (nI r.2.1), .ref lf_c]))], v0_c] (30 + 13 * (PhS s2 - PhS ss)) (200 + 55 * (PhS s2 - PhS ss)) from ?_)
  refine g_aload_n (q := 1) B dX1_goesAlong_0 rfl rfl (rv_r _) ?_
  refine g_aload_n (q := 2) B dX1_goesAlong_1 rfl rfl (rv_r _) ?_
  refine g_get (q := 5) B (ci := 0) (k := 0) (j := 0) in_X1 rfl dX1_goesAlong_2 rfl rfl (Nat.le_of_ble_eq_true rfl) q277 rfl rfl ?_
  refine g_aload_n (q := 6) B dX1_goesAlong_5 rfl rfl (rv_r _) ?_
  refine g_getN (q := 9) B (ci := 7) (k := 2) (j := 0) in_X12 rfl dX1_goesAlong_6 rfl rfl (Nat.le_of_ble_eq_true rfl) q2191 rfl rfl ?_
  refine g_bipush (v := nI 8) (q := 11) B dX1_goesAlong_9 rfl (by decide) ?_
  refine g_callV (q := 14) (is := [1]) (kc2 := (30 + 13 * (PhS s2 - PhS ss)) - (20 + 13 * (PhS s2 - PhS ss))) (ks2 := (200 + 55 * (PhS s2 - PhS ss)) - (170 + 55 * (PhS s2 - PhS ss))) B [.int (nI r.1), .int (nI 8)] (ct_X2_from_p g J (b := b) (ss := ss) (bx := bx) (z := z) (one := r.1) (l := 8) (s2 := s2) (i := i) hw1 (hr1) (hl) (by decide) (hf)) dX1_goesAlong_11 rfl (rc_in B (ci := 1) rfl (k := 1) rfl (BookP.hm hw1)) rfl q1229 q1230 q1231 q78 q1232 rfl rfl moX2_from rfl rfl (by decide) (by decide) (Nat.le_of_ble_eq_true rfl) (by omega) (by omega) (fun _ _ hx => noX_x hx) (fun v11 L1 hp11 => ?_)
  obtain ⟨u0_11, rfl, rfl, hu0_11, hph_11⟩ := hp11
  refine (show Go g κ 14 [some (.ref x), some (.ref c)] [.int (nI i), .ref c] [[(x, .inr (0, [.ref b, .ref lp, .ref lk, .ref lr, .ref lt, .ref ls, .ref lm, .ref so, .int (nI bxs)]))], [(c, .inr (7, [.int (nI r.1), .int (nI r.2.1), .ref lf_c]))], v0_c, u0_11] ((30 + 13 * (PhS s2 - PhS ss)) - (20 + 13 * (PhS s2 - PhS ss))) ((200 + 55 * (PhS s2 - PhS ss)) - (170 + 55 * (PhS s2 - PhS ss))) from ?_)
  refine g_putN (q := 17) (L2 := [[(x, .inr (0, [.ref b, .ref lp, .ref lk, .ref lr, .ref lt, .ref ls, .ref lm, .ref so, .int (nI bxs)]))], [(c, .inr (7, [.int (nI i), .int (nI r.2.1), .ref lf_c]))], v0_c, u0_11]) B (ci := 7) (k := 1) (j := 0) in_X12 tyX12 tyX12_ok nmX12 rfl dX1_goesAlong_14 rfl rfl (Nat.le_of_ble_eq_true rfl) q2191 rfl rfl rfl rfl (Nat.le_of_ble_eq_true rfl) rfl ?_
  refine g_aload_n (q := 18) B dX1_goesAlong_17 rfl rfl (rv_r _) ?_
  refine g_dup (q := 19) B dX1_goesAlong_18 rfl rfl ?_
  refine g_getN (q := 22) B (ci := 7) (k := 1) (j := 1) in_X12 rfl dX1_goesAlong_19 rfl rfl (Nat.le_of_ble_eq_true rfl) q2192 rfl rfl ?_
  refine g_iconst (v := nI 1) (q := 23) B dX1_goesAlong_22 rfl (by decide) ?_
  refine g_iadd (v := nI (r.2.1 + 1)) (q := 24) B dX1_goesAlong_23 rfl (nI_add _ _) ?_
  refine g_putN (q := 27) (L2 := [[(x, .inr (0, [.ref b, .ref lp, .ref lk, .ref lr, .ref lt, .ref ls, .ref lm, .ref so, .int (nI bxs)]))], [(c, .inr (7, [.int (nI i), .int (nI (r.2.1 + 1)), .ref lf_c]))], v0_c, u0_11]) B (ci := 7) (k := 1) (j := 1) in_X12 tyX12 tyX12_ok nmX12 rfl dX1_goesAlong_24 rfl rfl (Nat.le_of_ble_eq_true rfl) q2192 rfl rfl rfl rfl (Nat.le_of_ble_eq_true rfl) rfl ?_
  obtain ⟨wc_1, ewc_1⟩ : ∃ w : va_W, w = ([[(c, .inr (7, [.int (nI i), .int (nI (r.2.1 + 1)), .ref lf_c]))], v0_c] : List va_W).flatten := ⟨_, rfl⟩
  have hwc_1 : ChnP g c ((i, r.2.1 + 1, r.2.2) : ChS) wc_1 := by
    rw [ewc_1]
    exact ⟨lf_c, nl_c, _, ⟨(show i < 1000 by omega), (show r.2.1 + 1 < 100 by omega), hC_c.2.2⟩, hv0_c, rfl⟩
  refine g_close (w := wc_1) [1, 1] rfl ewc_1 rfl ?_
  refine (show Go g κ 27 [some (.ref x), some (.ref c)] [] [[(x, .inr (0, [.ref b, .ref lp, .ref lk, .ref lr, .ref lt, .ref ls, .ref lm, .ref so, .int (nI bxs)]))], u0_11, wc_1] ((30 + 13 * (PhS s2 - PhS ss)) - (20 + 13 * (PhS s2 - PhS ss))) ((200 + 55 * (PhS s2 - PhS ss)) - (170 + 55 * (PhS s2 - PhS ss))) from ?_)
  exact g_vret B E dX1_goesAlong_27 (⟨u0_11, wc_1, rfl, rfl, hu0_11, hwc_1, (by first | assumption | omega | rfl | simp_all)⟩)
