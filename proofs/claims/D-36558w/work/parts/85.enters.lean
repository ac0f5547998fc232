set_option maxRecDepth 100000
theorem ct_add_TreeL (g : Gv) (J : Jd g) {p : Nat} {rs : List TrS} {cap : Nat} {a : Nat} {r : TrS} {mc : Nat} {ms : Nat} {w0 : va_W} {w1 : va_W} (hw0 : LhP g (TreeP g) p rs cap w0) (hw1 : TreeP g a r w1) (hcap : cap < 8388608) (hm : rs.length = cap → 1 ≤ mc ∧ growN cap ≤ ms) : Ct g yJ2_add (ws_ yJ2_add cJ2_add 2 (some .boolean)) 6 mc ms [.ref p, .ref a] [w0, w1] (fun (rv_ : Option Value) (rL_ : List va_W) => ∃ (u0 : va_W), rv_ = some (.int (nI 1)) ∧ rL_ = [u0] ∧ LhP g (TreeP g) p (rs ++ [r]) (if rs.length = cap then growN cap else cap) u0) noX := LhP.push hw0 (fun _ _ _ z => TreeP.vd z) J hw1 hcap hm
theorem chS_b {T : TrS} {sec : Nat} {ss : List Sec} : ∀ k, k ≤ 16 → (chS T sec ss k).1.length ≤ 1000 → ∀ i c, (chS T sec ss k).2 i = some c → i < 16 ∧ ChB c
  | 0, _, _, i, c, h => by cases h
  | k + 1, hk, hl, i, c, h => by
    have hm := chS_mo T sec ss k
    have hl2 := hl
    rw [chS] at h hl
    split at h
    · exact chS_b k (by omega) (by omega) i c h
    · rename_i hn
      rw [if_neg hn] at hl
      have h : fup (chS T sec ss k).2 k (some ((frm (chS T sec ss k).1 (sec, none, 100 + k)).2, 0, fun _ => none)) i = some c := h
      unfold fup at h
      split at h
      · rename_i e
        cases h
        have := @frm_lt (chS T sec ss k).1 (sec, none, 100 + k)
        exact ⟨by omega, by show _ < 1000; have hl : (frm (chS T sec ss k).1 (sec, none, 100 + k)).1.length ≤ 1000 := hl; omega, (show 0 < 100 by decide), fun i n h => by cases h⟩
      · exact chS_b k (by omega) (by omega) i c h
theorem chS_y {T : TrS} {sec : Nat} {ss : List Sec} {k : Nat} (h : T.2.2.2 k ≠ none) : chS T sec ss (k + 1) = ((frm (chS T sec ss k).1 (sec, none, 100 + k)).1, fup (chS T sec ss k).2 k (some ((frm (chS T sec ss k).1 (sec, none, 100 + k)).2, 0, fun _ => none))) := by rw [chS, if_neg h]
theorem chS_n {T : TrS} {sec : Nat} {ss : List Sec} {k : Nat} (h : T.2.2.2 k = none) : chS T sec ss (k + 1) = chS T sec ss k := by rw [chS, if_pos h]
theorem moX10_leafOf : Mo yX10_leafOf 1 := by
  refine ⟨by decide, by decide, by decide +kernel⟩
theorem moX2_from : Mo yX2_from 2 := by
  refine ⟨by decide, by decide, by decide +kernel⟩
theorem moX4_drops : Mo yX4_drops 1 := by
  refine ⟨by decide, by decide, by decide +kernel⟩
theorem moX4_notes : Mo yX4_notes 0 := by
  refine ⟨by decide, by decide, by decide +kernel⟩
theorem nwX12 : ∀ j, j < 3 → defaultValue (tyX12 j) = vp_V [.int (nI 0), .int (nI 0), .null] j := by
  intro j hj
  match j, hj with
  | 0, _ => rfl
  | 1, _ => rfl
  | 2, _ => rfl
  | n + 3, hj => exact absurd hj (by omega)
theorem moX12_init : Mo yX12_init 1 := by
  refine ⟨by decide, by decide, by decide +kernel⟩
theorem moJ10_put : Mo yJ10_put 2 := by
  refine ⟨by decide, by decide, by decide +kernel⟩
theorem ct_X4_enters (g : Gv) (J : Jd g) {a : Nat} {x : Nat} {pks : List Nat} {r : PeS} {lk : Nat} {Ks : List PkS} {kcap : Nat} {b : Nat} {ss : List Sec} {bx : List (Nat × Nat)} {z : Int32} {Ts : List TrS} {tcap : Nat} {lp : Nat} {lr : Nat} {lt : Nat} {ls : Nat} {lm : Nat} {so : Nat} {bxs : Nat} {nx : Nat} {sec : Nat} {T : TrS} {lf : Nat} {s1 : List Sec} {on : Nat} {s2 : List Sec} {ky : Nat} {TA : Nat} {w0 : va_W} {w1 : va_W} {w3 : va_W} {w4 : va_W} (hw0 : PersP g a x pks r w0) (hw1 : LoP g (PackP g) lk pks Ks kcap w1) (hw3 : LhP g (TreeP g) lt Ts tcap w3) (hw4 : BookP g b ss bx z w4) (hTs : Ts[nx]? = some T) (hlf : lof T (pNo r) = some lf) (hsec : sec < ss.length) (hf1 : frm ss (sec, none, 5) = (s1, on)) (hf2 : frm s1 (sec, none, 6) = (s2, ky)) (hfl : (chS T sec s2 (2 ^ T.1)).1.length ≤ 998) (hTA : PhS (chS T sec s2 (2 ^ T.1)).1 ≤ TA) (hnx : nx < 100) (hkb : ∀ i ∈ pPk r, i < Ks.length) : Ct g yX4_enters (ws_ yX4_enters cX4_enters 5 none) 13 (500 + 13 * (TA - PhS ss)) (4500 + 55 * (TA - PhS ss)) [.ref a, .int (nI nx), .int (nI sec)] [w0, w1, [(x, .inr (0, [.ref b, .ref lp, .ref lk, .ref lr, .ref lt, .ref ls, .ref lm, .ref so, .int (nI bxs)]))], w3, w4] (fun (rv_ : Option Value) (rL_ : List va_W) => ∃ (E : Nat → Bool) (u0 : va_W) (u4 : va_W), rv_ = none ∧ rL_ = [u0, w1, [(x, .inr (0, [.ref b, .ref lp, .ref lk, .ref lr, .ref lt, .ref ls, .ref lm, .ref so, .int (nI bxs)]))], w3, u4] ∧ PersP g a x pks ((pNo r, E, pPk r, some nx, lf, drpF T (pNd r), on, ky, (chS T sec s2 (2 ^ T.1)).2, none) : PeS) u0 ∧ BookP g b ((chS T sec s2 (2 ^ T.1)).1) bx z u4 ∧ (∀ x, E x = true ↔ pEv r x = true ∨ helP Ks ((pNo r, pEv r, pPk r, some nx, lf, drpF T (pNd r), on, ky, (chS T sec s2 (2 ^ T.1)).2, none) : PeS) x)) noX := by
  refine Ct.of "Keygrove$Person" [some (.ref a), some (.int (nI nx)), some (.int (nI sec)), none, none] rfl (by decide) rfl (Nat.le_of_ble_eq_true rfl) rfl ?_
  intro κ B E tb
  obtain ⟨ev, pl, nd, ch, ecap, pcap, nn, nc, plc, md, v0, v1, v2, v3, hP, hpl, hec, hpc, hv0, hv1, hv2, hv3, rfl⟩ := hw0
  refine g_open 0 rfl rfl rfl ?_
  refine (show Go g κ 0 [some (.ref a), some (.int (nI nx)), some (.int (nI sec)), none, none] [] [w1, [(x, .inr (0, [.ref b, .ref lp, .ref lk, .ref lr, .ref lt, .ref ls, .ref lm, .ref so, .int (nI bxs)]))], w3, w4, [(a, .inr (2, [.int (nI (pNo r)), .ref ev, .ref pl, .int (oI (pEp r)), .int (nI (pLf r)), .ref nd, .int (nI (pOn r)), .int (nI (pKy r)), .ref ch, .int (oI (pRn r)), .ref x]))], v0, v1, v2, v3] (500 + 13 * (TA - PhS ss)) (4500 + 55 * (TA - PhS ss)) from ?_)
  have hP0 := hP
  obtain ⟨hp0, hp1, hp2, hp3, hp4, hp5, hp6, hp7, hp8⟩ := hP0
  have hg1 := Ph_fr hf1
  have hg2 := Ph_fr hf2
  have hg3 := chS_m T sec s2 (Nat.zero_le (2 ^ T.1))
  have hg4 : PhS s2 ≤ PhS (chS T sec s2 (2 ^ T.1)).1 ∧ s2.length ≤ (chS T sec s2 (2 ^ T.1)).1.length := hg3
  refine g_aload_n (q := 1) B dX4_enters_0 rfl rfl (rv_r _) ?_
  refine g_iload_n (q := 2) B dX4_enters_1 rfl rfl ?_
  refine g_put (q := 5) (L2 := [w1, [(x, .inr (0, [.ref b, .ref lp, .ref lk, .ref lr, .ref lt, .ref ls, .ref lm, .ref so, .int (nI bxs)]))], w3, w4, [(a, .inr (2, [.int (nI (pNo r)), .ref ev, .ref pl, .int (nI nx), .int (nI (pLf r)), .ref nd, .int (nI (pOn r)), .int (nI (pKy r)), .ref ch, .int (oI (pRn r)), .ref x]))], v0, v1, v2, v3]) B (ci := 2) (k := 4) (j := 3) in_X4 tyX4 tyX4_ok nmX4 rfl dX4_enters_2 rfl rfl (Nat.le_of_ble_eq_true rfl) q1900 rfl rfl rfl rfl (Nat.le_of_ble_eq_true rfl) rfl ?_
  refine g_aload_n (q := 6) B dX4_enters_5 rfl rfl (rv_r _) ?_
  refine g_iconst (v := -1) (q := 7) B dX4_enters_6 rfl (by decide) ?_
  refine g_put (q := 10) (L2 := [w1, [(x, .inr (0, [.ref b, .ref lp, .ref lk, .ref lr, .ref lt, .ref ls, .ref lm, .ref so, .int (nI bxs)]))], w3, w4, [(a, .inr (2, [.int (nI (pNo r)), .ref ev, .ref pl, .int (nI nx), .int (nI (pLf r)), .ref nd, .int (nI (pOn r)), .int (nI (pKy r)), .ref ch, .int (-1), .ref x]))], v0, v1, v2, v3]) B (ci := 2) (k := 4) (j := 9) in_X4 tyX4 tyX4_ok nmX4 rfl dX4_enters_7 rfl rfl (Nat.le_of_ble_eq_true rfl) q1912 rfl rfl rfl rfl (Nat.le_of_ble_eq_true rfl) rfl ?_
  refine g_aload_n (q := 11) B dX4_enters_10 rfl rfl (rv_r _) ?_
  refine g_get (q := 14) B (ci := 2) (k := 4) (j := 10) in_X4 rfl dX4_enters_11 rfl rfl (Nat.le_of_ble_eq_true rfl) q1914 rfl rfl ?_
  refine g_getN (q := 17) B (ci := 0) (k := 1) (j := 4) in_X1 rfl dX4_enters_14 rfl rfl (Nat.le_of_ble_eq_true rfl) q281 rfl rfl ?_
  refine g_iload_n (q := 18) B dX4_enters_17 rfl rfl ?_
  obtain ⟨ps_1, md_1, hli_1, hln_1, hel_1⟩ := LhP.at (Sub.self hw3)
  obtain ⟨x18, hx18⟩ := get_ex (xs := ps_1) (i := nx) (by have := get_lt2 (show Ts[nx]? = some T from hTs); have := hln_1.1; omega)
  have hE_2 := hel_1 _ _ _ hx18 (show Ts[nx]? = some T from hTs)
  refine g_callF (q := 23) (is := [2]) (kc2 := 500 + 13 * (TA - PhS ss)) (ks2 := 4500 + 55 * (TA - PhS ss)) B [.int (nI nx)] (ct_J2_get_s g J (p := lt) (xs := ps_1) (md := md_1) (cap := tcap) (i := nx) (x := x18) (W0 := w3)  (hli_1) (hx18)) dX4_enters_18 rfl (ci := 21) rfl (rc_in B (ci := 21) rfl (k := 2) rfl (LhP.hm hw3)) q2173 q1093 q1095 q81 q1097 q1092 q1091 q1096 q1094 q318 rfl rfl mojava_util_List_get__I_Ljava_lang_Object_ rfl rfl (by decide) (by decide) (Nat.le_of_ble_eq_true rfl) (by omega) (by omega) (fun _ _ hx => noX_x hx) (fun v18 L1 hp18 => ?_)
  obtain ⟨rfl, rfl⟩ := hp18
  refine (show Go g κ 23 [some (.ref a), some (.int (nI nx)), some (.int (nI sec)), none, none] [.ref x18] [w1, [(x, .inr (0, [.ref b, .ref lp, .ref lk, .ref lr, .ref lt, .ref ls, .ref lm, .ref so, .int (nI bxs)]))], w4, [(a, .inr (2, [.int (nI (pNo r)), .ref ev, .ref pl, .int (nI nx), .int (nI (pLf r)), .ref nd, .int (nI (pOn r)), .int (nI (pKy r)), .ref ch, .int (-1), .ref x]))], v0, v1, v2, v3, w3] (500 + 13 * (TA - PhS ss)) (4500 + 55 * (TA - PhS ss)) from ?_)
  refine g_castRS (ci := 5) (q := 26) B rfl (rc_in B (ci := 5) rfl (k := 8) rfl (Sub.hm (hE_2) fun _ z => TreeP.hm z)) dX4_enters_23 rfl q2174 ?_
  refine g_astore_n (q := 27) (lv2 := [some (.ref a), some (.int (nI nx)), some (.int (nI sec)), some (.ref x18), none]) B dX4_enters_26 rfl (Nat.le_of_ble_eq_true rfl) (rv_r _) rfl ?_
  have hTB := TreeP.b2 (hE_2)
  have hp2t := p2_4 hTB.1
  have hlfb := lof_o hlf
  refine g_aload_n (q := 28) B dX4_enters_27 rfl rfl (rv_r _) ?_
  refine g_aload_n (q := 29) B dX4_enters_28 rfl rfl (rv_r _) ?_
  refine g_aload_n (q := 30) B dX4_enters_29 rfl rfl (rv_r _) ?_
  refine g_get (q := 33) B (ci := 2) (k := 3) (j := 0) in_X4 rfl dX4_enters_30 rfl rfl (Nat.le_of_ble_eq_true rfl) q1894 rfl rfl ?_
  refine g_callV (q := 36) (is := [8]) (kc2 := 500 + 13 * (TA - PhS ss)) (ks2 := 4500 + 55 * (TA - PhS ss)) B [.int (nI (pNo r))] (ct_X10_leafOf_s g J (t := x18) (T := T) (p := pNo r) (W0 := w3)  (hE_2) (by omega)) dX4_enters_33 rfl (rc_in B (ci := 5) rfl (k := 8) rfl (Sub.hm (hE_2) fun _ z => TreeP.hm z)) rfl q2175 q1221 q1222 q123 q1223 rfl rfl moX10_leafOf rfl rfl (by decide) (by decide) (Nat.le_of_ble_eq_true rfl) (by omega) (by omega) (fun _ _ hx => noX_x hx) (fun v33 L1 hp33 => ?_)
  obtain ⟨rfl, rfl⟩ := hp33
  refine (show Go g κ 36 [some (.ref a), some (.int (nI nx)), some (.int (nI sec)), some (.ref x18), none] [.int (oI (lof T (pNo r))), .ref a] [w1, [(x, .inr (0, [.ref b, .ref lp, .ref lk, .ref lr, .ref lt, .ref ls, .ref lm, .ref so, .int (nI bxs)]))], w4, [(a, .inr (2, [.int (nI (pNo r)), .ref ev, .ref pl, .int (nI nx), .int (nI (pLf r)), .ref nd, .int (nI (pOn r)), .int (nI (pKy r)), .ref ch, .int (-1), .ref x]))], v0, v1, v2, v3, w3] (500 + 13 * (TA - PhS ss)) (4500 + 55 * (TA - PhS ss)) from ?_)
  refine g_stk (y := .int (nI lf)) (by rw [hlf]; rfl) ?_
  refine g_put (q := 39) (L2 := [w1, [(x, .inr (0, [.ref b, .ref lp, .ref lk, .ref lr, .ref lt, .ref ls, .ref lm, .ref so, .int (nI bxs)]))], w4, [(a, .inr (2, [.int (nI (pNo r)), .ref ev, .ref pl, .int (nI nx), .int (nI lf), .ref nd, .int (nI (pOn r)), .int (nI (pKy r)), .ref ch, .int (-1), .ref x]))], v0, v1, v2, v3, w3]) B (ci := 2) (k := 3) (j := 4) in_X4 tyX4 tyX4_ok nmX4 rfl dX4_enters_36 rfl rfl (Nat.le_of_ble_eq_true rfl) q1902 rfl rfl rfl rfl (Nat.le_of_ble_eq_true rfl) rfl ?_
  refine g_aload_n (q := 40) B dX4_enters_39 rfl rfl (rv_r _) ?_
  refine g_aload_n (q := 41) B dX4_enters_40 rfl rfl (rv_r _) ?_
  refine g_get (q := 44) B (ci := 2) (k := 3) (j := 10) in_X4 rfl dX4_enters_41 rfl rfl (Nat.le_of_ble_eq_true rfl) q1914 rfl rfl ?_
  refine g_getN (q := 47) B (ci := 0) (k := 1) (j := 0) in_X1 rfl dX4_enters_44 rfl rfl (Nat.le_of_ble_eq_true rfl) q276 rfl rfl ?_
  refine g_iload_n (q := 48) B dX4_enters_47 rfl rfl ?_
  refine g_iconst (v := nI 5) (q := 49) B dX4_enters_48 rfl (by decide) ?_
  refine g_callV (q := 52) (is := [2]) (kc2 := 480 + 13 * (TA - PhS s1)) (ks2 := 4330 + 55 * (TA - PhS s1)) B [.int (nI sec), .int (nI 5)] (ct_X2_from_p g J (b := b) (ss := ss) (bx := bx) (z := z) (one := sec) (l := 5) (s2 := s1) (i := on) hw4 (by first | assumption | omega | rfl) (by first | assumption | omega | rfl) (by first | assumption | omega | rfl) (hf1)) dX4_enters_49 rfl (rc_in B (ci := 1) rfl (k := 2) rfl (BookP.hm hw4)) rfl q2176 q1230 q1231 q78 q1232 rfl rfl moX2_from rfl rfl (by decide) (by decide) (Nat.le_of_ble_eq_true rfl) (by omega) (by omega) (fun _ _ hx => noX_x hx) (fun v49 L1 hp49 => ?_)
  obtain ⟨u0_49, rfl, rfl, hu0_49, hph_49⟩ := hp49
  refine (show Go g κ 52 [some (.ref a), some (.int (nI nx)), some (.int (nI sec)), some (.ref x18), none] [.int (nI on), .ref a] [w1, [(x, .inr (0, [.ref b, .ref lp, .ref lk, .ref lr, .ref lt, .ref ls, .ref lm, .ref so, .int (nI bxs)]))], [(a, .inr (2, [.int (nI (pNo r)), .ref ev, .ref pl, .int (nI nx), .int (nI lf), .ref nd, .int (nI (pOn r)), .int (nI (pKy r)), .ref ch, .int (-1), .ref x]))], v0, v1, v2, v3, w3, u0_49] (480 + 13 * (TA - PhS s1)) (4330 + 55 * (TA - PhS s1)) from ?_)
  refine g_put (q := 55) (L2 := [w1, [(x, .inr (0, [.ref b, .ref lp, .ref lk, .ref lr, .ref lt, .ref ls, .ref lm, .ref so, .int (nI bxs)]))], [(a, .inr (2, [.int (nI (pNo r)), .ref ev, .ref pl, .int (nI nx), .int (nI lf), .ref nd, .int (nI on), .int (nI (pKy r)), .ref ch, .int (-1), .ref x]))], v0, v1, v2, v3, w3, u0_49]) B (ci := 2) (k := 2) (j := 6) in_X4 tyX4 tyX4_ok nmX4 rfl dX4_enters_52 rfl rfl (Nat.le_of_ble_eq_true rfl) q1906 rfl rfl rfl rfl (Nat.le_of_ble_eq_true rfl) rfl ?_
  refine g_aload_n (q := 56) B dX4_enters_55 rfl rfl (rv_r _) ?_
  refine g_aload_n (q := 57) B dX4_enters_56 rfl rfl (rv_r _) ?_
  refine g_get (q := 60) B (ci := 2) (k := 2) (j := 10) in_X4 rfl dX4_enters_57 rfl rfl (Nat.le_of_ble_eq_true rfl) q1914 rfl rfl ?_
  refine g_getN (q := 63) B (ci := 0) (k := 1) (j := 0) in_X1 rfl dX4_enters_60 rfl rfl (Nat.le_of_ble_eq_true rfl) q276 rfl rfl ?_
  refine g_iload_n (q := 64) B dX4_enters_63 rfl rfl ?_
  refine g_bipush (v := nI 6) (q := 66) B dX4_enters_64 rfl (by decide) ?_
  refine g_callV (q := 69) (is := [8]) (kc2 := 460 + 13 * (TA - PhS s2)) (ks2 := 4160 + 55 * (TA - PhS s2)) B [.int (nI sec), .int (nI 6)] (ct_X2_from_p g J (b := b) (ss := s1) (bx := bx) (z := z) (one := sec) (l := 6) (s2 := s2) (i := ky) hu0_49 (by first | assumption | omega | rfl) (by first | assumption | omega | rfl) (by first | assumption | omega | rfl) (hf2)) dX4_enters_66 rfl (rc_in B (ci := 1) rfl (k := 8) rfl (BookP.hm hu0_49)) rfl q2176 q1230 q1231 q78 q1232 rfl rfl moX2_from rfl rfl (by decide) (by decide) (Nat.le_of_ble_eq_true rfl) (by omega) (by omega) (fun _ _ hx => noX_x hx) (fun v66 L1 hp66 => ?_)
  obtain ⟨u0_66, rfl, rfl, hu0_66, hph_66⟩ := hp66
  refine (show Go g κ 69 [some (.ref a), some (.int (nI nx)), some (.int (nI sec)), some (.ref x18), none] [.int (nI ky), .ref a] [w1, [(x, .inr (0, [.ref b, .ref lp, .ref lk, .ref lr, .ref lt, .ref ls, .ref lm, .ref so, .int (nI bxs)]))], [(a, .inr (2, [.int (nI (pNo r)), .ref ev, .ref pl, .int (nI nx), .int (nI lf), .ref nd, .int (nI on), .int (nI (pKy r)), .ref ch, .int (-1), .ref x]))], v0, v1, v2, v3, w3, u0_66] (460 + 13 * (TA - PhS s2)) (4160 + 55 * (TA - PhS s2)) from ?_)
  refine g_put (q := 72) (L2 := [w1, [(x, .inr (0, [.ref b, .ref lp, .ref lk, .ref lr, .ref lt, .ref ls, .ref lm, .ref so, .int (nI bxs)]))], [(a, .inr (2, [.int (nI (pNo r)), .ref ev, .ref pl, .int (nI nx), .int (nI lf), .ref nd, .int (nI on), .int (nI ky), .ref ch, .int (-1), .ref x]))], v0, v1, v2, v3, w3, u0_66]) B (ci := 2) (k := 2) (j := 7) in_X4 tyX4 tyX4_ok nmX4 rfl dX4_enters_69 rfl rfl (Nat.le_of_ble_eq_true rfl) q1908 rfl rfl rfl rfl (Nat.le_of_ble_eq_true rfl) rfl ?_
  refine g_aload_n (q := 73) B dX4_enters_72 rfl rfl (rv_r _) ?_
  refine g_get (q := 76) B (ci := 2) (k := 2) (j := 8) in_X4 rfl dX4_enters_73 rfl rfl (Nat.le_of_ble_eq_true rfl) q1910 rfl rfl ?_
  refine g_callV (q := 79) (is := [6]) (kc2 := 460 + 13 * (TA - PhS s2)) (ks2 := 4160 + 55 * (TA - PhS s2)) B [] (ct_CmP_clear g J (t := ch) (F := (pCh r)) (n := nc) hv3 ) dX4_enters_76 rfl (rc_in B (ci := 27) rfl (k := 6) rfl (MoP.hm hv3)) rfl q2177 q2178 q2179 q91 q2180 rfl rfl moJ10_clear rfl rfl (by decide) (by decide) (Nat.le_of_ble_eq_true rfl) (by omega) (by omega) (fun _ _ hx => noX_x hx) (fun v76 L1 hp76 => ?_)
  obtain ⟨u0_76, rfl, rfl, hu0_76⟩ := hp76
  refine (show Go g κ 79 [some (.ref a), some (.int (nI nx)), some (.int (nI sec)), some (.ref x18), none] [] [w1, [(x, .inr (0, [.ref b, .ref lp, .ref lk, .ref lr, .ref lt, .ref ls, .ref lm, .ref so, .int (nI bxs)]))], [(a, .inr (2, [.int (nI (pNo r)), .ref ev, .ref pl, .int (nI nx), .int (nI lf), .ref nd, .int (nI on), .int (nI ky), .ref ch, .int (-1), .ref x]))], v0, v1, v2, w3, u0_66, u0_76] (460 + 13 * (TA - PhS s2)) (4160 + 55 * (TA - PhS s2)) from ?_)
  refine g_iconst (v := nI 0) (q := 80) B dX4_enters_79 rfl (by decide) ?_
  refine g_istore (q := 82) (lv2 := [some (.ref a), some (.int (nI nx)), some (.int (nI sec)), some (.ref x18), some (.int (nI 0))]) B dX4_enters_80 rfl (Nat.le_of_ble_eq_true rfl) rfl ?_
  have lp82 : ∀ (n82 : Nat) (k : Nat) (nk : Nat) (l82_7 : va_W) (l82_8 : va_W), BookP g b ((chS T sec s2 k).1) bx z l82_7 → MoP g (ChnP g) ch ((chS T sec s2 k).2) nk l82_8 → (k ≤ 2 ^ T.1) → 2 ^ T.1 - k = n82 → Go g κ 82 [some (.ref a), some (.int (nI nx)), some (.int (nI sec)), some (.ref x18), some (.int (nI k))] [] [w1, [(x, .inr (0, [.ref b, .ref lp, .ref lk, .ref lr, .ref lt, .ref ls, .ref lm, .ref so, .int (nI bxs)]))], [(a, .inr (2, [.int (nI (pNo r)), .ref ev, .ref pl, .int (nI nx), .int (nI lf), .ref nd, .int (nI on), .int (nI ky), .ref ch, .int (-1), .ref x]))], v0, v1, v2, w3, l82_7, l82_8] (79 + 23 * (16 - k) + 13 * (TA - PhS (chS T sec s2 k).1)) (400 + 200 * (16 - k) + 55 * (TA - PhS (chS T sec s2 k).1)) := by
    intro n82
    induction n82 using Nat.strongRecOn with
    | _ n82 ih82 =>
    intro k nk l82_7 l82_8 hl82_7 hl82_8 hk hmu82
    have hgk := chS_m T sec s2 hk
    have hgs := chS_mo T sec s2 k
    have hgz : PhS s2 ≤ PhS (chS T sec s2 k).1 ∧ s2.length ≤ (chS T sec s2 k).1.length := chS_m T sec s2 (Nat.zero_le k)
    refine g_iload (q := 84) B dX4_enters_82 rfl rfl ?_
    refine g_aload_n (q := 85) B dX4_enters_84 rfl rfl (rv_r _) ?_
    obtain ⟨as_3, al_3, ap_3, fs_3, fl_3, fp_3, hB_3, hfs_3, hfl_3, hfp_3, hc_3_0, hc_3_1, hc_3_2, hc_3_3⟩ := TreeP.at (hE_2)
    refine g_getNM (q := 88) B (ci := 5) (k := 6) (j := 0) in_X10 rfl dX4_enters_85 rfl rfl (hc_3_0) (Nat.le_of_ble_eq_true rfl) q2036 rfl rfl ?_
    refine g_icmp_ge (tgt := 144) (q := 91) B dX4_enters_88 rfl (by decide) (nI_leI (by omega) (by omega)) (fun c88 => ?_) (fun c88 => ?_)
    · skip
      have hke : k = 2 ^ T.1 := by omega
      subst hke
      refine (show Go g κ 144 [some (.ref a), some (.int (nI nx)), some (.int (nI sec)), some (.ref x18), some (.int (nI (2 ^ T.1)))] [] [w1, [(x, .inr (0, [.ref b, .ref lp, .ref lk, .ref lr, .ref lt, .ref ls, .ref lm, .ref so, .int (nI bxs)]))], [(a, .inr (2, [.int (nI (pNo r)), .ref ev, .ref pl, .int (nI nx), .int (nI lf), .ref nd, .int (nI on), .int (nI ky), .ref ch, .int (-1), .ref x]))], v0, v1, v2, w3, l82_7, l82_8] (79 + 23 * (16 - (2 ^ T.1)) + 13 * (TA - PhS (chS T sec s2 (2 ^ T.1)).1)) (400 + 200 * (16 - (2 ^ T.1)) + 55 * (TA - PhS (chS T sec s2 (2 ^ T.1)).1)) from ?_)
      obtain ⟨wc_4, ewc_4⟩ : ∃ w : va_W, w = ([[(a, .inr (2, [.int (nI (pNo r)), .ref ev, .ref pl, .int (nI nx), .int (nI lf), .ref nd, .int (nI on), .int (nI ky), .ref ch, .int (-1), .ref x]))], v0, v1, v2, l82_8] : List va_W).flatten := ⟨_, rfl⟩
      have hwc_4 : PersP g a x pks ((pNo r, pEv r, pPk r, some nx, lf, pNd r, on, ky, (chS T sec s2 (2 ^ T.1)).2, none) : PeS) wc_4 := by
        rw [ewc_4]
        exact ⟨ev, pl, nd, ch, ecap, pcap, nn, nk, plc, md, _, _, _, _, (⟨hp0, by show lf < 16; omega, by show on < 1000; omega, by show ky < 1000; omega, fun n h => by cases h; exact hnx, (fun n h => by cases h), hp6, chS_b _ (by omega) (by omega), hp8⟩), hpl, hec, hpc, hv0, hv1, hv2, hl82_8, rfl⟩
      refine g_close (w := wc_4) [2, 2, 2, 2, 4] rfl ewc_4 rfl ?_
      refine (show Go g κ 144 [some (.ref a), some (.int (nI nx)), some (.int (nI sec)), some (.ref x18), some (.int (nI (2 ^ T.1)))] [] [w1, [(x, .inr (0, [.ref b, .ref lp, .ref lk, .ref lr, .ref lt, .ref ls, .ref lm, .ref so, .int (nI bxs)]))], w3, l82_7, wc_4] (79 + 23 * (16 - (2 ^ T.1)) + 13 * (TA - PhS (chS T sec s2 (2 ^ T.1)).1)) (400 + 200 * (16 - (2 ^ T.1)) + 55 * (TA - PhS (chS T sec s2 (2 ^ T.1)).1)) from ?_)
      refine g_aload_n (q := 145) B dX4_enters_144 rfl rfl (rv_r _) ?_
      refine g_aload_n (q := 146) B dX4_enters_145 rfl rfl (rv_r _) ?_
      refine g_callV (q := 149) (is := [4, 2]) (kc2 := (79 + 23 * (16 - (2 ^ T.1)) + 13 * (TA - PhS (chS T sec s2 (2 ^ T.1)).1)) - 2) (ks2 := (400 + 200 * (16 - (2 ^ T.1)) + 55 * (TA - PhS (chS T sec s2 (2 ^ T.1)).1)) - 5) B [.ref x18] (ct_X4_drops g J (a := a) (x := x) (pks := pks) (r := ((pNo r, pEv r, pPk r, some nx, lf, pNd r, on, ky, (chS T sec s2 (2 ^ T.1)).2, none) : PeS)) (t := x18) (T := T) (wt := w3) hwc_4 (hE_2)) dX4_enters_146 rfl (rc_in B (ci := 2) rfl (k := 4) rfl (PersP.hm hwc_4)) rfl q2204 q2206 qs23 q90 q2207 rfl rfl moX4_drops rfl rfl (by decide) (by decide) (Nat.le_of_ble_eq_true rfl) (by omega) (by omega) (fun _ _ hx => noX_x hx) (fun v146 L1 hp146 => ?_)
      obtain ⟨u0_146, rfl, rfl, hu0_146⟩ := hp146
      refine (show Go g κ 149 [some (.ref a), some (.int (nI nx)), some (.int (nI sec)), some (.ref x18), some (.int (nI (2 ^ T.1)))] [] [w1, [(x, .inr (0, [.ref b, .ref lp, .ref lk, .ref lr, .ref lt, .ref ls, .ref lm, .ref so, .int (nI bxs)]))], l82_7, u0_146, w3] ((79 + 23 * (16 - (2 ^ T.1)) + 13 * (TA - PhS (chS T sec s2 (2 ^ T.1)).1)) - 2) ((400 + 200 * (16 - (2 ^ T.1)) + 55 * (TA - PhS (chS T sec s2 (2 ^ T.1)).1)) - 5) from ?_)
      have hr_5 : PersP g a x pks ((pNo r, pEv r, pPk r, some nx, lf, drpF T (pNd r), on, ky, (chS T sec s2 (2 ^ T.1)).2, none) : PeS) u0_146 := hu0_146
      refine g_aload_n (q := 150) B dX4_enters_149 rfl rfl (rv_r _) ?_
      refine g_callV (q := 153) (is := [3, 0]) (kc2 := (79 + 23 * (16 - (2 ^ T.1)) + 13 * (TA - PhS (chS T sec s2 (2 ^ T.1)).1)) - 79) (ks2 := (400 + 200 * (16 - (2 ^ T.1)) + 55 * (TA - PhS (chS T sec s2 (2 ^ T.1)).1)) - 275) B [] (ct_X4_notes g J (a := a) (x := x) (pks := pks) (r := ((pNo r, pEv r, pPk r, some nx, lf, drpF T (pNd r), on, ky, (chS T sec s2 (2 ^ T.1)).2, none) : PeS)) (lk := lk) (Ks := Ks) (kcap := kcap) hr_5 hw1 (by first | assumption | omega | rfl)) dX4_enters_150 rfl (rc_in B (ci := 2) rfl (k := 3) rfl (PersP.hm hr_5)) rfl q2318 q2013 q2014 q90 q2015 rfl rfl moX4_notes rfl rfl (by decide) (by decide) (Nat.le_of_ble_eq_true rfl) (by omega) (by omega) (fun _ _ hx => noX_x hx) (fun v150 L1 hp150 => ?_)
      obtain ⟨E150, u0_150, rfl, rfl, hu0_150, hE_150⟩ := hp150
      refine (show Go g κ 153 [some (.ref a), some (.int (nI nx)), some (.int (nI sec)), some (.ref x18), some (.int (nI (2 ^ T.1)))] [] [[(x, .inr (0, [.ref b, .ref lp, .ref lk, .ref lr, .ref lt, .ref ls, .ref lm, .ref so, .int (nI bxs)]))], l82_7, w3, u0_150, w1] ((79 + 23 * (16 - (2 ^ T.1)) + 13 * (TA - PhS (chS T sec s2 (2 ^ T.1)).1)) - 79) ((400 + 200 * (16 - (2 ^ T.1)) + 55 * (TA - PhS (chS T sec s2 (2 ^ T.1)).1)) - 275) from ?_)
      have hr_6 : PersP g a x pks ((pNo r, E150, pPk r, some nx, lf, drpF T (pNd r), on, ky, (chS T sec s2 (2 ^ T.1)).2, none) : PeS) u0_150 := hu0_150
      refine g_pk [3, 3, 0, 1, 0] rfl rfl ?_
      refine (show Go g κ 153 [some (.ref a), some (.int (nI nx)), some (.int (nI sec)), some (.ref x18), some (.int (nI (2 ^ T.1)))] [] [u0_150, w1, [(x, .inr (0, [.ref b, .ref lp, .ref lk, .ref lr, .ref lt, .ref ls, .ref lm, .ref so, .int (nI bxs)]))], w3, l82_7] ((79 + 23 * (16 - (2 ^ T.1)) + 13 * (TA - PhS (chS T sec s2 (2 ^ T.1)).1)) - 79) ((400 + 200 * (16 - (2 ^ T.1)) + 55 * (TA - PhS (chS T sec s2 (2 ^ T.1)).1)) - 275) from ?_)
      exact g_vret B E dX4_enters_153 (⟨E150, _, _, rfl, rfl, hr_6, hl82_7, hE_150⟩)
    · skip
      refine g_aload_n (q := 92) B dX4_enters_91 rfl rfl (rv_r _) ?_
      refine g_getNM (q := 95) B (ci := 5) (k := 6) (j := 3) in_X10 rfl dX4_enters_92 rfl rfl (hc_3_0) (Nat.le_of_ble_eq_true rfl) q2044 rfl rfl ?_
      refine g_iload (q := 97) B dX4_enters_95 rfl rfl ?_
      refine g_ialdM (v := oI (T.2.2.2 k)) (q := 98) B (k := 6) dX4_enters_97 rfl rfl (hc_3_3) (vp_in_nI (by omega) (by omega)) (by rw [nI_clamp (by omega)]; exact hfp_3 _ (by omega)) ?_
      refine g_iconst (v := -1) (q := 99) B dX4_enters_98 rfl (by decide) ?_
      refine g_icmp_eq (tgt := 138) (q := 102) B dX4_enters_99 rfl (by decide) (oI_n ((fun n h => by have := hB_3.2.2.2 _ _ h; omega))) (fun c99 => ?_) (fun c99 => ?_)
      · skip
        have hcn := chS_n (sec := sec) (ss := s2) c99
        have hr_7 : BookP g b ((chS T sec s2 (k + 1)).1) bx z l82_7 := by rw [hcn]; exact hl82_7
        have hr_8 : MoP g (ChnP g) ch ((chS T sec s2 (k + 1)).2) nk l82_8 := by rw [hcn]; exact hl82_8
        refine g_iinc (v := nI (k + 1)) (q := 141) (lv2 := [some (.ref a), some (.int (nI nx)), some (.int (nI sec)), some (.ref x18), some (.int (nI (k + 1)))]) B dX4_enters_138 rfl rfl (nI_add _ 1) (Nat.le_of_ble_eq_true rfl) rfl ?_
        refine g_goto (tgt := 82) B dX4_enters_141 (by decide) ?_
        refine g_room (kc2 := 79 + 23 * (16 - (k + 1)) + 13 * (TA - PhS (chS T sec s2 (k + 1)).1)) (ks2 := 400 + 200 * (16 - (k + 1)) + 55 * (TA - PhS (chS T sec s2 (k + 1)).1)) (by omega) (by omega) ?_
        exact ih82 _ (by omega) (k + 1) nk l82_7 l82_8 hr_7 hr_8 (by first | assumption | omega | rfl) rfl
      · skip
        obtain ⟨v99, ev99⟩ := Option.ne_none_iff_exists'.mp c99
        have hcn := chS_y (sec := sec) (ss := s2) c99
        have hgt := chS_m T sec s2 (show k + 1 ≤ 2 ^ T.1 by omega)
        have hgf : frm (chS T sec s2 k).1 (sec, none, 100 + k) = ((chS T sec s2 (k + 1)).1, (frm (chS T sec s2 k).1 (sec, none, 100 + k)).2) := by rw [hcn]
        have hgi := (Ph_fr hgf).2.2.2
        refine g_aload_n (q := 103) B dX4_enters_102 rfl rfl (rv_r _) ?_
        refine g_get (q := 106) B (ci := 2) (k := 2) (j := 8) in_X4 rfl dX4_enters_103 rfl rfl (Nat.le_of_ble_eq_true rfl) q1910 rfl rfl ?_
        refine g_iload (q := 108) B dX4_enters_106 rfl rfl ?_
        refine g_callS (q := 111) (is := []) (kc2 := 79 + 23 * (16 - k) + 13 * (TA - PhS (chS T sec s2 k).1)) (ks2 := 400 + 200 * (16 - k) + 55 * (TA - PhS (chS T sec s2 k).1)) B [.int (nI k)] (ct_J26_valueOf_k g J (k := k)  (by omega)) dX4_enters_108 rfl q2181 q686 q111 q687 rfl rfl moJ26_valueOf rfl rfl (by decide) (by decide) (Nat.le_of_ble_eq_true rfl) (by omega) (by omega) (fun _ _ hx => noX_x hx) (fun v108 L1 hp108 => ?_)
        obtain ⟨rfl, rfl⟩ := hp108
        refine (show Go g κ 111 [some (.ref a), some (.int (nI nx)), some (.int (nI sec)), some (.ref x18), some (.int (nI k))] [.ref (kI g k), .ref ch] [w1, [(x, .inr (0, [.ref b, .ref lp, .ref lk, .ref lr, .ref lt, .ref ls, .ref lm, .ref so, .int (nI bxs)]))], [(a, .inr (2, [.int (nI (pNo r)), .ref ev, .ref pl, .int (nI nx), .int (nI lf), .ref nd, .int (nI on), .int (nI ky), .ref ch, .int (-1), .ref x]))], v0, v1, v2, w3, l82_7, l82_8] (79 + 23 * (16 - k) + 13 * (TA - PhS (chS T sec s2 k).1)) (400 + 200 * (16 - k) + 55 * (TA - PhS (chS T sec s2 k).1)) from ?_)
        refine g_new (q := 114) (kc2 := (79 + 23 * (16 - k) + 13 * (TA - PhS (chS T sec s2 k).1)) - 1) (ks2 := (400 + 200 * (16 - k) + 55 * (TA - PhS (chS T sec s2 k).1)) - 3) (fs := [.int (nI 0), .int (nI 0), .null]) B (ci := 7) in_X12 tyX12_ok rfl dX4_enters_111 rfl q1210 q2182 q132 (nwX12) (by omega) (by omega) (fun n111 => ?_)
        refine (show Go g κ 114 [some (.ref a), some (.int (nI nx)), some (.int (nI sec)), some (.ref x18), some (.int (nI k))] [.ref n111, .ref (kI g k), .ref ch] [w1, [(x, .inr (0, [.ref b, .ref lp, .ref lk, .ref lr, .ref lt, .ref ls, .ref lm, .ref so, .int (nI bxs)]))], [(a, .inr (2, [.int (nI (pNo r)), .ref ev, .ref pl, .int (nI nx), .int (nI lf), .ref nd, .int (nI on), .int (nI ky), .ref ch, .int (-1), .ref x]))], v0, v1, v2, w3, l82_7, l82_8, [(n111, .inr (7, [.int (nI 0), .int (nI 0), .null]))]] ((79 + 23 * (16 - k) + 13 * (TA - PhS (chS T sec s2 k).1)) - 1) ((400 + 200 * (16 - k) + 55 * (TA - PhS (chS T sec s2 k).1)) - 3) from ?_)
        refine g_dup (q := 115) B dX4_enters_114 rfl rfl ?_
        refine g_aload_n (q := 116) B dX4_enters_115 rfl rfl (rv_r _) ?_
        refine g_get (q := 119) B (ci := 2) (k := 2) (j := 10) in_X4 rfl dX4_enters_116 rfl rfl (Nat.le_of_ble_eq_true rfl) q1914 rfl rfl ?_
        refine g_getN (q := 122) B (ci := 0) (k := 1) (j := 0) in_X1 rfl dX4_enters_119 rfl rfl (Nat.le_of_ble_eq_true rfl) q276 rfl rfl ?_
        refine g_iload_n (q := 123) B dX4_enters_122 rfl rfl ?_
        refine g_bipush (v := nI 100) (q := 125) B dX4_enters_123 rfl (by decide) ?_
        refine g_iload (q := 127) B dX4_enters_125 rfl rfl ?_
        refine g_iadd (v := nI (100 + k)) (q := 128) B dX4_enters_127 rfl (nI_add _ _) ?_
        refine g_callV (q := 131) (is := [7]) (kc2 := 81 + 23 * (15 - k) + 13 * (TA - PhS (chS T sec s2 (k + 1)).1)) (ks2 := 420 + 200 * (15 - k) + 55 * (TA - PhS (chS T sec s2 (k + 1)).1)) B [.int (nI sec), .int (nI (100 + k))] (ct_X2_from_p g J (b := b) (ss := (chS T sec s2 k).1) (bx := bx) (z := z) (one := sec) (l := 100 + k) (s2 := (chS T sec s2 (k + 1)).1) (i := (frm (chS T sec s2 k).1 (sec, none, 100 + k)).2) hl82_7 (by omega) (by omega) (Or.inr ⟨by omega, by omega⟩) (hgf)) dX4_enters_128 rfl (rc_in B (ci := 1) rfl (k := 7) rfl (BookP.hm hl82_7)) rfl q2176 q1230 q1231 q78 q1232 rfl rfl moX2_from rfl rfl (by decide) (by decide) (Nat.le_of_ble_eq_true rfl) (by omega) (by omega) (fun _ _ hx => noX_x hx) (fun v128 L1 hp128 => ?_)
        obtain ⟨u0_128, rfl, rfl, hu0_128, hph_128⟩ := hp128
        refine (show Go g κ 131 [some (.ref a), some (.int (nI nx)), some (.int (nI sec)), some (.ref x18), some (.int (nI k))] [.int (nI ((frm (chS T sec s2 k).1 (sec, none, 100 + k)).2)), .ref n111, .ref n111, .ref (kI g k), .ref ch] [w1, [(x, .inr (0, [.ref b, .ref lp, .ref lk, .ref lr, .ref lt, .ref ls, .ref lm, .ref so, .int (nI bxs)]))], [(a, .inr (2, [.int (nI (pNo r)), .ref ev, .ref pl, .int (nI nx), .int (nI lf), .ref nd, .int (nI on), .int (nI ky), .ref ch, .int (-1), .ref x]))], v0, v1, v2, w3, l82_8, [(n111, .inr (7, [.int (nI 0), .int (nI 0), .null]))], u0_128] (81 + 23 * (15 - k) + 13 * (TA - PhS (chS T sec s2 (k + 1)).1)) (420 + 200 * (15 - k) + 55 * (TA - PhS (chS T sec s2 (k + 1)).1)) from ?_)
        refine g_callI (q := 134) (is := [8]) (kc2 := (81 + 23 * (15 - k) + 13 * (TA - PhS (chS T sec s2 (k + 1)).1)) - 1) (ks2 := (420 + 200 * (15 - k) + 55 * (TA - PhS (chS T sec s2 (k + 1)).1)) - 9) B [.int (nI ((frm (chS T sec s2 k).1 (sec, none, 100 + k)).2))] (ct_X12_init g J (a := n111) (s := ((frm (chS T sec s2 k).1 (sec, none, 100 + k)).2))  (by omega)) dX4_enters_131 rfl rfl q2183 q2184 q132 q2185 rfl rfl moX12_init rfl rfl (by decide) (by decide) (Nat.le_of_ble_eq_true rfl) (by omega) (by omega) (fun _ _ hx => noX_x hx) (fun v131 L1 hp131 => ?_)
        obtain ⟨u0_131, rfl, rfl, hu0_131⟩ := hp131
        refine (show Go g κ 134 [some (.ref a), some (.int (nI nx)), some (.int (nI sec)), some (.ref x18), some (.int (nI k))] [.ref n111, .ref (kI g k), .ref ch] [w1, [(x, .inr (0, [.ref b, .ref lp, .ref lk, .ref lr, .ref lt, .ref ls, .ref lm, .ref so, .int (nI bxs)]))], [(a, .inr (2, [.int (nI (pNo r)), .ref ev, .ref pl, .int (nI nx), .int (nI lf), .ref nd, .int (nI on), .int (nI ky), .ref ch, .int (-1), .ref x]))], v0, v1, v2, w3, l82_8, u0_128, u0_131] ((81 + 23 * (15 - k) + 13 * (TA - PhS (chS T sec s2 (k + 1)).1)) - 1) ((420 + 200 * (15 - k) + 55 * (TA - PhS (chS T sec s2 (k + 1)).1)) - 9) from ?_)
        refine g_callV (q := 137) (is := [7, 8]) (kc2 := (81 + 23 * (15 - k) + 13 * (TA - PhS (chS T sec s2 (k + 1)).1)) - 2) (ks2 := (420 + 200 * (15 - k) + 55 * (TA - PhS (chS T sec s2 (k + 1)).1)) - 15) B [.ref (kI g k), .ref n111] (ct_CmP_put g J (t := ch) (F := (chS T sec s2 k).2) (n := nk) (k := k) (a := n111) (r := ((((frm (chS T sec s2 k).1 (sec, none, 100 + k)).2), 0, fun _ => none) : ChS)) hl82_8 hu0_131 (by first | assumption | omega | rfl)) dX4_enters_134 rfl (rc_in B (ci := 27) rfl (k := 7) rfl (MoP.hm hl82_8)) rfl q2203 q2085 q2086 q91 q2087 rfl rfl moJ10_put rfl rfl (by decide) (by decide) (Nat.le_of_ble_eq_true rfl) (by omega) (by omega) (fun _ _ hx => noX_x hx) (fun v134 L1 hp134 => ?_)
        obtain ⟨o134, u0_134, rfl, rfl, hu0_134⟩ := hp134
        refine (show Go g κ 137 [some (.ref a), some (.int (nI nx)), some (.int (nI sec)), some (.ref x18), some (.int (nI k))] [va_rf o134] [w1, [(x, .inr (0, [.ref b, .ref lp, .ref lk, .ref lr, .ref lt, .ref ls, .ref lm, .ref so, .int (nI bxs)]))], [(a, .inr (2, [.int (nI (pNo r)), .ref ev, .ref pl, .int (nI nx), .int (nI lf), .ref nd, .int (nI on), .int (nI ky), .ref ch, .int (-1), .ref x]))], v0, v1, v2, w3, u0_128, u0_134] ((81 + 23 * (15 - k) + 13 * (TA - PhS (chS T sec s2 (k + 1)).1)) - 2) ((420 + 200 * (15 - k) + 55 * (TA - PhS (chS T sec s2 (k + 1)).1)) - 15) from ?_)
        have hr_9 : MoP g (ChnP g) ch ((chS T sec s2 (k + 1)).2) (nk + (if ((chS T sec s2 k).2) k = none then 1 else 0)) u0_134 := by rw [hcn]; exact hu0_134
        refine g_pop (q := 138) B dX4_enters_137 rfl (rv_c (rv_o _)) ?_
        refine g_iinc (v := nI (k + 1)) (q := 141) (lv2 := [some (.ref a), some (.int (nI nx)), some (.int (nI sec)), some (.ref x18), some (.int (nI (k + 1)))]) B dX4_enters_138 rfl rfl (nI_add _ 1) (Nat.le_of_ble_eq_true rfl) rfl ?_
        refine g_goto (tgt := 82) B dX4_enters_141 (by decide) ?_
        refine g_room (kc2 := 79 + 23 * (16 - (k + 1)) + 13 * (TA - PhS (chS T sec s2 (k + 1)).1)) (ks2 := 400 + 200 * (16 - (k + 1)) + 55 * (TA - PhS (chS T sec s2 (k + 1)).1)) (by omega) (by omega) ?_
        exact ih82 _ (by omega) (k + 1) (nk + (if ((chS T sec s2 k).2) k = none then 1 else 0)) u0_128 u0_134 hu0_128 hr_9 (by first | assumption | omega | rfl) rfl
  have hz0 : PhS (chS T sec s2 0).1 = PhS s2 := rfl
  have hr_10 : BookP g b ((chS T sec s2 0).1) bx z u0_66 := hu0_66
  have hr_11 : MoP g (ChnP g) ch ((chS T sec s2 0).2) 0 u0_76 := hu0_76
  refine g_room (kc2 := 79 + 23 * (16 - 0) + 13 * (TA - PhS (chS T sec s2 0).1)) (ks2 := 400 + 200 * (16 - 0) + 55 * (TA - PhS (chS T sec s2 0).1)) (by omega) (by omega) ?_
  exact lp82 _ 0 0 u0_66 u0_76 hr_10 hr_11 (Nat.zero_le _) rfl
theorem ct_X4_enters_L (g : Gv) (J : Jd g) {lp : Nat} {pps : List Nat} {Ps : List PeS} {pcp : Nat} {ix : Nat} {pmd : Int32} {a : Nat} {x : Nat} {pks : List Nat} {r : PeS} {lk : Nat} {Ks : List PkS} {kcap : Nat} {b : Nat} {ss : List Sec} {bx : List (Nat × Nat)} {z : Int32} {Ts : List TrS} {tcap : Nat} {lp : Nat} {lr : Nat} {lt : Nat} {ls : Nat} {lm : Nat} {so : Nat} {bxs : Nat} {nx : Nat} {sec : Nat} {T : TrS} {lf : Nat} {s1 : List Sec} {on : Nat} {s2 : List Sec} {ky : Nat} {TA : Nat} {w0 : va_W} {w1 : va_W} {w3 : va_W} {w4 : va_W} (hw0 : PersL g lp pps Ps pcp x pks pmd w0) (hw1 : LoP g (PackP g) lk pks Ks kcap w1) (hw3 : LhP g (TreeP g) lt Ts tcap w3) (hw4 : BookP g b ss bx z w4) (ha : pps[ix]? = some a) (hr : Ps[ix]? = some r) (hTs : Ts[nx]? = some T) (hlf : lof T (pNo r) = some lf) (hsec : sec < ss.length) (hf1 : frm ss (sec, none, 5) = (s1, on)) (hf2 : frm s1 (sec, none, 6) = (s2, ky)) (hfl : (chS T sec s2 (2 ^ T.1)).1.length ≤ 998) (hTA : PhS (chS T sec s2 (2 ^ T.1)).1 ≤ TA) (hnx : nx < 100) (hkb : ∀ i ∈ pPk r, i < Ks.length) : Ct g yX4_enters (ws_ yX4_enters cX4_enters 5 none) 13 (500 + 13 * (TA - PhS ss)) (4500 + 55 * (TA - PhS ss)) [.ref a, .int (nI nx), .int (nI sec)] [w0, w1, [(x, .inr (0, [.ref b, .ref lp, .ref lk, .ref lr, .ref lt, .ref ls, .ref lm, .ref so, .int (nI bxs)]))], w3, w4] (fun (rv_ : Option Value) (rL_ : List va_W) => ∃ (E : Nat → Bool) (u0 : va_W) (u4 : va_W), rv_ = none ∧ rL_ = [u0, w1, [(x, .inr (0, [.ref b, .ref lp, .ref lk, .ref lr, .ref lt, .ref ls, .ref lm, .ref so, .int (nI bxs)]))], w3, u4] ∧ PersL g lp pps (Ps.set ix ((pNo r, E, pPk r, some nx, lf, drpF T (pNd r), on, ky, (chS T sec s2 (2 ^ T.1)).2, none) : PeS)) pcp x pks pmd u0 ∧ BookP g b ((chS T sec s2 (2 ^ T.1)).1) bx z u4 ∧ (∀ x, E x = true ↔ pEv r x = true ∨ helP Ks ((pNo r, pEv r, pPk r, some nx, lf, drpF T (pNd r), on, ky, (chS T sec s2 (2 ^ T.1)).2, none) : PeS) x)) noX := by
  obtain ⟨u1_, wi_, u2_, hwi_, hcl_, he_⟩ := PersL.opn hw0 ha hr
  subst he_
  refine Ct.lift (ct_X4_enters g J (a := a) (x := x) (pks := pks) (r := r) (lk := lk) (Ks := Ks) (kcap := kcap) (b := b) (ss := ss) (bx := bx) (z := z) (Ts := Ts) (tcap := tcap) (lp := lp) (lr := lr) (lt := lt) (ls := ls) (lm := lm) (so := so) (bxs := bxs) (nx := nx) (sec := sec) (T := T) (lf := lf) (s1 := s1) (on := on) (s2 := s2) (ky := ky) (TA := TA) hwi_ hw1 hw3 hw4 hTs hlf hsec hf1 hf2 hfl hTA hnx hkb) [u1_, u2_] (perm_cnt fun ct h h0 => by simp only [List.flatten_cons, List.flatten_nil, List.flatten_append, h, h0]; omega) ?_
  rintro v L ⟨E, z0_, z4_, e1, rfl, hz0_, hz4_, hE⟩
  exact ⟨[([u1_, z0_, u2_] : List va_W).flatten, w1, [(x, .inr (0, [.ref b, .ref lp, .ref lk, .ref lr, .ref lt, .ref ls, .ref lm, .ref so, .int (nI bxs)]))], w3, z4_], [], (perm_cnt fun ct h h0 => by simp only [List.flatten_cons, List.flatten_nil, List.flatten_append, h, h0]; omega), E, ([u1_, z0_, u2_] : List va_W).flatten, z4_, e1, rfl, hcl_ _ _ hz0_, hz4_, hE⟩
