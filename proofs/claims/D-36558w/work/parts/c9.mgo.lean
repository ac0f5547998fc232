set_option maxRecDepth 100000
theorem isF_some {n e : Nat} (h : e + 1 < n) : ¬ isF n (some e) = true := by unfold isF; simp; omega
theorem isF_none {n : Nat} : ¬ isF n none = true := by unfold isF; simp
theorem ct_X3_goOn_x (g : Gv) (J : Jd g) {m : Nat} {D : MdS} {v : Int32} {w0 : va_W} (hw0 : KdP g m D w0) (hD : MdB D) (hx : ¬ (∃ (i : Nat) (r : MpS), v = nI i ∧ (dPs D)[i]? = some r ∧ ¬ mEp r = none ∧ ¬ isF (dEs D).length (mEp r) = true)) : Ct g yX3_goOn (ws_ yX3_goOn cX3_goOn 4 (some .char)) 10 10 60 [.ref m, .int v] [w0] (fun (rv_ : Option Value) (rL_ : List va_W) => ∃ (k : Nat) (x : Int32) (u0 : va_W), rv_ = some (.int x) ∧ rL_ = [u0] ∧ KdP g m (dT D k) u0 ∧ ((k = 1 ∧ ¬ inR v (dPs D).length = true) ∨ (k = 2 ∧ ∃ (i : Nat) (r : MpS), v = nI i ∧ (dPs D)[i]? = some r ∧ (mEp r = none ∨ isF (dEs D).length (mEp r) = true)))) noX := by
  refine Ct.of "KeygroveModel" [some (.ref m), some (.int v), none, none] rfl (by decide) rfl (Nat.le_of_ble_eq_true rfl) rfl ?_
  intro κ B E tb
  have hD0 := hD
  obtain ⟨hd1, hd2, hd3, hd4, hd5, hd6, hd7, hd8, hd9⟩ := hD0
  obtain ⟨ls, lb, lk, lp, lr, le, lm, lo, kcap, pcap, rcap, ecap, mcap, mks, mps, v0, v1, v2, v3, v4, v5, v6, v7, hcap, hv0, hv1, hv2, hv3, hv4, hv5, hv6, hv7, rfl⟩ := hw0
  refine g_open 0 rfl rfl rfl ?_
  refine (show Go g κ 0 [some (.ref m), some (.int v), none, none] [] [[(m, .inr (12, [.ref ls, .ref lb, .ref lk, .ref lp, .ref lr, .ref le, .ref lm, .ref lo, .int (nI (dTh D)), .int (dZz D), .int (nI (dBn D)), .int (nI (dCm D))]))], v0, v1, v2, v3, v4, v5, v6, v7] 10 60 from ?_)
  obtain ⟨kc1, kc2, kc3, kc4, kc5⟩ := (show capM kcap pcap rcap ecap mcap from hcap)
  refine g_aload_n (q := 1) B dX3_goOn_0 rfl rfl (rv_r _) ?_
  refine g_aload_n (q := 2) B dX3_goOn_1 rfl rfl (rv_r _) ?_
  refine g_iload_n (q := 3) B dX3_goOn_2 rfl rfl ?_
  refine g_callV (q := 6) (is := [0, 3]) (kc2 := 10) (ks2 := 60) B [.int v] (ct_X3_isPerson g J (m := m) (ls := ls) (lb := lb) (lk := lk) (lp := lp) (lr := lr) (le := le) (lm := lm) (lo := lo) (th := dTh D) (z := dZz D) (bo := dBn D) (cm := dCm D) (mps := mps) (Ps := (dPs D)) (pcap := pcap) (v := v) hv3 (by omega)) dX3_goOn_3 rfl (rc_at B (ci := 12) rfl (k := 0) rfl) rfl q3153 q3155 qs51 q85 q3156 rfl rfl moX3_isPerson rfl rfl (by decide) (by decide) (Nat.le_of_ble_eq_true rfl) (Nat.le_of_ble_eq_true rfl) (Nat.le_of_ble_eq_true rfl) (fun _ _ hx => noX_x hx) (fun v3 L1 hp3 => ?_)
  obtain ⟨rfl, rfl⟩ := hp3
  refine (show Go g κ 6 [some (.ref m), some (.int v), none, none] [.int (nI (if inR v (dPs D).length = true then 1 else 0)), .ref m] [v0, v1, v2, v4, v5, v6, v7, [(m, .inr (12, [.ref ls, .ref lb, .ref lk, .ref lp, .ref lr, .ref le, .ref lm, .ref lo, .int (nI (dTh D)), .int (dZz D), .int (nI (dBn D)), .int (nI (dCm D))]))], v3] 10 60 from ?_)
  refine g_if_ne (tgt := 13) (q := 9) B dX3_goOn_6 rfl (by decide) (bo_ne) (fun c6 => ?_) (fun c6 => ?_)
  · skip
    obtain ⟨i, hii, rfl⟩ := inR_t c6
    obtain ⟨r, hr⟩ := get_ex (xs := dPs D) (i := i) hii
    refine (show Go g κ 13 [some (.ref m), some (.int (nI i)), none, none] [.ref m] [v0, v1, v2, v4, v5, v6, v7, [(m, .inr (12, [.ref ls, .ref lb, .ref lk, .ref lp, .ref lr, .ref le, .ref lm, .ref lo, .int (nI (dTh D)), .int (dZz D), .int (nI (dBn D)), .int (nI (dCm D))]))], v3] 10 60 from ?_)
    refine g_aload_n (q := 14) B dX3_goOn_13 rfl rfl (rv_r _) ?_
    refine g_get (q := 17) B (ci := 12) (k := 7) (j := 3) in_X3 rfl dX3_goOn_14 rfl rfl (Nat.le_of_ble_eq_true rfl) q3060 rfl rfl ?_
    refine g_iload_n (q := 18) B dX3_goOn_17 rfl rfl ?_
    obtain ⟨md_1, hli_1, hln_1, hel_1⟩ := LoP.at (Sub.self hv3)
    obtain ⟨x18, hx18⟩ := get_ex (xs := mps) (i := i) (by have := get_lt2 (show (dPs D)[i]? = some r from hr); have := hln_1.1; omega)
    have hE_2 := hel_1 _ _ _ hx18 (show (dPs D)[i]? = some r from hr)
    refine g_callV (q := 21) (is := [8]) (kc2 := 10) (ks2 := 60) B [.int (nI i)] (ct_J2_get_s g J (p := lp) (xs := mps) (md := md_1) (cap := pcap) (i := i) (x := x18) (W0 := v3)  (hli_1) (hx18)) dX3_goOn_18 rfl (rc_in B (ci := 21) rfl (k := 8) rfl (LoP.hm hv3)) rfl q3231 q1095 q3667 q81 q1097 rfl rfl moJ2_get rfl rfl (by decide) (by decide) (Nat.le_of_ble_eq_true rfl) (Nat.le_of_ble_eq_true rfl) (Nat.le_of_ble_eq_true rfl) (fun _ _ hx => noX_x hx) (fun v18 L1 hp18 => ?_)
    obtain ⟨rfl, rfl⟩ := hp18
    refine (show Go g κ 21 [some (.ref m), some (.int (nI i)), none, none] [.ref x18, .ref m] [v0, v1, v2, v4, v5, v6, v7, [(m, .inr (12, [.ref ls, .ref lb, .ref lk, .ref lp, .ref lr, .ref le, .ref lm, .ref lo, .int (nI (dTh D)), .int (dZz D), .int (nI (dBn D)), .int (nI (dCm D))]))], v3] 10 60 from ?_)
    refine g_castRS (ci := 13) (q := 24) B rfl (rc_in B (ci := 13) rfl (k := 8) rfl (Sub.hm (hE_2) fun _ z => MpP.hm z)) dX3_goOn_21 rfl q3107 ?_
    obtain ⟨nd_3, ch_3, ev_3, cv_3, fn_3, fc_3, hM_3, hfn_3, hoc_3, hcv_3, hc_3_0, hc_3_1, hc_3_2, hs_3_0, hs_3_1⟩ := MpP.at (hE_2)
    refine g_getNM (q := 27) B (ci := 13) (k := 8) (j := 0) in_X5 rfl dX3_goOn_24 rfl rfl (hc_3_0) (Nat.le_of_ble_eq_true rfl) q3118 rfl rfl ?_
    refine g_iconst (v := -1) (q := 28) B dX3_goOn_27 rfl (by decide) ?_
    refine g_icmp_eq (tgt := 39) (q := 31) B dX3_goOn_28 rfl (by decide) (oI_n ((fun n h => by have := hM_3.1 _ h; omega))) (fun c28 => ?_) (fun c28 => ?_)
    · skip
      refine g_iconst (v := nI 2) (q := 40) B dX3_goOn_39 rfl (by decide) ?_
      refine g_goto (tgt := 44) B dX3_goOn_40 (by decide) ?_
      refine g_callV (q := 47) (is := [7]) (kc2 := 10) (ks2 := 60) B [.int (nI 2)] (ct_X3_isWrong g J (m := m) (ls := ls) (lb := lb) (lk := lk) (lp := lp) (lr := lr) (le := le) (lm := lm) (lo := lo) (th := (dTh D)) (z := (dZz D)) (bo := (dBn D)) (cm := (dCm D)) (k := 2)  (by decide)) dX3_goOn_44 rfl (rc_at B (ci := 12) rfl (k := 7) rfl) rfl q3103 q3105 qs49 q85 q3106 rfl rfl moX3_isWrong rfl rfl (by decide) (by decide) (Nat.le_of_ble_eq_true rfl) (Nat.le_of_ble_eq_true rfl) (Nat.le_of_ble_eq_true rfl) (fun _ _ hx => noX_x hx) (fun v44 L1 hp44 => ?_)
      obtain ⟨rfl, rfl⟩ := hp44
      refine (show Go g κ 47 [some (.ref m), some (.int (nI i)), none, none] [.int (nI (if ¬ 2 = 0 then 1 else 0))] [v0, v1, v2, v4, v5, v6, v7, v3, [(m, .inr (12, [.ref ls, .ref lb, .ref lk, .ref lp, .ref lr, .ref le, .ref lm, .ref lo, .int (nI 2), .int (dZz D), .int (nI (dBn D)), .int (nI (dCm D))]))]] 10 60 from ?_)
      refine g_if_eq (tgt := 52) (q := 50) B dX3_goOn_47 rfl (by decide) (iff_false_intro (by decide)) (fun z => z.elim) (fun _ => ?_)
      refine g_iconst (v := nI 0) (q := 51) B dX3_goOn_50 rfl (by decide) ?_
      obtain ⟨wc_4, ewc_4⟩ : ∃ w : va_W, w = ([[(m, .inr (12, [.ref ls, .ref lb, .ref lk, .ref lp, .ref lr, .ref le, .ref lm, .ref lo, .int (nI 2), .int (dZz D), .int (nI (dBn D)), .int (nI (dCm D))]))], v0, v1, v2, v3, v4, v5, v6, v7] : List va_W).flatten := ⟨_, rfl⟩
      have hwc_4 : KdP g m (dT D 2) wc_4 := by
        rw [ewc_4]
        exact ⟨ls, lb, lk, lp, lr, le, lm, lo, kcap, pcap, rcap, ecap, mcap, mks, mps, _, _, _, _, _, _, _, _, hcap, hv0, hv1, hv2, hv3, hv4, hv5, hv6, hv7, rfl⟩
      refine g_close (w := wc_4) [8, 0, 0, 0, 4, 0, 0, 0, 0] rfl ewc_4 rfl ?_
      refine (show Go g κ 51 [some (.ref m), some (.int (nI i)), none, none] [.int (nI 0)] [wc_4] 10 60 from ?_)
      exact g_zret B E dX3_goOn_51 (by decide) (⟨2, nI 0, _, rfl, rfl, hwc_4, Or.inr ⟨rfl, i, r, rfl, hr, by first | exact Or.inl c28 | exact Or.inr c36⟩⟩)
    · skip
      obtain ⟨v28, ev28⟩ := Option.ne_none_iff_exists'.mp c28
      refine g_aload_n (q := 32) B dX3_goOn_31 rfl rfl (rv_r _) ?_
      refine g_iload_n (q := 33) B dX3_goOn_32 rfl rfl ?_
      refine g_callV (q := 36) (is := [7, 7, 4]) (kc2 := 10) (ks2 := 60) B [.int (nI i)] (ct_X3_isNew g J (m := m) (ls := ls) (lb := lb) (lk := lk) (lp := lp) (lr := lr) (le := le) (lm := lm) (lo := lo) (th := (dTh D)) (z := (dZz D)) (bo := (dBn D)) (cm := (dCm D)) (mps := mps) (Ps := (dPs D)) (pcap := pcap) (Es := (dEs D)) (ecap := ecap) (i := i) (r := r) hv3 hv5 (hr) (by omega) (by omega)) dX3_goOn_33 rfl (rc_at B (ci := 12) rfl (k := 7) rfl) rfl q3370 q3372 qs62 q85 q3373 rfl rfl moX3_isNew rfl rfl (by decide) (by decide) (Nat.le_of_ble_eq_true rfl) (Nat.le_of_ble_eq_true rfl) (Nat.le_of_ble_eq_true rfl) (fun _ _ hx => noX_x hx) (fun v33 L1 hp33 => ?_)
      obtain ⟨rfl, rfl⟩ := hp33
      refine (show Go g κ 36 [some (.ref m), some (.int (nI i)), none, none] [.int (nI (if isF (dEs D).length (mEp r) = true then 1 else 0)), .ref m] [v0, v1, v2, v4, v6, v7, [(m, .inr (12, [.ref ls, .ref lb, .ref lk, .ref lp, .ref lr, .ref le, .ref lm, .ref lo, .int (nI (dTh D)), .int (dZz D), .int (nI (dBn D)), .int (nI (dCm D))]))], v3, v5] 10 60 from ?_)
      refine g_if_eq (tgt := 43) (q := 39) B dX3_goOn_36 rfl (by decide) (bo_eq) (fun c36 => ?_) (fun c36 => ?_)
      · skip
        refine g_iconst (v := nI 0) (q := 44) B dX3_goOn_43 rfl (by decide) ?_
        refine g_callV (q := 47) (is := [6]) (kc2 := 10) (ks2 := 60) B [.int (nI 0)] (ct_X3_isWrong g J (m := m) (ls := ls) (lb := lb) (lk := lk) (lp := lp) (lr := lr) (le := le) (lm := lm) (lo := lo) (th := (dTh D)) (z := (dZz D)) (bo := (dBn D)) (cm := (dCm D)) (k := 0)  (by decide)) dX3_goOn_44 rfl (rc_at B (ci := 12) rfl (k := 6) rfl) rfl q3103 q3105 qs49 q85 q3106 rfl rfl moX3_isWrong rfl rfl (by decide) (by decide) (Nat.le_of_ble_eq_true rfl) (Nat.le_of_ble_eq_true rfl) (Nat.le_of_ble_eq_true rfl) (fun _ _ hx => noX_x hx) (fun v44 L1 hp44 => ?_)
        obtain ⟨rfl, rfl⟩ := hp44
        refine (show Go g κ 47 [some (.ref m), some (.int (nI i)), none, none] [.int (nI (if ¬ 0 = 0 then 1 else 0))] [v0, v1, v2, v4, v6, v7, v3, v5, [(m, .inr (12, [.ref ls, .ref lb, .ref lk, .ref lp, .ref lr, .ref le, .ref lm, .ref lo, .int (nI 0), .int (dZz D), .int (nI (dBn D)), .int (nI (dCm D))]))]] 10 60 from ?_)
        refine g_if_eq (tgt := 52) (q := 50) B dX3_goOn_47 rfl (by decide) (iff_true_intro (by decide)) (fun _ => ?_) (fun z => absurd trivial z)
        exact absurd ⟨i, r, rfl, hr, (by rw [ev28]; simp), c36⟩ hx
      · skip
        have c36 := Classical.not_not.mp c36
        refine g_iconst (v := nI 2) (q := 40) B dX3_goOn_39 rfl (by decide) ?_
        refine g_goto (tgt := 44) B dX3_goOn_40 (by decide) ?_
        refine g_callV (q := 47) (is := [6]) (kc2 := 10) (ks2 := 60) B [.int (nI 2)] (ct_X3_isWrong g J (m := m) (ls := ls) (lb := lb) (lk := lk) (lp := lp) (lr := lr) (le := le) (lm := lm) (lo := lo) (th := (dTh D)) (z := (dZz D)) (bo := (dBn D)) (cm := (dCm D)) (k := 2)  (by decide)) dX3_goOn_44 rfl (rc_at B (ci := 12) rfl (k := 6) rfl) rfl q3103 q3105 qs49 q85 q3106 rfl rfl moX3_isWrong rfl rfl (by decide) (by decide) (Nat.le_of_ble_eq_true rfl) (Nat.le_of_ble_eq_true rfl) (Nat.le_of_ble_eq_true rfl) (fun _ _ hx => noX_x hx) (fun v44 L1 hp44 => ?_)
        obtain ⟨rfl, rfl⟩ := hp44
        refine (show Go g κ 47 [some (.ref m), some (.int (nI i)), none, none] [.int (nI (if ¬ 2 = 0 then 1 else 0))] [v0, v1, v2, v4, v6, v7, v3, v5, [(m, .inr (12, [.ref ls, .ref lb, .ref lk, .ref lp, .ref lr, .ref le, .ref lm, .ref lo, .int (nI 2), .int (dZz D), .int (nI (dBn D)), .int (nI (dCm D))]))]] 10 60 from ?_)
        refine g_if_eq (tgt := 52) (q := 50) B dX3_goOn_47 rfl (by decide) (iff_false_intro (by decide)) (fun z => z.elim) (fun _ => ?_)
        refine g_iconst (v := nI 0) (q := 51) B dX3_goOn_50 rfl (by decide) ?_
        obtain ⟨wc_5, ewc_5⟩ : ∃ w : va_W, w = ([[(m, .inr (12, [.ref ls, .ref lb, .ref lk, .ref lp, .ref lr, .ref le, .ref lm, .ref lo, .int (nI 2), .int (dZz D), .int (nI (dBn D)), .int (nI (dCm D))]))], v0, v1, v2, v3, v4, v5, v6, v7] : List va_W).flatten := ⟨_, rfl⟩
        have hwc_5 : KdP g m (dT D 2) wc_5 := by
          rw [ewc_5]
          exact ⟨ls, lb, lk, lp, lr, le, lm, lo, kcap, pcap, rcap, ecap, mcap, mks, mps, _, _, _, _, _, _, _, _, hcap, hv0, hv1, hv2, hv3, hv4, hv5, hv6, hv7, rfl⟩
        refine g_close (w := wc_5) [8, 0, 0, 0, 3, 0, 2, 0, 0] rfl ewc_5 rfl ?_
        refine (show Go g κ 51 [some (.ref m), some (.int (nI i)), none, none] [.int (nI 0)] [wc_5] 10 60 from ?_)
        exact g_zret B E dX3_goOn_51 (by decide) (⟨2, nI 0, _, rfl, rfl, hwc_5, Or.inr ⟨rfl, i, r, rfl, hr, by first | exact Or.inl c28 | exact Or.inr c36⟩⟩)
  · skip
    refine g_iconst (v := nI 1) (q := 10) B dX3_goOn_9 rfl (by decide) ?_
    refine g_goto (tgt := 44) B dX3_goOn_10 (by decide) ?_
    refine g_callV (q := 47) (is := [7]) (kc2 := 10) (ks2 := 60) B [.int (nI 1)] (ct_X3_isWrong g J (m := m) (ls := ls) (lb := lb) (lk := lk) (lp := lp) (lr := lr) (le := le) (lm := lm) (lo := lo) (th := (dTh D)) (z := (dZz D)) (bo := (dBn D)) (cm := (dCm D)) (k := 1)  (by decide)) dX3_goOn_44 rfl (rc_at B (ci := 12) rfl (k := 7) rfl) rfl q3103 q3105 qs49 q85 q3106 rfl rfl moX3_isWrong rfl rfl (by decide) (by decide) (Nat.le_of_ble_eq_true rfl) (Nat.le_of_ble_eq_true rfl) (Nat.le_of_ble_eq_true rfl) (fun _ _ hx => noX_x hx) (fun v44 L1 hp44 => ?_)
    obtain ⟨rfl, rfl⟩ := hp44
    refine (show Go g κ 47 [some (.ref m), some (.int v), none, none] [.int (nI (if ¬ 1 = 0 then 1 else 0))] [v0, v1, v2, v4, v5, v6, v7, v3, [(m, .inr (12, [.ref ls, .ref lb, .ref lk, .ref lp, .ref lr, .ref le, .ref lm, .ref lo, .int (nI 1), .int (dZz D), .int (nI (dBn D)), .int (nI (dCm D))]))]] 10 60 from ?_)
    refine g_if_eq (tgt := 52) (q := 50) B dX3_goOn_47 rfl (by decide) (iff_false_intro (by decide)) (fun z => z.elim) (fun _ => ?_)
    refine g_iconst (v := nI 0) (q := 51) B dX3_goOn_50 rfl (by decide) ?_
    obtain ⟨wc_6, ewc_6⟩ : ∃ w : va_W, w = ([[(m, .inr (12, [.ref ls, .ref lb, .ref lk, .ref lp, .ref lr, .ref le, .ref lm, .ref lo, .int (nI 1), .int (dZz D), .int (nI (dBn D)), .int (nI (dCm D))]))], v0, v1, v2, v3, v4, v5, v6, v7] : List va_W).flatten := ⟨_, rfl⟩
    have hwc_6 : KdP g m (dT D 1) wc_6 := by
      rw [ewc_6]
      exact ⟨ls, lb, lk, lp, lr, le, lm, lo, kcap, pcap, rcap, ecap, mcap, mks, mps, _, _, _, _, _, _, _, _, hcap, hv0, hv1, hv2, hv3, hv4, hv5, hv6, hv7, rfl⟩
    refine g_close (w := wc_6) [8, 0, 0, 0, 4, 0, 0, 0, 0] rfl ewc_6 rfl ?_
    refine (show Go g κ 51 [some (.ref m), some (.int v), none, none] [.int (nI 0)] [wc_6] 10 60 from ?_)
    exact g_zret B E dX3_goOn_51 (by decide) (⟨1, nI 0, _, rfl, rfl, hwc_6, Or.inl ⟨rfl, c6⟩⟩)
theorem ct_X3_goOn_o (g : Gv) (J : Jd g) {m : Nat} {D : MdS} {i : Nat} {r : MpS} {e : Nat} {Ep : MeS} {w0 : va_W} (hw0 : KdP g m D w0) (hD : MdB D) (hr : (dPs D)[i]? = some r) (he : mEp r = some e) (hE : (dEs D)[e + 1]? = some Ep) (hrm : eRm Ep (mLf r) = true) : Ct g yX3_goOn (ws_ yX3_goOn cX3_goOn 4 (some .char)) 10 10 60 [.ref m, .int (nI i)] [w0] (fun (rv_ : Option Value) (rL_ : List va_W) => ∃ (u0 : va_W), rv_ = some (.int (nI 111)) ∧ rL_ = [u0] ∧ KdP g m ((dSs D, dBx D, dKs D, (dPs D).set i ((none, mLf r, mLs r, none, fun _ => none, fun _ => none, mEv r) : MpS), dRs D, dEs D, dMs D, dSo D, 0, dZz D, dBn D, dCm D) : MdS) u0) noX := by
  refine Ct.of "KeygroveModel" [some (.ref m), some (.int (nI i)), none, none] rfl (by decide) rfl (Nat.le_of_ble_eq_true rfl) rfl ?_
  intro κ B E tb
  have hD0 := hD
  obtain ⟨hd1, hd2, hd3, hd4, hd5, hd6, hd7, hd8, hd9⟩ := hD0
  obtain ⟨ls, lb, lk, lp, lr, le, lm, lo, kcap, pcap, rcap, ecap, mcap, mks, mps, v0, v1, v2, v3, v4, v5, v6, v7, hcap, hv0, hv1, hv2, hv3, hv4, hv5, hv6, hv7, rfl⟩ := hw0
  refine g_open 0 rfl rfl rfl ?_
  refine (show Go g κ 0 [some (.ref m), some (.int (nI i)), none, none] [] [[(m, .inr (12, [.ref ls, .ref lb, .ref lk, .ref lp, .ref lr, .ref le, .ref lm, .ref lo, .int (nI (dTh D)), .int (dZz D), .int (nI (dBn D)), .int (nI (dCm D))]))], v0, v1, v2, v3, v4, v5, v6, v7] 10 60 from ?_)
  obtain ⟨kc1, kc2, kc3, kc4, kc5⟩ := (show capM kcap pcap rcap ecap mcap from hcap)
  refine g_aload_n (q := 1) B dX3_goOn_0 rfl rfl (rv_r _) ?_
  refine g_aload_n (q := 2) B dX3_goOn_1 rfl rfl (rv_r _) ?_
  refine g_iload_n (q := 3) B dX3_goOn_2 rfl rfl ?_
  refine g_callV (q := 6) (is := [0, 3]) (kc2 := 10) (ks2 := 60) B [.int (nI i)] (ct_X3_isPerson g J (m := m) (ls := ls) (lb := lb) (lk := lk) (lp := lp) (lr := lr) (le := le) (lm := lm) (lo := lo) (th := dTh D) (z := dZz D) (bo := dBn D) (cm := dCm D) (mps := mps) (Ps := (dPs D)) (pcap := pcap) (v := nI i) hv3 (by omega)) dX3_goOn_3 rfl (rc_at B (ci := 12) rfl (k := 0) rfl) rfl q3153 q3155 qs51 q85 q3156 rfl rfl moX3_isPerson rfl rfl (by decide) (by decide) (Nat.le_of_ble_eq_true rfl) (Nat.le_of_ble_eq_true rfl) (Nat.le_of_ble_eq_true rfl) (fun _ _ hx => noX_x hx) (fun v3 L1 hp3 => ?_)
  obtain ⟨rfl, rfl⟩ := hp3
  refine (show Go g κ 6 [some (.ref m), some (.int (nI i)), none, none] [.int (nI (if inR (nI i) (dPs D).length = true then 1 else 0)), .ref m] [v0, v1, v2, v4, v5, v6, v7, [(m, .inr (12, [.ref ls, .ref lb, .ref lk, .ref lp, .ref lr, .ref le, .ref lm, .ref lo, .int (nI (dTh D)), .int (dZz D), .int (nI (dBn D)), .int (nI (dCm D))]))], v3] 10 60 from ?_)
  refine g_if_ne (tgt := 13) (q := 9) B dX3_goOn_6 rfl (by decide) (iff_true_intro (bo_ne.mpr (by rw [inR_k (by have := get_lt2 hr; omega)]; simpa using (get_lt2 hr)))) (fun _ => ?_) (fun z => absurd trivial z)
  have hi := get_lt2 hr
  have he1 := get_lt2 hE
  refine g_aload_n (q := 14) B dX3_goOn_13 rfl rfl (rv_r _) ?_
  refine g_get (q := 17) B (ci := 12) (k := 7) (j := 3) in_X3 rfl dX3_goOn_14 rfl rfl (Nat.le_of_ble_eq_true rfl) q3060 rfl rfl ?_
  refine g_iload_n (q := 18) B dX3_goOn_17 rfl rfl ?_
  obtain ⟨md_1, hli_1, hln_1, hel_1⟩ := LoP.at (Sub.self hv3)
  obtain ⟨x18, hx18⟩ := get_ex (xs := mps) (i := i) (by have := get_lt2 (show (dPs D)[i]? = some r from hr); have := hln_1.1; omega)
  have hE_2 := hel_1 _ _ _ hx18 (show (dPs D)[i]? = some r from hr)
  refine g_callV (q := 21) (is := [8]) (kc2 := 10) (ks2 := 60) B [.int (nI i)] (ct_J2_get_s g J (p := lp) (xs := mps) (md := md_1) (cap := pcap) (i := i) (x := x18) (W0 := v3)  (hli_1) (hx18)) dX3_goOn_18 rfl (rc_in B (ci := 21) rfl (k := 8) rfl (LoP.hm hv3)) rfl q3231 q1095 q3667 q81 q1097 rfl rfl moJ2_get rfl rfl (by decide) (by decide) (Nat.le_of_ble_eq_true rfl) (Nat.le_of_ble_eq_true rfl) (Nat.le_of_ble_eq_true rfl) (fun _ _ hx => noX_x hx) (fun v18 L1 hp18 => ?_)
  obtain ⟨rfl, rfl⟩ := hp18
  refine (show Go g κ 21 [some (.ref m), some (.int (nI i)), none, none] [.ref x18, .ref m] [v0, v1, v2, v4, v5, v6, v7, [(m, .inr (12, [.ref ls, .ref lb, .ref lk, .ref lp, .ref lr, .ref le, .ref lm, .ref lo, .int (nI (dTh D)), .int (dZz D), .int (nI (dBn D)), .int (nI (dCm D))]))], v3] 10 60 from ?_)
  refine g_castRS (ci := 13) (q := 24) B rfl (rc_in B (ci := 13) rfl (k := 8) rfl (Sub.hm (hE_2) fun _ z => MpP.hm z)) dX3_goOn_21 rfl q3107 ?_
  obtain ⟨nd_3, ch_3, ev_3, cv_3, fn_3, fc_3, hM_3, hfn_3, hoc_3, hcv_3, hc_3_0, hc_3_1, hc_3_2, hs_3_0, hs_3_1⟩ := MpP.at (hE_2)
  refine g_getNM (q := 27) B (ci := 13) (k := 8) (j := 0) in_X5 rfl dX3_goOn_24 rfl rfl (hc_3_0) (Nat.le_of_ble_eq_true rfl) q3118 rfl rfl ?_
  refine g_stk (y := .int (nI e)) (by rw [he]; rfl) ?_
  refine g_iconst (v := -1) (q := 28) B dX3_goOn_27 rfl (by decide) ?_
  refine g_icmp_eq (tgt := 39) (q := 31) B dX3_goOn_28 rfl (by decide) (iff_false_intro (nI_nm1 (by omega))) (fun z => z.elim) (fun _ => ?_)
  refine g_aload_n (q := 32) B dX3_goOn_31 rfl rfl (rv_r _) ?_
  refine g_iload_n (q := 33) B dX3_goOn_32 rfl rfl ?_
  refine g_callV (q := 36) (is := [7, 7, 4]) (kc2 := 10) (ks2 := 60) B [.int (nI i)] (ct_X3_isNew g J (m := m) (ls := ls) (lb := lb) (lk := lk) (lp := lp) (lr := lr) (le := le) (lm := lm) (lo := lo) (th := (dTh D)) (z := (dZz D)) (bo := (dBn D)) (cm := (dCm D)) (mps := mps) (Ps := (dPs D)) (pcap := pcap) (Es := (dEs D)) (ecap := ecap) (i := i) (r := r) hv3 hv5 (hr) (by omega) (by omega)) dX3_goOn_33 rfl (rc_at B (ci := 12) rfl (k := 7) rfl) rfl q3370 q3372 qs62 q85 q3373 rfl rfl moX3_isNew rfl rfl (by decide) (by decide) (Nat.le_of_ble_eq_true rfl) (Nat.le_of_ble_eq_true rfl) (Nat.le_of_ble_eq_true rfl) (fun _ _ hx => noX_x hx) (fun v33 L1 hp33 => ?_)
  obtain ⟨rfl, rfl⟩ := hp33
  refine (show Go g κ 36 [some (.ref m), some (.int (nI i)), none, none] [.int (nI (if isF (dEs D).length (mEp r) = true then 1 else 0)), .ref m] [v0, v1, v2, v4, v6, v7, [(m, .inr (12, [.ref ls, .ref lb, .ref lk, .ref lp, .ref lr, .ref le, .ref lm, .ref lo, .int (nI (dTh D)), .int (dZz D), .int (nI (dBn D)), .int (nI (dCm D))]))], v3, v5] 10 60 from ?_)
  refine g_if_eq (tgt := 43) (q := 39) B dX3_goOn_36 rfl (by decide) (iff_true_intro (bo_eq.mpr (by rw [he]; exact isF_some (by omega)))) (fun _ => ?_) (fun z => absurd trivial z)
  refine g_iconst (v := nI 0) (q := 44) B dX3_goOn_43 rfl (by decide) ?_
  refine g_callV (q := 47) (is := [6]) (kc2 := 10) (ks2 := 60) B [.int (nI 0)] (ct_X3_isWrong g J (m := m) (ls := ls) (lb := lb) (lk := lk) (lp := lp) (lr := lr) (le := le) (lm := lm) (lo := lo) (th := (dTh D)) (z := (dZz D)) (bo := (dBn D)) (cm := (dCm D)) (k := 0)  (by decide)) dX3_goOn_44 rfl (rc_at B (ci := 12) rfl (k := 6) rfl) rfl q3103 q3105 qs49 q85 q3106 rfl rfl moX3_isWrong rfl rfl (by decide) (by decide) (Nat.le_of_ble_eq_true rfl) (Nat.le_of_ble_eq_true rfl) (Nat.le_of_ble_eq_true rfl) (fun _ _ hx => noX_x hx) (fun v44 L1 hp44 => ?_)
  obtain ⟨rfl, rfl⟩ := hp44
  refine (show Go g κ 47 [some (.ref m), some (.int (nI i)), none, none] [.int (nI (if ¬ 0 = 0 then 1 else 0))] [v0, v1, v2, v4, v6, v7, v3, v5, [(m, .inr (12, [.ref ls, .ref lb, .ref lk, .ref lp, .ref lr, .ref le, .ref lm, .ref lo, .int (nI 0), .int (dZz D), .int (nI (dBn D)), .int (nI (dCm D))]))]] 10 60 from ?_)
  refine g_if_eq (tgt := 52) (q := 50) B dX3_goOn_47 rfl (by decide) (iff_true_intro (by decide)) (fun _ => ?_) (fun z => absurd trivial z)
  refine g_aload_n (q := 53) B dX3_goOn_52 rfl rfl (rv_r _) ?_
  refine g_get (q := 56) B (ci := 12) (k := 8) (j := 3) in_X3 rfl dX3_goOn_53 rfl rfl (Nat.le_of_ble_eq_true rfl) q3060 rfl rfl ?_
  refine g_iload_n (q := 57) B dX3_goOn_56 rfl rfl ?_
  have hE_4 := hel_1 _ _ _ hx18 (show (dPs D)[i]? = some r from hr)
  refine g_callV (q := 60) (is := [6]) (kc2 := 10) (ks2 := 60) B [.int (nI i)] (ct_J2_get_s g J (p := lp) (xs := mps) (md := md_1) (cap := pcap) (i := i) (x := x18) (W0 := v3)  (hli_1) (hx18)) dX3_goOn_57 rfl (rc_in B (ci := 21) rfl (k := 6) rfl (LoP.hm hv3)) rfl q3231 q1095 q3667 q81 q1097 rfl rfl moJ2_get rfl rfl (by decide) (by decide) (Nat.le_of_ble_eq_true rfl) (Nat.le_of_ble_eq_true rfl) (Nat.le_of_ble_eq_true rfl) (fun _ _ hx => noX_x hx) (fun v57 L1 hp57 => ?_)
  obtain ⟨rfl, rfl⟩ := hp57
  refine (show Go g κ 60 [some (.ref m), some (.int (nI i)), none, none] [.ref x18] [v0, v1, v2, v4, v6, v7, v5, [(m, .inr (12, [.ref ls, .ref lb, .ref lk, .ref lp, .ref lr, .ref le, .ref lm, .ref lo, .int (nI 0), .int (dZz D), .int (nI (dBn D)), .int (nI (dCm D))]))], v3] 10 60 from ?_)
  refine g_castRS (ci := 13) (q := 63) B rfl (rc_in B (ci := 13) rfl (k := 8) rfl (Sub.hm (hE_4) fun _ z => MpP.hm z)) dX3_goOn_60 rfl q3107 ?_
  have hMB := MpP.b2 (hE_4)
  have hlf9 := hMB.2.1
  refine g_astore_n (q := 64) (lv2 := [some (.ref m), some (.int (nI i)), some (.ref x18), none]) B dX3_goOn_63 rfl (Nat.le_of_ble_eq_true rfl) (rv_r _) rfl ?_
  refine g_aload_n (q := 65) B dX3_goOn_64 rfl rfl (rv_r _) ?_
  refine g_get (q := 68) B (ci := 12) (k := 7) (j := 5) in_X3 rfl dX3_goOn_65 rfl rfl (Nat.le_of_ble_eq_true rfl) q3062 rfl rfl ?_
  refine g_aload_n (q := 69) B dX3_goOn_68 rfl rfl (rv_r _) ?_
  refine g_getNM (q := 72) B (ci := 13) (k := 8) (j := 0) in_X5 rfl dX3_goOn_69 rfl rfl (hc_3_0) (Nat.le_of_ble_eq_true rfl) q3118 rfl rfl ?_
  refine g_stk (y := .int (nI e)) (by rw [he]; rfl) ?_
  refine g_iconst (v := nI 1) (q := 73) B dX3_goOn_72 rfl (by decide) ?_
  refine g_iadd (v := nI (e + 1)) (q := 74) B dX3_goOn_73 rfl (nI_add _ _) ?_
  obtain ⟨ps_5, md_5, hli_5, hln_5, hel_5⟩ := LhP.at (Sub.self hv5)
  obtain ⟨x74, hx74⟩ := get_ex (xs := ps_5) (i := e + 1) (by have := get_lt2 (show (dEs D)[e + 1]? = some Ep from hE); have := hln_5.1; omega)
  have hE_6 := hel_5 _ _ _ hx74 (show (dEs D)[e + 1]? = some Ep from hE)
  refine g_callV (q := 77) (is := [6]) (kc2 := 10) (ks2 := 60) B [.int (nI (e + 1))] (ct_J2_get_s g J (p := le) (xs := ps_5) (md := md_5) (cap := ecap) (i := e + 1) (x := x74) (W0 := v5)  (hli_5) (hx74)) dX3_goOn_74 rfl (rc_in B (ci := 21) rfl (k := 6) rfl (LhP.hm hv5)) rfl q3231 q1095 q3667 q81 q1097 rfl rfl moJ2_get rfl rfl (by decide) (by decide) (Nat.le_of_ble_eq_true rfl) (Nat.le_of_ble_eq_true rfl) (Nat.le_of_ble_eq_true rfl) (fun _ _ hx => noX_x hx) (fun v74 L1 hp74 => ?_)
  obtain ⟨rfl, rfl⟩ := hp74
  refine (show Go g κ 77 [some (.ref m), some (.int (nI i)), some (.ref x18), none] [.ref x74] [v0, v1, v2, v4, v6, v7, [(m, .inr (12, [.ref ls, .ref lb, .ref lk, .ref lp, .ref lr, .ref le, .ref lm, .ref lo, .int (nI 0), .int (dZz D), .int (nI (dBn D)), .int (nI (dCm D))]))], v3, v5] 10 60 from ?_)
  refine g_castRS (ci := 16) (q := 80) B rfl (rc_in B (ci := 16) rfl (k := 8) rfl (Sub.hm (hE_6) fun _ z => EpP.hm z)) dX3_goOn_77 rfl q3243 ?_
  refine g_astore_n (q := 81) (lv2 := [some (.ref m), some (.int (nI i)), some (.ref x18), some (.ref x74)]) B dX3_goOn_80 rfl (Nat.le_of_ble_eq_true rfl) (rv_r _) rfl ?_
  refine g_aload_n (q := 82) B dX3_goOn_81 rfl rfl (rv_r _) ?_
  obtain ⟨ap_7, an_7, al_7, ac_7, aw_7, am_7, ak_7, fp_7, fn_7, fl_7, fc_7, fw_7, fm_7, fk_7, hE_7, hfp_7, hfn_7, hfl_7, hfc_7, hfw_7, hfm_7, hfk_7, hc_7_0, hc_7_1, hc_7_2, hc_7_3, hc_7_4, hc_7_5, hc_7_6, hc_7_7⟩ := EpP.at (hE_6)
  refine g_getNM (q := 85) B (ci := 16) (k := 8) (j := 9) in_X13 rfl dX3_goOn_82 rfl rfl (hc_7_0) (Nat.le_of_ble_eq_true rfl) q3271 rfl rfl ?_
  refine g_aload_n (q := 86) B dX3_goOn_85 rfl rfl (rv_r _) ?_
  refine g_getNM (q := 89) B (ci := 13) (k := 7) (j := 1) in_X5 rfl dX3_goOn_86 rfl rfl (hc_3_0) (Nat.le_of_ble_eq_true rfl) q3119 rfl rfl ?_
  refine g_zaldM (v := nI (if (eRm Ep) (mLf r) = true then 1 else 0)) (q := 90) B (k := 8) dX3_goOn_89 rfl rfl (hc_7_6) (vp_in_nI (by omega) (by omega)) (by rw [nI_clamp (by omega)]; exact hfm_7 _ (by omega)) ?_
  refine g_if_eq (tgt := 101) (q := 93) B dX3_goOn_90 rfl (by decide) (iff_false_intro (fun z_ => absurd hrm (bo_eq.mp z_))) (fun z => z.elim) (fun _ => ?_)
  refine g_aload_n (q := 94) B dX3_goOn_93 rfl rfl (rv_r _) ?_
  refine g_aload_n (q := 95) B dX3_goOn_94 rfl rfl (rv_r _) ?_
  obtain ⟨lu1_o, lwi_o, lu2_o, hlwi_o, hlcl_o, hle_o⟩ := LoP.opn hv3 hx18 hr
  refine g_open 7 rfl hle_o rfl ?_
  refine (show Go g κ 95 [some (.ref m), some (.int (nI i)), some (.ref x18), some (.ref x74)] [.ref x18, .ref m] [v0, v1, v2, v4, v6, v7, [(m, .inr (12, [.ref ls, .ref lb, .ref lk, .ref lp, .ref lr, .ref le, .ref lm, .ref lo, .int (nI 0), .int (dZz D), .int (nI (dBn D)), .int (nI (dCm D))]))], v5, lu1_o, lwi_o, lu2_o] 10 60 from ?_)
  refine g_callV (q := 98) (is := [6, 8]) (kc2 := 10) (ks2 := 60) B [.ref x18] (ct_X3_goesOut g J (m := m) (ls := ls) (lb := lb) (lk := lk) (lp := lp) (lr := lr) (le := le) (lm := lm) (lo := lo) (th := 0) (z := (dZz D)) (bo := (dBn D)) (cm := (dCm D)) (a := x18) (r := r) hlwi_o ) dX3_goOn_95 rfl (rc_at B (ci := 12) rfl (k := 6) rfl) rfl q3145 q3147 qs50 q85 q3148 rfl rfl moX3_goesOut rfl rfl (by decide) (by decide) (Nat.le_of_ble_eq_true rfl) (Nat.le_of_ble_eq_true rfl) (Nat.le_of_ble_eq_true rfl) (fun _ _ hx => noX_x hx) (fun v95 L1 hp95 => ?_)
  obtain ⟨u1_95, rfl, rfl, hu1_95⟩ := hp95
  refine (show Go g κ 98 [some (.ref m), some (.int (nI i)), some (.ref x18), some (.ref x74)] [] [v0, v1, v2, v4, v6, v7, v5, lu1_o, lu2_o, [(m, .inr (12, [.ref ls, .ref lb, .ref lk, .ref lp, .ref lr, .ref le, .ref lm, .ref lo, .int (nI 0), .int (dZz D), .int (nI (dBn D)), .int (nI (dCm D))]))], u1_95] 10 60 from ?_)
  obtain ⟨wc_8, ewc_8⟩ : ∃ w : va_W, w = ([lu1_o, u1_95, lu2_o] : List va_W).flatten := ⟨_, rfl⟩
  have hwc_8 : LoP g (MpP g) lp mps ((dPs D).set i ((none, mLf r, mLs r, none, fun _ => none, fun _ => none, mEv r) : MpS)) pcap wc_8 := by
    rw [ewc_8]
    exact hlcl_o _ _ hu1_95
  refine g_close (w := wc_8) [7, 9, 7] rfl ewc_8 rfl ?_
  refine (show Go g κ 98 [some (.ref m), some (.int (nI i)), some (.ref x18), some (.ref x74)] [] [v0, v1, v2, v4, v6, v7, v5, [(m, .inr (12, [.ref ls, .ref lb, .ref lk, .ref lp, .ref lr, .ref le, .ref lm, .ref lo, .int (nI 0), .int (dZz D), .int (nI (dBn D)), .int (nI (dCm D))]))], wc_8] 10 60 from ?_)
  refine g_bipush (v := nI 111) (q := 100) B dX3_goOn_98 rfl (by decide) ?_
  obtain ⟨wc_9, ewc_9⟩ : ∃ w : va_W, w = ([[(m, .inr (12, [.ref ls, .ref lb, .ref lk, .ref lp, .ref lr, .ref le, .ref lm, .ref lo, .int (nI 0), .int (dZz D), .int (nI (dBn D)), .int (nI (dCm D))]))], v0, v1, v2, wc_8, v4, v5, v6, v7] : List va_W).flatten := ⟨_, rfl⟩
  have hwc_9 : KdP g m ((dSs D, dBx D, dKs D, (dPs D).set i ((none, mLf r, mLs r, none, fun _ => none, fun _ => none, mEv r) : MpS), dRs D, dEs D, dMs D, dSo D, 0, dZz D, dBn D, dCm D) : MdS) wc_9 := by
    rw [ewc_9]
    exact ⟨ls, lb, lk, lp, lr, le, lm, lo, kcap, pcap, rcap, ecap, mcap, mks, mps, _, _, _, _, _, _, _, _, (by first | exact hcap | exact ⟨by first | exact kc1 | exact grow_b (by omega) kc1, by first | exact kc2 | exact grow_b (by omega) kc2, by first | exact kc3 | exact grow_b (by omega) kc3, by first | exact kc4 | exact grow_b (by omega) kc4, by first | exact kc5 | (have := grow_b (n := (dMs D).length) (cap := mcap) (by omega); first | omega | (unfold growN; split <;> (try split) <;> omega))⟩), hv0, hv1, hv2, hwc_8, hv4, hv5, hv6, hv7, rfl⟩
  refine g_close (w := wc_9) [7, 0, 0, 0, 4, 0, 2, 0, 0] rfl ewc_9 rfl ?_
  refine (show Go g κ 100 [some (.ref m), some (.int (nI i)), some (.ref x18), some (.ref x74)] [.int (nI 111)] [wc_9] 10 60 from ?_)
  exact g_zret B E dX3_goOn_100 (by decide) (⟨wc_9, rfl, rfl, hwc_9⟩)
theorem moX3_lowest : Mo yX3_lowest 2 := by
  refine ⟨by decide, by decide, by decide +kernel⟩
theorem moX3_gets : Mo yX3_gets 3 := by
  refine ⟨by decide, by decide, by decide +kernel⟩
set_option maxHeartbeats 16000000 in
theorem ct_X3_goOn_m (g : Gv) (J : Jd g) {m : Nat} {D : MdS} {i : Nat} {r : MpS} {e : Nat} {Ep : MeS} {nl : Nat} {k0 : Nat} {w0 : va_W} (hw0 : KdP g m D w0) (hD : MdB D) (hr : (dPs D)[i]? = some r) (he : mEp r = some e) (hE : (dEs D)[e + 1]? = some Ep) (hrm : ¬ eRm Ep (mLf r) = true) (hnl : (eTr Ep).2.1 (2 * mLf r) = some nl) (hk1 : 1 ≤ k0) (hk4 : k0 ≤ 4) (hw : eWy Ep (nab (mLf r) k0) = true) (hwn : ∀ j, 1 ≤ j → j < k0 → ¬ eWy Ep (nab (mLf r) j) = true) (hN : NtB (dKs D) (dEs D) ((dPs D).set i (comR (getR ((mEp r, mLf r, nl, mRn r, mNd r, mCh r, mEv r) : MpS) Ep k0) Ep)) (dSs D).length (dMs D).length) : Ct g yX3_goOn (ws_ yX3_goOn cX3_goOn 4 (some .char)) 10 (60 + 10070 + 640 * (dMs D).length) (300 + 130200 + 1600 * (dMs D).length) [.ref m, .int (nI i)] [w0] (fun (rv_ : Option Value) (rL_ : List va_W) => ∃ (Qs : List MpS) (u0 : va_W), rv_ = some (.int (nI 109)) ∧ rL_ = [u0] ∧ KdP g m ((dSs D, dBx D, dKs D, Qs, dRs D, dEs D, dMs D, dSo D, 0, dZz D, dBn D, dCm D) : MdS) u0 ∧ (NtR (dKs D) (dEs D) ((dPs D).set i (comR (getR ((mEp r, mLf r, nl, mRn r, mNd r, mCh r, mEv r) : MpS) Ep k0) Ep)) Qs ((dPs D).set i (comR (getR ((mEp r, mLf r, nl, mRn r, mNd r, mCh r, mEv r) : MpS) Ep k0) Ep)).length)) noX := by
  refine Ct.of "KeygroveModel" [some (.ref m), some (.int (nI i)), none, none] rfl (by decide) rfl (Nat.le_of_ble_eq_true rfl) rfl ?_
  intro κ B E tb
  have hD0 := hD
  obtain ⟨hd1, hd2, hd3, hd4, hd5, hd6, hd7, hd8, hd9⟩ := hD0
  obtain ⟨ls, lb, lk, lp, lr, le, lm, lo, kcap, pcap, rcap, ecap, mcap, mks, mps, v0, v1, v2, v3, v4, v5, v6, v7, hcap, hv0, hv1, hv2, hv3, hv4, hv5, hv6, hv7, rfl⟩ := hw0
  refine g_open 0 rfl rfl rfl ?_
  refine (show Go g κ 0 [some (.ref m), some (.int (nI i)), none, none] [] [[(m, .inr (12, [.ref ls, .ref lb, .ref lk, .ref lp, .ref lr, .ref le, .ref lm, .ref lo, .int (nI (dTh D)), .int (dZz D), .int (nI (dBn D)), .int (nI (dCm D))]))], v0, v1, v2, v3, v4, v5, v6, v7] (60 + 10070 + 640 * (dMs D).length) (300 + 130200 + 1600 * (dMs D).length) from ?_)
  obtain ⟨kc1, kc2, kc3, kc4, kc5⟩ := (show capM kcap pcap rcap ecap mcap from hcap)
  refine g_aload_n (q := 1) B dX3_goOn_0 rfl rfl (rv_r _) ?_
  refine g_aload_n (q := 2) B dX3_goOn_1 rfl rfl (rv_r _) ?_
  refine g_iload_n (q := 3) B dX3_goOn_2 rfl rfl ?_
  refine g_callV (q := 6) (is := [0, 3]) (kc2 := 60 + 10070 + 640 * (dMs D).length) (ks2 := 300 + 130200 + 1600 * (dMs D).length) B [.int (nI i)] (ct_X3_isPerson g J (m := m) (ls := ls) (lb := lb) (lk := lk) (lp := lp) (lr := lr) (le := le) (lm := lm) (lo := lo) (th := dTh D) (z := dZz D) (bo := dBn D) (cm := dCm D) (mps := mps) (Ps := (dPs D)) (pcap := pcap) (v := nI i) hv3 (by omega)) dX3_goOn_3 rfl (rc_at B (ci := 12) rfl (k := 0) rfl) rfl q3153 q3155 qs51 q85 q3156 rfl rfl moX3_isPerson rfl rfl (by decide) (by decide) (Nat.le_of_ble_eq_true rfl) (by omega) (by omega) (fun _ _ hx => noX_x hx) (fun v3 L1 hp3 => ?_)
  obtain ⟨rfl, rfl⟩ := hp3
  refine (show Go g κ 6 [some (.ref m), some (.int (nI i)), none, none] [.int (nI (if inR (nI i) (dPs D).length = true then 1 else 0)), .ref m] [v0, v1, v2, v4, v5, v6, v7, [(m, .inr (12, [.ref ls, .ref lb, .ref lk, .ref lp, .ref lr, .ref le, .ref lm, .ref lo, .int (nI (dTh D)), .int (dZz D), .int (nI (dBn D)), .int (nI (dCm D))]))], v3] (60 + 10070 + 640 * (dMs D).length) (300 + 130200 + 1600 * (dMs D).length) from ?_)
  refine g_if_ne (tgt := 13) (q := 9) B dX3_goOn_6 rfl (by decide) (iff_true_intro (bo_ne.mpr (by rw [inR_k (by have := get_lt2 hr; omega)]; simpa using (get_lt2 hr)))) (fun _ => ?_) (fun z => absurd trivial z)
  have hi := get_lt2 hr
  have he1 := get_lt2 hE
  refine g_aload_n (q := 14) B dX3_goOn_13 rfl rfl (rv_r _) ?_
  refine g_get (q := 17) B (ci := 12) (k := 7) (j := 3) in_X3 rfl dX3_goOn_14 rfl rfl (Nat.le_of_ble_eq_true rfl) q3060 rfl rfl ?_
  refine g_iload_n (q := 18) B dX3_goOn_17 rfl rfl ?_
  obtain ⟨md_1, hli_1, hln_1, hel_1⟩ := LoP.at (Sub.self hv3)
  obtain ⟨x18, hx18⟩ := get_ex (xs := mps) (i := i) (by have := get_lt2 (show (dPs D)[i]? = some r from hr); have := hln_1.1; omega)
  have hE_2 := hel_1 _ _ _ hx18 (show (dPs D)[i]? = some r from hr)
  refine g_callV (q := 21) (is := [8]) (kc2 := 60 + 10070 + 640 * (dMs D).length) (ks2 := 300 + 130200 + 1600 * (dMs D).length) B [.int (nI i)] (ct_J2_get_s g J (p := lp) (xs := mps) (md := md_1) (cap := pcap) (i := i) (x := x18) (W0 := v3)  (hli_1) (hx18)) dX3_goOn_18 rfl (rc_in B (ci := 21) rfl (k := 8) rfl (LoP.hm hv3)) rfl q3231 q1095 q3667 q81 q1097 rfl rfl moJ2_get rfl rfl (by decide) (by decide) (Nat.le_of_ble_eq_true rfl) (by omega) (by omega) (fun _ _ hx => noX_x hx) (fun v18 L1 hp18 => ?_)
  obtain ⟨rfl, rfl⟩ := hp18
  refine (show Go g κ 21 [some (.ref m), some (.int (nI i)), none, none] [.ref x18, .ref m] [v0, v1, v2, v4, v5, v6, v7, [(m, .inr (12, [.ref ls, .ref lb, .ref lk, .ref lp, .ref lr, .ref le, .ref lm, .ref lo, .int (nI (dTh D)), .int (dZz D), .int (nI (dBn D)), .int (nI (dCm D))]))], v3] (60 + 10070 + 640 * (dMs D).length) (300 + 130200 + 1600 * (dMs D).length) from ?_)
  refine g_castRS (ci := 13) (q := 24) B rfl (rc_in B (ci := 13) rfl (k := 8) rfl (Sub.hm (hE_2) fun _ z => MpP.hm z)) dX3_goOn_21 rfl q3107 ?_
  obtain ⟨nd_3, ch_3, ev_3, cv_3, fn_3, fc_3, hM_3, hfn_3, hoc_3, hcv_3, hc_3_0, hc_3_1, hc_3_2, hs_3_0, hs_3_1⟩ := MpP.at (hE_2)
  refine g_getNM (q := 27) B (ci := 13) (k := 8) (j := 0) in_X5 rfl dX3_goOn_24 rfl rfl (hc_3_0) (Nat.le_of_ble_eq_true rfl) q3118 rfl rfl ?_
  refine g_stk (y := .int (nI e)) (by rw [he]; rfl) ?_
  refine g_iconst (v := -1) (q := 28) B dX3_goOn_27 rfl (by decide) ?_
  refine g_icmp_eq (tgt := 39) (q := 31) B dX3_goOn_28 rfl (by decide) (iff_false_intro (nI_nm1 (by omega))) (fun z => z.elim) (fun _ => ?_)
  refine g_aload_n (q := 32) B dX3_goOn_31 rfl rfl (rv_r _) ?_
  refine g_iload_n (q := 33) B dX3_goOn_32 rfl rfl ?_
  refine g_callV (q := 36) (is := [7, 7, 4]) (kc2 := 60 + 10070 + 640 * (dMs D).length) (ks2 := 300 + 130200 + 1600 * (dMs D).length) B [.int (nI i)] (ct_X3_isNew g J (m := m) (ls := ls) (lb := lb) (lk := lk) (lp := lp) (lr := lr) (le := le) (lm := lm) (lo := lo) (th := (dTh D)) (z := (dZz D)) (bo := (dBn D)) (cm := (dCm D)) (mps := mps) (Ps := (dPs D)) (pcap := pcap) (Es := (dEs D)) (ecap := ecap) (i := i) (r := r) hv3 hv5 (hr) (by omega) (by omega)) dX3_goOn_33 rfl (rc_at B (ci := 12) rfl (k := 7) rfl) rfl q3370 q3372 qs62 q85 q3373 rfl rfl moX3_isNew rfl rfl (by decide) (by decide) (Nat.le_of_ble_eq_true rfl) (by omega) (by omega) (fun _ _ hx => noX_x hx) (fun v33 L1 hp33 => ?_)
  obtain ⟨rfl, rfl⟩ := hp33
  refine (show Go g κ 36 [some (.ref m), some (.int (nI i)), none, none] [.int (nI (if isF (dEs D).length (mEp r) = true then 1 else 0)), .ref m] [v0, v1, v2, v4, v6, v7, [(m, .inr (12, [.ref ls, .ref lb, .ref lk, .ref lp, .ref lr, .ref le, .ref lm, .ref lo, .int (nI (dTh D)), .int (dZz D), .int (nI (dBn D)), .int (nI (dCm D))]))], v3, v5] (60 + 10070 + 640 * (dMs D).length) (300 + 130200 + 1600 * (dMs D).length) from ?_)
  refine g_if_eq (tgt := 43) (q := 39) B dX3_goOn_36 rfl (by decide) (iff_true_intro (bo_eq.mpr (by rw [he]; exact isF_some (by omega)))) (fun _ => ?_) (fun z => absurd trivial z)
  refine g_iconst (v := nI 0) (q := 44) B dX3_goOn_43 rfl (by decide) ?_
  refine g_callV (q := 47) (is := [6]) (kc2 := 60 + 10070 + 640 * (dMs D).length) (ks2 := 300 + 130200 + 1600 * (dMs D).length) B [.int (nI 0)] (ct_X3_isWrong g J (m := m) (ls := ls) (lb := lb) (lk := lk) (lp := lp) (lr := lr) (le := le) (lm := lm) (lo := lo) (th := (dTh D)) (z := (dZz D)) (bo := (dBn D)) (cm := (dCm D)) (k := 0)  (by decide)) dX3_goOn_44 rfl (rc_at B (ci := 12) rfl (k := 6) rfl) rfl q3103 q3105 qs49 q85 q3106 rfl rfl moX3_isWrong rfl rfl (by decide) (by decide) (Nat.le_of_ble_eq_true rfl) (by omega) (by omega) (fun _ _ hx => noX_x hx) (fun v44 L1 hp44 => ?_)
  obtain ⟨rfl, rfl⟩ := hp44
  refine (show Go g κ 47 [some (.ref m), some (.int (nI i)), none, none] [.int (nI (if ¬ 0 = 0 then 1 else 0))] [v0, v1, v2, v4, v6, v7, v3, v5, [(m, .inr (12, [.ref ls, .ref lb, .ref lk, .ref lp, .ref lr, .ref le, .ref lm, .ref lo, .int (nI 0), .int (dZz D), .int (nI (dBn D)), .int (nI (dCm D))]))]] (60 + 10070 + 640 * (dMs D).length) (300 + 130200 + 1600 * (dMs D).length) from ?_)
  refine g_if_eq (tgt := 52) (q := 50) B dX3_goOn_47 rfl (by decide) (iff_true_intro (by decide)) (fun _ => ?_) (fun z => absurd trivial z)
  refine g_aload_n (q := 53) B dX3_goOn_52 rfl rfl (rv_r _) ?_
  refine g_get (q := 56) B (ci := 12) (k := 8) (j := 3) in_X3 rfl dX3_goOn_53 rfl rfl (Nat.le_of_ble_eq_true rfl) q3060 rfl rfl ?_
  refine g_iload_n (q := 57) B dX3_goOn_56 rfl rfl ?_
  have hE_4 := hel_1 _ _ _ hx18 (show (dPs D)[i]? = some r from hr)
  refine g_callV (q := 60) (is := [6]) (kc2 := 60 + 10070 + 640 * (dMs D).length) (ks2 := 300 + 130200 + 1600 * (dMs D).length) B [.int (nI i)] (ct_J2_get_s g J (p := lp) (xs := mps) (md := md_1) (cap := pcap) (i := i) (x := x18) (W0 := v3)  (hli_1) (hx18)) dX3_goOn_57 rfl (rc_in B (ci := 21) rfl (k := 6) rfl (LoP.hm hv3)) rfl q3231 q1095 q3667 q81 q1097 rfl rfl moJ2_get rfl rfl (by decide) (by decide) (Nat.le_of_ble_eq_true rfl) (by omega) (by omega) (fun _ _ hx => noX_x hx) (fun v57 L1 hp57 => ?_)
  obtain ⟨rfl, rfl⟩ := hp57
  refine (show Go g κ 60 [some (.ref m), some (.int (nI i)), none, none] [.ref x18] [v0, v1, v2, v4, v6, v7, v5, [(m, .inr (12, [.ref ls, .ref lb, .ref lk, .ref lp, .ref lr, .ref le, .ref lm, .ref lo, .int (nI 0), .int (dZz D), .int (nI (dBn D)), .int (nI (dCm D))]))], v3] (60 + 10070 + 640 * (dMs D).length) (300 + 130200 + 1600 * (dMs D).length) from ?_)
  refine g_castRS (ci := 13) (q := 63) B rfl (rc_in B (ci := 13) rfl (k := 8) rfl (Sub.hm (hE_4) fun _ z => MpP.hm z)) dX3_goOn_60 rfl q3107 ?_
  have hMB := MpP.b2 (hE_4)
  have hlf9 := hMB.2.1
  have hls9 := hMB.2.2.1
  refine g_astore_n (q := 64) (lv2 := [some (.ref m), some (.int (nI i)), some (.ref x18), none]) B dX3_goOn_63 rfl (Nat.le_of_ble_eq_true rfl) (rv_r _) rfl ?_
  refine g_aload_n (q := 65) B dX3_goOn_64 rfl rfl (rv_r _) ?_
  refine g_get (q := 68) B (ci := 12) (k := 7) (j := 5) in_X3 rfl dX3_goOn_65 rfl rfl (Nat.le_of_ble_eq_true rfl) q3062 rfl rfl ?_
  refine g_aload_n (q := 69) B dX3_goOn_68 rfl rfl (rv_r _) ?_
  refine g_getNM (q := 72) B (ci := 13) (k := 8) (j := 0) in_X5 rfl dX3_goOn_69 rfl rfl (hc_3_0) (Nat.le_of_ble_eq_true rfl) q3118 rfl rfl ?_
  refine g_stk (y := .int (nI e)) (by rw [he]; rfl) ?_
  refine g_iconst (v := nI 1) (q := 73) B dX3_goOn_72 rfl (by decide) ?_
  refine g_iadd (v := nI (e + 1)) (q := 74) B dX3_goOn_73 rfl (nI_add _ _) ?_
  obtain ⟨ps_5, md_5, hli_5, hln_5, hel_5⟩ := LhP.at (Sub.self hv5)
  obtain ⟨x74, hx74⟩ := get_ex (xs := ps_5) (i := e + 1) (by have := get_lt2 (show (dEs D)[e + 1]? = some Ep from hE); have := hln_5.1; omega)
  have hE_6 := hel_5 _ _ _ hx74 (show (dEs D)[e + 1]? = some Ep from hE)
  refine g_callV (q := 77) (is := [6]) (kc2 := 60 + 10070 + 640 * (dMs D).length) (ks2 := 300 + 130200 + 1600 * (dMs D).length) B [.int (nI (e + 1))] (ct_J2_get_s g J (p := le) (xs := ps_5) (md := md_5) (cap := ecap) (i := e + 1) (x := x74) (W0 := v5)  (hli_5) (hx74)) dX3_goOn_74 rfl (rc_in B (ci := 21) rfl (k := 6) rfl (LhP.hm hv5)) rfl q3231 q1095 q3667 q81 q1097 rfl rfl moJ2_get rfl rfl (by decide) (by decide) (Nat.le_of_ble_eq_true rfl) (by omega) (by omega) (fun _ _ hx => noX_x hx) (fun v74 L1 hp74 => ?_)
  obtain ⟨rfl, rfl⟩ := hp74
  refine (show Go g κ 77 [some (.ref m), some (.int (nI i)), some (.ref x18), none] [.ref x74] [v0, v1, v2, v4, v6, v7, [(m, .inr (12, [.ref ls, .ref lb, .ref lk, .ref lp, .ref lr, .ref le, .ref lm, .ref lo, .int (nI 0), .int (dZz D), .int (nI (dBn D)), .int (nI (dCm D))]))], v3, v5] (60 + 10070 + 640 * (dMs D).length) (300 + 130200 + 1600 * (dMs D).length) from ?_)
  refine g_castRS (ci := 16) (q := 80) B rfl (rc_in B (ci := 16) rfl (k := 8) rfl (Sub.hm (hE_6) fun _ z => EpP.hm z)) dX3_goOn_77 rfl q3243 ?_
  have hEB9 := EpP.b2 (hE_6)
  have hnl9 := hEB9.2.1.2.1 _ _ hnl
  refine g_astore_n (q := 81) (lv2 := [some (.ref m), some (.int (nI i)), some (.ref x18), some (.ref x74)]) B dX3_goOn_80 rfl (Nat.le_of_ble_eq_true rfl) (rv_r _) rfl ?_
  refine g_aload_n (q := 82) B dX3_goOn_81 rfl rfl (rv_r _) ?_
  obtain ⟨ap_7, an_7, al_7, ac_7, aw_7, am_7, ak_7, fp_7, fn_7, fl_7, fc_7, fw_7, fm_7, fk_7, hE_7, hfp_7, hfn_7, hfl_7, hfc_7, hfw_7, hfm_7, hfk_7, hc_7_0, hc_7_1, hc_7_2, hc_7_3, hc_7_4, hc_7_5, hc_7_6, hc_7_7⟩ := EpP.at (hE_6)
  refine g_getNM (q := 85) B (ci := 16) (k := 8) (j := 9) in_X13 rfl dX3_goOn_82 rfl rfl (hc_7_0) (Nat.le_of_ble_eq_true rfl) q3271 rfl rfl ?_
  refine g_aload_n (q := 86) B dX3_goOn_85 rfl rfl (rv_r _) ?_
  refine g_getNM (q := 89) B (ci := 13) (k := 7) (j := 1) in_X5 rfl dX3_goOn_86 rfl rfl (hc_3_0) (Nat.le_of_ble_eq_true rfl) q3119 rfl rfl ?_
  refine g_zaldM (v := nI (if (eRm Ep) (mLf r) = true then 1 else 0)) (q := 90) B (k := 8) dX3_goOn_89 rfl rfl (hc_7_6) (vp_in_nI (by omega) (by omega)) (by rw [nI_clamp (by omega)]; exact hfm_7 _ (by omega)) ?_
  refine g_if_eq (tgt := 101) (q := 93) B dX3_goOn_90 rfl (by decide) (iff_true_intro (bo_eq.mpr hrm)) (fun _ => ?_) (fun z => absurd trivial z)
  refine g_aload_n (q := 102) B dX3_goOn_101 rfl rfl (rv_r _) ?_
  refine g_getNM (q := 105) B (ci := 16) (k := 8) (j := 5) in_X13 rfl dX3_goOn_102 rfl rfl (hc_7_0) (Nat.le_of_ble_eq_true rfl) q3263 rfl rfl ?_
  refine g_iconst (v := nI 2) (q := 106) B dX3_goOn_105 rfl (by decide) ?_
  refine g_aload_n (q := 107) B dX3_goOn_106 rfl rfl (rv_r _) ?_
  refine g_getNM (q := 110) B (ci := 13) (k := 7) (j := 1) in_X5 rfl dX3_goOn_107 rfl rfl (hc_3_0) (Nat.le_of_ble_eq_true rfl) q3119 rfl rfl ?_
  refine g_imul (v := nI (2 * (mLf r))) (q := 111) B dX3_goOn_110 rfl (pk_mul _ _) ?_
  refine g_ialdM (v := oI (((eTr Ep).2.1) (2 * (mLf r)))) (q := 112) B (k := 8) dX3_goOn_111 rfl rfl (hc_7_2) (vp_in_nI (by omega) (by omega)) (by rw [nI_clamp (by omega)]; exact hfn_7 _ (by omega)) ?_
  refine g_stk (y := .int (nI nl)) (by rw [hnl]; rfl) ?_
  refine g_aload_n (q := 113) B dX3_goOn_112 rfl rfl (rv_r _) ?_
  refine g_getNM (q := 116) B (ci := 13) (k := 7) (j := 2) in_X5 rfl dX3_goOn_113 rfl rfl (hc_3_0) (Nat.le_of_ble_eq_true rfl) q3120 rfl rfl ?_
  refine g_icmp_eq (tgt := 134) (q := 119) B dX3_goOn_116 rfl (by decide) (nI_eq (by omega) (by omega)) (fun c116 => ?_) (fun c116 => ?_)
  · skip
    have c116 : nl = mLs r := c116
    obtain ⟨lu1_o, lwi_o, lu2_o, hlwi_o, hlcl_o, hle_o⟩ := LoP.opn hv3 hx18 hr
    refine g_open 7 rfl hle_o rfl ?_
    refine (show Go g κ 134 [some (.ref m), some (.int (nI i)), some (.ref x18), some (.ref x74)] [] [v0, v1, v2, v4, v6, v7, [(m, .inr (12, [.ref ls, .ref lb, .ref lk, .ref lp, .ref lr, .ref le, .ref lm, .ref lo, .int (nI 0), .int (dZz D), .int (nI (dBn D)), .int (nI (dCm D))]))], v5, lu1_o, lwi_o, lu2_o] (60 + 10070 + 640 * (dMs D).length) (300 + 130200 + 1600 * (dMs D).length) from ?_)
    have hr_8 : MpP g x18 ((mEp r, mLf r, nl, mRn r, mNd r, mCh r, mEv r) : MpS) lwi_o := by rw [c116]; exact hlwi_o
    refine g_aload_n (q := 135) B dX3_goOn_134 rfl rfl (rv_r _) ?_
    refine g_aload_n (q := 136) B dX3_goOn_135 rfl rfl (rv_r _) ?_
    refine g_aload_n (q := 137) B dX3_goOn_136 rfl rfl (rv_r _) ?_
    refine g_aload_n (q := 138) B dX3_goOn_137 rfl rfl (rv_r _) ?_
    obtain ⟨nd_9, ch_9, ev_9, cv_9, fn_9, fc_9, hM_9, hfn_9, hoc_9, hcv_9, hc_9_0, hc_9_1, hc_9_2, hs_9_0, hs_9_1⟩ := MpP.at (Sub.self hr_8)
    refine g_getNM (q := 141) B (ci := 13) (k := 9) (j := 1) in_X5 rfl dX3_goOn_138 rfl rfl (hc_9_0) (Nat.le_of_ble_eq_true rfl) q3119 rfl rfl ?_
    refine (show Go g κ 141 [some (.ref m), some (.int (nI i)), some (.ref x18), some (.ref x74)] [.int (nI (mLf r)), .ref x74, .ref x74, .ref x18] [v0, v1, v2, v4, v6, v7, [(m, .inr (12, [.ref ls, .ref lb, .ref lk, .ref lp, .ref lr, .ref le, .ref lm, .ref lo, .int (nI 0), .int (dZz D), .int (nI (dBn D)), .int (nI (dCm D))]))], v5, lu1_o, lwi_o, lu2_o] (60 + 10070 + 640 * (dMs D).length) (300 + 130200 + 1600 * (dMs D).length) from ?_)
    refine g_callS (q := 144) (is := [7]) (kc2 := 60 + 10070 + 640 * (dMs D).length) (ks2 := 300 + 130200 + 1600 * (dMs D).length) B [.ref x74, .int (nI (mLf r))] (ct_X3_lowest_s g J (e := x74) (r := Ep) (l := mLf r) (k0 := k0) (W0 := v5)  (hE_6) (hlf9) (hk1) (hk4) (hw) (hwn)) dX3_goOn_141 rfl q3491 q3492 q85 q3493 rfl rfl moX3_lowest rfl rfl (by decide) (by decide) (Nat.le_of_ble_eq_true rfl) (by omega) (by omega) (fun _ _ hx => noX_x hx) (fun v141 L1 hp141 => ?_)
    obtain ⟨rfl, rfl⟩ := hp141
    refine (show Go g κ 144 [some (.ref m), some (.int (nI i)), some (.ref x18), some (.ref x74)] [.int (nI (nab (mLf r) k0)), .ref x74, .ref x18] [v0, v1, v2, v4, v6, v7, [(m, .inr (12, [.ref ls, .ref lb, .ref lk, .ref lp, .ref lr, .ref le, .ref lm, .ref lo, .int (nI 0), .int (dZz D), .int (nI (dBn D)), .int (nI (dCm D))]))], lu1_o, lwi_o, lu2_o, v5] (60 + 10070 + 640 * (dMs D).length) (300 + 130200 + 1600 * (dMs D).length) from ?_)
    refine g_callS (q := 147) (is := []) (kc2 := 60 + 10070 + 640 * (dMs D).length) (ks2 := 300 + 130200 + 1600 * (dMs D).length) B [.int (nI (nab (mLf r) k0))] (ct_X3_level g J (n := nab (mLf r) k0)  (nab_b k0 (by omega) _ hlf9)) dX3_goOn_144 rfl q3441 q3442 q85 q3443 rfl rfl moX3_level rfl rfl (by decide) (by decide) (Nat.le_of_ble_eq_true rfl) (by omega) (by omega) (fun _ _ hx => noX_x hx) (fun v144 L1 hp144 => ?_)
    obtain ⟨rfl, rfl⟩ := hp144
    refine (show Go g κ 147 [some (.ref m), some (.int (nI i)), some (.ref x18), some (.ref x74)] [.int (nI (lev (nab (mLf r) k0))), .ref x74, .ref x18] [v0, v1, v2, v4, v6, v7, [(m, .inr (12, [.ref ls, .ref lb, .ref lk, .ref lp, .ref lr, .ref le, .ref lm, .ref lo, .int (nI 0), .int (dZz D), .int (nI (dBn D)), .int (nI (dCm D))]))], lu1_o, lwi_o, lu2_o, v5] (60 + 10070 + 640 * (dMs D).length) (300 + 130200 + 1600 * (dMs D).length) from ?_)
    refine g_stk (y := .int (nI k0)) (by rw [lev_nab (mLf r) (by omega) k0 (by omega)]) ?_
    refine (show Go g κ 147 [some (.ref m), some (.int (nI i)), some (.ref x18), some (.ref x74)] [.int (nI k0), .ref x74, .ref x18] [v0, v1, v2, v4, v6, v7, [(m, .inr (12, [.ref ls, .ref lb, .ref lk, .ref lp, .ref lr, .ref le, .ref lm, .ref lo, .int (nI 0), .int (dZz D), .int (nI (dBn D)), .int (nI (dCm D))]))], lu1_o, lwi_o, lu2_o, v5] (60 + 10070 + 640 * (dMs D).length) (300 + 130200 + 1600 * (dMs D).length) from ?_)
    refine g_callS (q := 150) (is := [8, 9]) (kc2 := 60 + 10070 + 640 * (dMs D).length) (ks2 := 300 + 130200 + 1600 * (dMs D).length) B [.ref x18, .ref x74, .int (nI k0)] (ct_X3_gets g J (a := x18) (r := ((mEp r, mLf r, nl, mRn r, mNd r, mCh r, mEv r) : MpS)) (e := x74) (Ep := Ep) (fm := k0) (we := v5) hr_8 (hE_6) (by omega)) dX3_goOn_147 rfl q3495 q3496 q85 q3497 rfl rfl moX3_gets rfl rfl (by decide) (by decide) (Nat.le_of_ble_eq_true rfl) (by omega) (by omega) (fun _ _ hx => noX_x hx) (fun v147 L1 hp147 => ?_)
    obtain ⟨u0_147, rfl, rfl, hu0_147⟩ := hp147
    refine (show Go g κ 150 [some (.ref m), some (.int (nI i)), some (.ref x18), some (.ref x74)] [] [v0, v1, v2, v4, v6, v7, [(m, .inr (12, [.ref ls, .ref lb, .ref lk, .ref lp, .ref lr, .ref le, .ref lm, .ref lo, .int (nI 0), .int (dZz D), .int (nI (dBn D)), .int (nI (dCm D))]))], lu1_o, lu2_o, u0_147, v5] (60 + 10070 + 640 * (dMs D).length) (300 + 130200 + 1600 * (dMs D).length) from ?_)
    refine g_aload_n (q := 151) B dX3_goOn_150 rfl rfl (rv_r _) ?_
    refine g_aload_n (q := 152) B dX3_goOn_151 rfl rfl (rv_r _) ?_
    refine g_aload_n (q := 153) B dX3_goOn_152 rfl rfl (rv_r _) ?_
    refine g_callV (q := 156) (is := [6, 8, 8]) (kc2 := (60 + 10070 + 640 * (dMs D).length) - 48) (ks2 := (300 + 130200 + 1600 * (dMs D).length) - 160) B [.ref x18, .ref x74] (ct_X3_comes g J (m := m) (ls := ls) (lb := lb) (lk := lk) (lp := lp) (lr := lr) (le := le) (lm := lm) (lo := lo) (th := 0) (z := (dZz D)) (bo := (dBn D)) (cm := (dCm D)) (a := x18) (r := (getR ((mEp r, mLf r, nl, mRn r, mNd r, mCh r, mEv r) : MpS) Ep k0)) (e := x74) (Ep := Ep) (we := v5) hu0_147 (hE_6)) dX3_goOn_153 rfl (rc_at B (ci := 12) rfl (k := 6) rfl) rfl q3306 q3308 qs58 q85 q3309 rfl rfl moX3_comes rfl rfl (by decide) (by decide) (Nat.le_of_ble_eq_true rfl) (by omega) (by omega) (fun _ _ hx => noX_x hx) (fun v153 L1 hp153 => ?_)
    obtain ⟨u1_153, rfl, rfl, hu1_153⟩ := hp153
    refine (show Go g κ 156 [some (.ref m), some (.int (nI i)), some (.ref x18), some (.ref x74)] [] [v0, v1, v2, v4, v6, v7, lu1_o, lu2_o, [(m, .inr (12, [.ref ls, .ref lb, .ref lk, .ref lp, .ref lr, .ref le, .ref lm, .ref lo, .int (nI 0), .int (dZz D), .int (nI (dBn D)), .int (nI (dCm D))]))], u1_153, v5] ((60 + 10070 + 640 * (dMs D).length) - 48) ((300 + 130200 + 1600 * (dMs D).length) - 160) from ?_)
    obtain ⟨wc_10, ewc_10⟩ : ∃ w : va_W, w = ([lu1_o, u1_153, lu2_o] : List va_W).flatten := ⟨_, rfl⟩
    have hwc_10 : LoP g (MpP g) lp mps ((dPs D).set i (comR (getR ((mEp r, mLf r, nl, mRn r, mNd r, mCh r, mEv r) : MpS) Ep k0) Ep)) pcap wc_10 := by
      rw [ewc_10]
      exact hlcl_o _ _ hu1_153
    refine g_close (w := wc_10) [6, 8, 6] rfl ewc_10 rfl ?_
    refine (show Go g κ 156 [some (.ref m), some (.int (nI i)), some (.ref x18), some (.ref x74)] [] [v0, v1, v2, v4, v6, v7, [(m, .inr (12, [.ref ls, .ref lb, .ref lk, .ref lp, .ref lr, .ref le, .ref lm, .ref lo, .int (nI 0), .int (dZz D), .int (nI (dBn D)), .int (nI (dCm D))]))], v5, wc_10] ((60 + 10070 + 640 * (dMs D).length) - 48) ((300 + 130200 + 1600 * (dMs D).length) - 160) from ?_)
    have hpl9 : ((dPs D).set i (comR (getR ((mEp r, mLf r, nl, mRn r, mNd r, mCh r, mEv r) : MpS) Ep k0) Ep)).length = (dPs D).length := List.length_set
    have hcfn := capF_le (dSs D).length
    refine g_aload_n (q := 157) B dX3_goOn_156 rfl rfl (rv_r _) ?_
    have hnt := nt_r (Q := (dMs D).length) (show ((dPs D).set i (comR (getR ((mEp r, mLf r, nl, mRn r, mNd r, mCh r, mEv r) : MpS) Ep k0) Ep)).length ≤ 10 from by omega) (show (dKs D).length ≤ 24 from by omega) (show (dSs D).length ≤ 980 from by omega)
    obtain ⟨hnr1, hnr2⟩ := hnt
    refine g_callV (q := 160) (is := [6, 2, 6, 5]) (kc2 := 0) (ks2 := 0) B [] (ct_X3_notes g J (m := m) (ls := ls) (lb := lb) (lk := lk) (lp := lp) (lr := lr) (le := le) (lm := lm) (lo := lo) (th := 0) (z := (dZz D)) (bo := (dBn D)) (cm := (dCm D)) (mks := mks) (Ks := (dKs D)) (kcap := kcap) (mps := mps) (Ps := ((dPs D).set i (comR (getR ((mEp r, mLf r, nl, mRn r, mNd r, mCh r, mEv r) : MpS) Ep k0) Ep))) (pcap := pcap) (Es := (dEs D)) (ecap := ecap) (n := (dSs D).length) (Q := (dMs D).length) hv2 hwc_10 hv5 (by omega) (fun i_ r_ e_ h1_ h2_ => (hN i_ r_ h1_).1 e_ h2_) (fun i_ r_ k_ c_ h1_ h2_ => (hN i_ r_ h1_).2.1 k_ c_ h2_) (fun i_ r_ x_ h1_ h2_ => (hN i_ r_ h1_).2.2.1 x_ h2_) (fun i_ r_ h1_ => (hN i_ r_ h1_).2.2.2) (Nat.le_trans (by omega) (by decide : 980 ≤ 1000))) dX3_goOn_157 rfl (rc_at B (ci := 12) rfl (k := 6) rfl) rfl q3223 q3225 qs54 q85 q3226 rfl rfl moX3_notes rfl rfl (by decide) (by decide) (Nat.le_of_ble_eq_true rfl) (by omega) (by omega) (fun _ _ hx => noX_x hx) (fun v157 L1 hp157 => ?_)
    obtain ⟨Qs157, u2_157, rfl, rfl, hu2_157, hN_157⟩ := hp157
    refine (show Go g κ 160 [some (.ref m), some (.int (nI i)), some (.ref x18), some (.ref x74)] [] [v0, v1, v4, v6, v7, [(m, .inr (12, [.ref ls, .ref lb, .ref lk, .ref lp, .ref lr, .ref le, .ref lm, .ref lo, .int (nI 0), .int (dZz D), .int (nI (dBn D)), .int (nI (dCm D))]))], v2, u2_157, v5] 0 0 from ?_)
    refine g_bipush (v := nI 109) (q := 162) B dX3_goOn_160 rfl (by decide) ?_
    obtain ⟨wc_11, ewc_11⟩ : ∃ w : va_W, w = ([[(m, .inr (12, [.ref ls, .ref lb, .ref lk, .ref lp, .ref lr, .ref le, .ref lm, .ref lo, .int (nI 0), .int (dZz D), .int (nI (dBn D)), .int (nI (dCm D))]))], v0, v1, v2, u2_157, v4, v5, v6, v7] : List va_W).flatten := ⟨_, rfl⟩
    have hwc_11 : KdP g m ((dSs D, dBx D, dKs D, Qs157, dRs D, dEs D, dMs D, dSo D, 0, dZz D, dBn D, dCm D) : MdS) wc_11 := by
      rw [ewc_11]
      exact ⟨ls, lb, lk, lp, lr, le, lm, lo, kcap, pcap, rcap, ecap, mcap, mks, mps, _, _, _, _, _, _, _, _, (by first | exact hcap | exact ⟨by first | exact kc1 | exact grow_b (by omega) kc1, by first | exact kc2 | exact grow_b (by omega) kc2, by first | exact kc3 | exact grow_b (by omega) kc3, by first | exact kc4 | exact grow_b (by omega) kc4, by first | exact kc5 | (have := grow_b (n := (dMs D).length) (cap := mcap) (by omega); first | omega | (unfold growN; split <;> (try split) <;> omega))⟩), hv0, hv1, hv2, hu2_157, hv4, hv5, hv6, hv7, rfl⟩
    refine g_close (w := wc_11) [5, 0, 0, 3, 3, 0, 2, 0, 0] rfl ewc_11 rfl ?_
    refine (show Go g κ 162 [some (.ref m), some (.int (nI i)), some (.ref x18), some (.ref x74)] [.int (nI 109)] [wc_11] 0 0 from ?_)
    exact g_zret B E dX3_goOn_162 (by decide) (⟨Qs157, _, rfl, rfl, hwc_11, hN_157⟩)
  · skip
    obtain ⟨lu1_o, lwi_o, lu2_o, hlwi_o, hlcl_o, hle_o⟩ := LoP.opn hv3 hx18 hr
    refine g_open 7 rfl hle_o rfl ?_
    refine (show Go g κ 119 [some (.ref m), some (.int (nI i)), some (.ref x18), some (.ref x74)] [] [v0, v1, v2, v4, v6, v7, [(m, .inr (12, [.ref ls, .ref lb, .ref lk, .ref lp, .ref lr, .ref le, .ref lm, .ref lo, .int (nI 0), .int (dZz D), .int (nI (dBn D)), .int (nI (dCm D))]))], v5, lu1_o, lwi_o, lu2_o] (60 + 10070 + 640 * (dMs D).length) (300 + 130200 + 1600 * (dMs D).length) from ?_)
    obtain ⟨nd_o, ch_o, ev_o, cv_o, fn_o, fc_o, v0_o, v1_o, hM_o, hfn_o, hoc_o, hcv_o, hv0_o, hv1_o, rfl⟩ := hlwi_o
    refine g_open 9 rfl rfl rfl ?_
    refine (show Go g κ 119 [some (.ref m), some (.int (nI i)), some (.ref x18), some (.ref x74)] [] [v0, v1, v2, v4, v6, v7, [(m, .inr (12, [.ref ls, .ref lb, .ref lk, .ref lp, .ref lr, .ref le, .ref lm, .ref lo, .int (nI 0), .int (dZz D), .int (nI (dBn D)), .int (nI (dCm D))]))], v5, lu1_o, lu2_o, [(x18, .inr (13, [.int (oI (mEp r)), .int (nI (mLf r)), .int (nI (mLs r)), .int (oI (mRn r)), .ref nd_o, .ref ch_o, .ref ev_o]))], [(nd_o, .inl (g.2.1 0, 31, .inl fn_o))], [(ch_o, .inl (g.2.1 5, 16, .inr (.inr (.inr (.inr fc_o)))))], v0_o, v1_o] (60 + 10070 + 640 * (dMs D).length) (300 + 130200 + 1600 * (dMs D).length) from ?_)
    refine g_aload_n (q := 120) B dX3_goOn_119 rfl rfl (rv_r _) ?_
    refine g_aload_n (q := 121) B dX3_goOn_120 rfl rfl (rv_r _) ?_
    refine g_getNM (q := 124) B (ci := 16) (k := 7) (j := 5) in_X13 rfl dX3_goOn_121 rfl rfl (hc_7_0) (Nat.le_of_ble_eq_true rfl) q3263 rfl rfl ?_
    refine g_iconst (v := nI 2) (q := 125) B dX3_goOn_124 rfl (by decide) ?_
    refine g_aload_n (q := 126) B dX3_goOn_125 rfl rfl (rv_r _) ?_
    refine g_getN (q := 129) B (ci := 13) (k := 10) (j := 1) in_X5 rfl dX3_goOn_126 rfl rfl (Nat.le_of_ble_eq_true rfl) q3119 rfl rfl ?_
    refine g_imul (v := nI (2 * (mLf r))) (q := 130) B dX3_goOn_129 rfl (pk_mul _ _) ?_
    refine g_ialdM (v := oI (((eTr Ep).2.1) (2 * (mLf r)))) (q := 131) B (k := 7) dX3_goOn_130 rfl rfl (hc_7_2) (vp_in_nI (by omega) (by omega)) (by rw [nI_clamp (by omega)]; exact hfn_7 _ (by omega)) ?_
    refine g_stk (y := .int (nI nl)) (by rw [hnl]; rfl) ?_
    refine g_putN (q := 134) (L2 := [v0, v1, v2, v4, v6, v7, [(m, .inr (12, [.ref ls, .ref lb, .ref lk, .ref lp, .ref lr, .ref le, .ref lm, .ref lo, .int (nI 0), .int (dZz D), .int (nI (dBn D)), .int (nI (dCm D))]))], v5, lu1_o, lu2_o, [(x18, .inr (13, [.int (oI (mEp r)), .int (nI (mLf r)), .int (nI nl), .int (oI (mRn r)), .ref nd_o, .ref ch_o, .ref ev_o]))], [(nd_o, .inl (g.2.1 0, 31, .inl fn_o))], [(ch_o, .inl (g.2.1 5, 16, .inr (.inr (.inr (.inr fc_o)))))], v0_o, v1_o]) B (ci := 13) (k := 10) (j := 2) in_X5 tyX5 tyX5_ok nmX5 rfl dX3_goOn_131 rfl rfl (Nat.le_of_ble_eq_true rfl) q3120 rfl rfl rfl rfl (Nat.le_of_ble_eq_true rfl) rfl ?_
    obtain ⟨wc_12, ewc_12⟩ : ∃ w : va_W, w = ([[(x18, .inr (13, [.int (oI (mEp r)), .int (nI (mLf r)), .int (nI nl), .int (oI (mRn r)), .ref nd_o, .ref ch_o, .ref ev_o]))], [(nd_o, .inl (g.2.1 0, 31, .inl fn_o))], [(ch_o, .inl (g.2.1 5, 16, .inr (.inr (.inr (.inr fc_o)))))], v0_o, v1_o] : List va_W).flatten := ⟨_, rfl⟩
    have hwc_12 : MpP g x18 ((mEp r, mLf r, nl, mRn r, mNd r, mCh r, mEv r) : MpS) wc_12 := by
      rw [ewc_12]
      exact ⟨nd_o, ch_o, ev_o, cv_o, fn_o, fc_o, _, _, (by obtain ⟨m1, m2, m3, m4, m5, m6, m7, m8⟩ := hM_o; exact ⟨m1, m2, (show nl < 1000 by omega), m4, m5, m6, m7, m8⟩), hfn_o, hoc_o, hcv_o, hv0_o, hv1_o, rfl⟩
    refine g_close (w := wc_12) [10, 10, 10, 10, 10] rfl ewc_12 rfl ?_
    refine (show Go g κ 134 [some (.ref m), some (.int (nI i)), some (.ref x18), some (.ref x74)] [] [v0, v1, v2, v4, v6, v7, [(m, .inr (12, [.ref ls, .ref lb, .ref lk, .ref lp, .ref lr, .ref le, .ref lm, .ref lo, .int (nI 0), .int (dZz D), .int (nI (dBn D)), .int (nI (dCm D))]))], v5, lu1_o, lu2_o, wc_12] (60 + 10070 + 640 * (dMs D).length) (300 + 130200 + 1600 * (dMs D).length) from ?_)
    refine g_aload_n (q := 135) B dX3_goOn_134 rfl rfl (rv_r _) ?_
    refine g_aload_n (q := 136) B dX3_goOn_135 rfl rfl (rv_r _) ?_
    refine g_aload_n (q := 137) B dX3_goOn_136 rfl rfl (rv_r _) ?_
    refine g_aload_n (q := 138) B dX3_goOn_137 rfl rfl (rv_r _) ?_
    obtain ⟨nd_13, ch_13, ev_13, cv_13, fn_13, fc_13, hM_13, hfn_13, hoc_13, hcv_13, hc_13_0, hc_13_1, hc_13_2, hs_13_0, hs_13_1⟩ := MpP.at (Sub.self hwc_12)
    refine g_getNM (q := 141) B (ci := 13) (k := 10) (j := 1) in_X5 rfl dX3_goOn_138 rfl rfl (hc_13_0) (Nat.le_of_ble_eq_true rfl) q3119 rfl rfl ?_
    refine (show Go g κ 141 [some (.ref m), some (.int (nI i)), some (.ref x18), some (.ref x74)] [.int (nI (mLf r)), .ref x74, .ref x74, .ref x18] [v0, v1, v2, v4, v6, v7, [(m, .inr (12, [.ref ls, .ref lb, .ref lk, .ref lp, .ref lr, .ref le, .ref lm, .ref lo, .int (nI 0), .int (dZz D), .int (nI (dBn D)), .int (nI (dCm D))]))], v5, lu1_o, lu2_o, wc_12] (60 + 10070 + 640 * (dMs D).length) (300 + 130200 + 1600 * (dMs D).length) from ?_)
    refine g_callS (q := 144) (is := [7]) (kc2 := 60 + 10070 + 640 * (dMs D).length) (ks2 := 300 + 130200 + 1600 * (dMs D).length) B [.ref x74, .int (nI (mLf r))] (ct_X3_lowest_s g J (e := x74) (r := Ep) (l := mLf r) (k0 := k0) (W0 := v5)  (hE_6) (hlf9) (hk1) (hk4) (hw) (hwn)) dX3_goOn_141 rfl q3491 q3492 q85 q3493 rfl rfl moX3_lowest rfl rfl (by decide) (by decide) (Nat.le_of_ble_eq_true rfl) (by omega) (by omega) (fun _ _ hx => noX_x hx) (fun v141 L1 hp141 => ?_)
    obtain ⟨rfl, rfl⟩ := hp141
    refine (show Go g κ 144 [some (.ref m), some (.int (nI i)), some (.ref x18), some (.ref x74)] [.int (nI (nab (mLf r) k0)), .ref x74, .ref x18] [v0, v1, v2, v4, v6, v7, [(m, .inr (12, [.ref ls, .ref lb, .ref lk, .ref lp, .ref lr, .ref le, .ref lm, .ref lo, .int (nI 0), .int (dZz D), .int (nI (dBn D)), .int (nI (dCm D))]))], lu1_o, lu2_o, wc_12, v5] (60 + 10070 + 640 * (dMs D).length) (300 + 130200 + 1600 * (dMs D).length) from ?_)
    refine g_callS (q := 147) (is := []) (kc2 := 60 + 10070 + 640 * (dMs D).length) (ks2 := 300 + 130200 + 1600 * (dMs D).length) B [.int (nI (nab (mLf r) k0))] (ct_X3_level g J (n := nab (mLf r) k0)  (nab_b k0 (by omega) _ hlf9)) dX3_goOn_144 rfl q3441 q3442 q85 q3443 rfl rfl moX3_level rfl rfl (by decide) (by decide) (Nat.le_of_ble_eq_true rfl) (by omega) (by omega) (fun _ _ hx => noX_x hx) (fun v144 L1 hp144 => ?_)
    obtain ⟨rfl, rfl⟩ := hp144
    refine (show Go g κ 147 [some (.ref m), some (.int (nI i)), some (.ref x18), some (.ref x74)] [.int (nI (lev (nab (mLf r) k0))), .ref x74, .ref x18] [v0, v1, v2, v4, v6, v7, [(m, .inr (12, [.ref ls, .ref lb, .ref lk, .ref lp, .ref lr, .ref le, .ref lm, .ref lo, .int (nI 0), .int (dZz D), .int (nI (dBn D)), .int (nI (dCm D))]))], lu1_o, lu2_o, wc_12, v5] (60 + 10070 + 640 * (dMs D).length) (300 + 130200 + 1600 * (dMs D).length) from ?_)
    refine g_stk (y := .int (nI k0)) (by rw [lev_nab (mLf r) (by omega) k0 (by omega)]) ?_
    refine (show Go g κ 147 [some (.ref m), some (.int (nI i)), some (.ref x18), some (.ref x74)] [.int (nI k0), .ref x74, .ref x18] [v0, v1, v2, v4, v6, v7, [(m, .inr (12, [.ref ls, .ref lb, .ref lk, .ref lp, .ref lr, .ref le, .ref lm, .ref lo, .int (nI 0), .int (dZz D), .int (nI (dBn D)), .int (nI (dCm D))]))], lu1_o, lu2_o, wc_12, v5] (60 + 10070 + 640 * (dMs D).length) (300 + 130200 + 1600 * (dMs D).length) from ?_)
    refine g_callS (q := 150) (is := [9, 9]) (kc2 := 60 + 10070 + 640 * (dMs D).length) (ks2 := 300 + 130200 + 1600 * (dMs D).length) B [.ref x18, .ref x74, .int (nI k0)] (ct_X3_gets g J (a := x18) (r := ((mEp r, mLf r, nl, mRn r, mNd r, mCh r, mEv r) : MpS)) (e := x74) (Ep := Ep) (fm := k0) (we := v5) hwc_12 (hE_6) (by omega)) dX3_goOn_147 rfl q3495 q3496 q85 q3497 rfl rfl moX3_gets rfl rfl (by decide) (by decide) (Nat.le_of_ble_eq_true rfl) (by omega) (by omega) (fun _ _ hx => noX_x hx) (fun v147 L1 hp147 => ?_)
    obtain ⟨u0_147, rfl, rfl, hu0_147⟩ := hp147
    refine (show Go g κ 150 [some (.ref m), some (.int (nI i)), some (.ref x18), some (.ref x74)] [] [v0, v1, v2, v4, v6, v7, [(m, .inr (12, [.ref ls, .ref lb, .ref lk, .ref lp, .ref lr, .ref le, .ref lm, .ref lo, .int (nI 0), .int (dZz D), .int (nI (dBn D)), .int (nI (dCm D))]))], lu1_o, lu2_o, u0_147, v5] (60 + 10070 + 640 * (dMs D).length) (300 + 130200 + 1600 * (dMs D).length) from ?_)
    refine g_aload_n (q := 151) B dX3_goOn_150 rfl rfl (rv_r _) ?_
    refine g_aload_n (q := 152) B dX3_goOn_151 rfl rfl (rv_r _) ?_
    refine g_aload_n (q := 153) B dX3_goOn_152 rfl rfl (rv_r _) ?_
    refine g_callV (q := 156) (is := [6, 8, 8]) (kc2 := (60 + 10070 + 640 * (dMs D).length) - 48) (ks2 := (300 + 130200 + 1600 * (dMs D).length) - 160) B [.ref x18, .ref x74] (ct_X3_comes g J (m := m) (ls := ls) (lb := lb) (lk := lk) (lp := lp) (lr := lr) (le := le) (lm := lm) (lo := lo) (th := 0) (z := (dZz D)) (bo := (dBn D)) (cm := (dCm D)) (a := x18) (r := (getR ((mEp r, mLf r, nl, mRn r, mNd r, mCh r, mEv r) : MpS) Ep k0)) (e := x74) (Ep := Ep) (we := v5) hu0_147 (hE_6)) dX3_goOn_153 rfl (rc_at B (ci := 12) rfl (k := 6) rfl) rfl q3306 q3308 qs58 q85 q3309 rfl rfl moX3_comes rfl rfl (by decide) (by decide) (Nat.le_of_ble_eq_true rfl) (by omega) (by omega) (fun _ _ hx => noX_x hx) (fun v153 L1 hp153 => ?_)
    obtain ⟨u1_153, rfl, rfl, hu1_153⟩ := hp153
    refine (show Go g κ 156 [some (.ref m), some (.int (nI i)), some (.ref x18), some (.ref x74)] [] [v0, v1, v2, v4, v6, v7, lu1_o, lu2_o, [(m, .inr (12, [.ref ls, .ref lb, .ref lk, .ref lp, .ref lr, .ref le, .ref lm, .ref lo, .int (nI 0), .int (dZz D), .int (nI (dBn D)), .int (nI (dCm D))]))], u1_153, v5] ((60 + 10070 + 640 * (dMs D).length) - 48) ((300 + 130200 + 1600 * (dMs D).length) - 160) from ?_)
    obtain ⟨wc_14, ewc_14⟩ : ∃ w : va_W, w = ([lu1_o, u1_153, lu2_o] : List va_W).flatten := ⟨_, rfl⟩
    have hwc_14 : LoP g (MpP g) lp mps ((dPs D).set i (comR (getR ((mEp r, mLf r, nl, mRn r, mNd r, mCh r, mEv r) : MpS) Ep k0) Ep)) pcap wc_14 := by
      rw [ewc_14]
      exact hlcl_o _ _ hu1_153
    refine g_close (w := wc_14) [6, 8, 6] rfl ewc_14 rfl ?_
    refine (show Go g κ 156 [some (.ref m), some (.int (nI i)), some (.ref x18), some (.ref x74)] [] [v0, v1, v2, v4, v6, v7, [(m, .inr (12, [.ref ls, .ref lb, .ref lk, .ref lp, .ref lr, .ref le, .ref lm, .ref lo, .int (nI 0), .int (dZz D), .int (nI (dBn D)), .int (nI (dCm D))]))], v5, wc_14] ((60 + 10070 + 640 * (dMs D).length) - 48) ((300 + 130200 + 1600 * (dMs D).length) - 160) from ?_)
    have hpl9 : ((dPs D).set i (comR (getR ((mEp r, mLf r, nl, mRn r, mNd r, mCh r, mEv r) : MpS) Ep k0) Ep)).length = (dPs D).length := List.length_set
    have hcfn := capF_le (dSs D).length
    refine g_aload_n (q := 157) B dX3_goOn_156 rfl rfl (rv_r _) ?_
    have hnt := nt_r (Q := (dMs D).length) (show ((dPs D).set i (comR (getR ((mEp r, mLf r, nl, mRn r, mNd r, mCh r, mEv r) : MpS) Ep k0) Ep)).length ≤ 10 from by omega) (show (dKs D).length ≤ 24 from by omega) (show (dSs D).length ≤ 980 from by omega)
    obtain ⟨hnr1, hnr2⟩ := hnt
    refine g_callV (q := 160) (is := [6, 2, 6, 5]) (kc2 := 0) (ks2 := 0) B [] (ct_X3_notes g J (m := m) (ls := ls) (lb := lb) (lk := lk) (lp := lp) (lr := lr) (le := le) (lm := lm) (lo := lo) (th := 0) (z := (dZz D)) (bo := (dBn D)) (cm := (dCm D)) (mks := mks) (Ks := (dKs D)) (kcap := kcap) (mps := mps) (Ps := ((dPs D).set i (comR (getR ((mEp r, mLf r, nl, mRn r, mNd r, mCh r, mEv r) : MpS) Ep k0) Ep))) (pcap := pcap) (Es := (dEs D)) (ecap := ecap) (n := (dSs D).length) (Q := (dMs D).length) hv2 hwc_14 hv5 (by omega) (fun i_ r_ e_ h1_ h2_ => (hN i_ r_ h1_).1 e_ h2_) (fun i_ r_ k_ c_ h1_ h2_ => (hN i_ r_ h1_).2.1 k_ c_ h2_) (fun i_ r_ x_ h1_ h2_ => (hN i_ r_ h1_).2.2.1 x_ h2_) (fun i_ r_ h1_ => (hN i_ r_ h1_).2.2.2) (Nat.le_trans (by omega) (by decide : 980 ≤ 1000))) dX3_goOn_157 rfl (rc_at B (ci := 12) rfl (k := 6) rfl) rfl q3223 q3225 qs54 q85 q3226 rfl rfl moX3_notes rfl rfl (by decide) (by decide) (Nat.le_of_ble_eq_true rfl) (by omega) (by omega) (fun _ _ hx => noX_x hx) (fun v157 L1 hp157 => ?_)
    obtain ⟨Qs157, u2_157, rfl, rfl, hu2_157, hN_157⟩ := hp157
    refine (show Go g κ 160 [some (.ref m), some (.int (nI i)), some (.ref x18), some (.ref x74)] [] [v0, v1, v4, v6, v7, [(m, .inr (12, [.ref ls, .ref lb, .ref lk, .ref lp, .ref lr, .ref le, .ref lm, .ref lo, .int (nI 0), .int (dZz D), .int (nI (dBn D)), .int (nI (dCm D))]))], v2, u2_157, v5] 0 0 from ?_)
    refine g_bipush (v := nI 109) (q := 162) B dX3_goOn_160 rfl (by decide) ?_
    obtain ⟨wc_15, ewc_15⟩ : ∃ w : va_W, w = ([[(m, .inr (12, [.ref ls, .ref lb, .ref lk, .ref lp, .ref lr, .ref le, .ref lm, .ref lo, .int (nI 0), .int (dZz D), .int (nI (dBn D)), .int (nI (dCm D))]))], v0, v1, v2, u2_157, v4, v5, v6, v7] : List va_W).flatten := ⟨_, rfl⟩
    have hwc_15 : KdP g m ((dSs D, dBx D, dKs D, Qs157, dRs D, dEs D, dMs D, dSo D, 0, dZz D, dBn D, dCm D) : MdS) wc_15 := by
      rw [ewc_15]
      exact ⟨ls, lb, lk, lp, lr, le, lm, lo, kcap, pcap, rcap, ecap, mcap, mks, mps, _, _, _, _, _, _, _, _, (by first | exact hcap | exact ⟨by first | exact kc1 | exact grow_b (by omega) kc1, by first | exact kc2 | exact grow_b (by omega) kc2, by first | exact kc3 | exact grow_b (by omega) kc3, by first | exact kc4 | exact grow_b (by omega) kc4, by first | exact kc5 | (have := grow_b (n := (dMs D).length) (cap := mcap) (by omega); first | omega | (unfold growN; split <;> (try split) <;> omega))⟩), hv0, hv1, hv2, hu2_157, hv4, hv5, hv6, hv7, rfl⟩
    refine g_close (w := wc_15) [5, 0, 0, 3, 3, 0, 2, 0, 0] rfl ewc_15 rfl ?_
    refine (show Go g κ 162 [some (.ref m), some (.int (nI i)), some (.ref x18), some (.ref x74)] [.int (nI 109)] [wc_15] 0 0 from ?_)
    exact g_zret B E dX3_goOn_162 (by decide) (⟨Qs157, _, rfl, rfl, hwc_15, hN_157⟩)
/-- the package at a leaf is the person's and open -/
def jnM (D : MdS) (i : Nat) (E : MeS) (l : Nat) : Prop := ∃ k q, ePk E l = some k ∧ (dKs D)[k]? = some q ∧ q.1 = i ∧ ¬ q.2.2.2.2 = true
theorem jnM_n {D : MdS} {i : Nat} {E : MeS} {l k : Nat} {q : MkS} (h1 : ePk E l = some k) (h2 : (dKs D)[k]? = some q) (h : ¬ (q.1 = i ∧ ¬ q.2.2.2.2 = true)) : ¬ jnM D i E l := by
  rintro ⟨k2, q2, z1, z2, z3, z4⟩
  rw [h1] at z1; cases z1
  rw [h2] at z2; cases z2
  exact h ⟨z3, z4⟩
theorem jnM_0 {D : MdS} {i : Nat} {E : MeS} {l : Nat} (h1 : ePk E l = none) : ¬ jnM D i E l := by
  rintro ⟨k2, q2, z1, z2, z3, z4⟩
  rw [h1] at z1; cases z1
theorem ct_X3_join_x (g : Gv) (J : Jd g) {m : Nat} {D : MdS} {v : Int32} {w0 : va_W} (hw0 : KdP g m D w0) (hD : MdB D) (hpkb : ∀ Ep ∈ dEs D, ∀ l n, ePk Ep l = some n → n < (dKs D).length) (hx : ¬ (∃ (i e : Nat) (Ep : MeS) (l : Nat), v = nI i ∧ i < (dPs D).length ∧ (dEs D)[e]? = some Ep ∧ l < 16 ∧ jnM D i Ep l)) : Ct g yX3_join (ws_ yX3_join cX3_join 7 (some .int)) 10 10 60 [.ref m, .int v] [w0] (fun (rv_ : Option Value) (rL_ : List va_W) => ∃ (k : Nat) (x : Int32) (u0 : va_W), rv_ = some (.int x) ∧ rL_ = [u0] ∧ KdP g m (dT D k) u0 ∧ ((k = 1 ∧ ¬ inR v (dPs D).length = true) ∨ (k = 2 ∧ ∃ i : Nat, v = nI i ∧ i < (dPs D).length ∧ ∀ (e : Nat) (Ep : MeS) (l : Nat), (dEs D)[e]? = some Ep → l < 16 → ¬ jnM D i Ep l))) noX := by
  refine Ct.of "KeygroveModel" [some (.ref m), some (.int v), none, none, none, none, none] rfl (by decide) rfl (Nat.le_of_ble_eq_true rfl) rfl ?_
  intro κ B E tb
  have hD0 := hD
  obtain ⟨hd1, hd2, hd3, hd4, hd5, hd6, hd7, hd8, hd9⟩ := hD0
  obtain ⟨ls, lb, lk, lp, lr, le, lm, lo, kcap, pcap, rcap, ecap, mcap, mks, mps, v0, v1, v2, v3, v4, v5, v6, v7, hcap, hv0, hv1, hv2, hv3, hv4, hv5, hv6, hv7, rfl⟩ := hw0
  refine g_open 0 rfl rfl rfl ?_
  refine (show Go g κ 0 [some (.ref m), some (.int v), none, none, none, none, none] [] [[(m, .inr (12, [.ref ls, .ref lb, .ref lk, .ref lp, .ref lr, .ref le, .ref lm, .ref lo, .int (nI (dTh D)), .int (dZz D), .int (nI (dBn D)), .int (nI (dCm D))]))], v0, v1, v2, v3, v4, v5, v6, v7] 10 60 from ?_)
  obtain ⟨kc1, kc2, kc3, kc4, kc5⟩ := (show capM kcap pcap rcap ecap mcap from hcap)
  refine g_aload_n (q := 1) B dX3_join_0 rfl rfl (rv_r _) ?_
  refine g_iload_n (q := 2) B dX3_join_1 rfl rfl ?_
  refine g_callV (q := 5) (is := [0, 3]) (kc2 := 10) (ks2 := 60) B [.int v] (ct_X3_isNoPerson g J (m := m) (ls := ls) (lb := lb) (lk := lk) (lp := lp) (lr := lr) (le := le) (lm := lm) (lo := lo) (th := dTh D) (z := dZz D) (bo := dBn D) (cm := dCm D) (mps := mps) (Ps := (dPs D)) (pcap := pcap) (v := v) hv3 (by omega)) dX3_join_2 rfl (rc_at B (ci := 12) rfl (k := 0) rfl) rfl q3506 q3508 qs70 q85 q3509 rfl rfl moX3_isNoPerson rfl rfl (by decide) (by decide) (Nat.le_of_ble_eq_true rfl) (Nat.le_of_ble_eq_true rfl) (Nat.le_of_ble_eq_true rfl) (fun _ _ hx => noX_x hx) (fun v2 L1 hp2 => ?_)
  obtain ⟨k2, rfl, rfl, hk_2⟩ := hp2
  refine (show Go g κ 5 [some (.ref m), some (.int v), none, none, none, none, none] [.int (nI (if ¬ inR v (dPs D).length = true then 1 else 0))] [v0, v1, v2, v4, v5, v6, v7, [(m, .inr (12, [.ref ls, .ref lb, .ref lk, .ref lp, .ref lr, .ref le, .ref lm, .ref lo, .int (nI k2), .int (dZz D), .int (nI (dBn D)), .int (nI (dCm D))]))], v3] 10 60 from ?_)
  refine g_if_eq (tgt := 10) (q := 8) B dX3_join_5 rfl (by decide) (bo_eq) (fun c5 => ?_) (fun c5 => ?_)
  · skip
    have hin9 : inR v (dPs D).length = true := by simpa using c5
    rw [if_pos hin9] at hk_2
    subst hk_2
    obtain ⟨i, hii, rfl⟩ := inR_t hin9
    obtain ⟨r0, hr0⟩ := get_ex (xs := dPs D) (i := i) hii
    refine (show Go g κ 10 [some (.ref m), some (.int (nI i)), none, none, none, none, none] [] [v0, v1, v2, v4, v5, v6, v7, [(m, .inr (12, [.ref ls, .ref lb, .ref lk, .ref lp, .ref lr, .ref le, .ref lm, .ref lo, .int (nI 0), .int (dZz D), .int (nI (dBn D)), .int (nI (dCm D))]))], v3] 10 60 from ?_)
    refine g_aload_n (q := 11) B dX3_join_10 rfl rfl (rv_r _) ?_
    refine g_get (q := 14) B (ci := 12) (k := 7) (j := 5) in_X3 rfl dX3_join_11 rfl rfl (Nat.le_of_ble_eq_true rfl) q3062 rfl rfl ?_
    obtain ⟨ps_1, md_1, hli_1, hln_1, hel_1⟩ := LhP.at (Sub.self hv5)
    refine g_callV (q := 17) (is := [4]) (kc2 := 9) (ks2 := 56) B [] (ct_J2_iterator_s g J (p := le) (xs := ps_1) (md := md_1) (cap := ecap) (W0 := v5)  (hli_1)) dX3_join_14 rfl (rc_in B (ci := 21) rfl (k := 4) rfl (LhP.hm hv5)) rfl q3232 q805 q3668 q81 q807 rfl rfl moJ2_iterator rfl rfl (by decide) (by decide) (Nat.le_of_ble_eq_true rfl) (Nat.le_of_ble_eq_true rfl) (Nat.le_of_ble_eq_true rfl) (fun _ _ hx => noX_x hx) (fun v14 L1 hp14 => ?_)
    obtain ⟨it14, rfl, rfl⟩ := hp14
    refine (show Go g κ 17 [some (.ref m), some (.int (nI i)), none, none, none, none, none] [.ref it14] [v0, v1, v2, v4, v6, v7, [(m, .inr (12, [.ref ls, .ref lb, .ref lk, .ref lp, .ref lr, .ref le, .ref lm, .ref lo, .int (nI 0), .int (dZz D), .int (nI (dBn D)), .int (nI (dCm D))]))], v3, [(it14, .inr (22, [.int (nI 0), .int (-1), .int md_1, .ref le]))], v5] 9 56 from ?_)
    refine g_astore_n (q := 18) (lv2 := [some (.ref m), some (.int (nI i)), some (.ref it14), none, none, none, none]) B dX3_join_17 rfl (Nat.le_of_ble_eq_true rfl) (rv_r _) rfl ?_
    have lp18 : ∀ (n18 : Nat) (k : Nat) (lrt : Int32) , (k ≤ (dEs D).length) → (∀ (e : Nat) (Ep : MeS) (l : Nat), e < k → (dEs D)[e]? = some Ep → l < 16 → ¬ jnM D i Ep l) → (dEs D).length - k = n18 → Go g κ 18 [some (.ref m), some (.int (nI i)), some (.ref it14), none, none, none, none] [] [v0, v1, v2, v4, v6, v7, [(m, .inr (12, [.ref ls, .ref lb, .ref lk, .ref lp, .ref lr, .ref le, .ref lm, .ref lo, .int (nI 0), .int (dZz D), .int (nI (dBn D)), .int (nI (dCm D))]))], v3, [(it14, .inr (22, [.int (nI k), .int lrt, .int md_1, .ref le]))], v5] 9 56 := by
      intro n18
      induction n18 using Nat.strongRecOn with
      | _ n18 ih18 =>
      intro k lrt  hk hjo hmu18
      refine g_aload_n (q := 19) B dX3_join_18 rfl rfl (rv_r _) ?_
      refine g_callF (q := 24) (is := [8, 8]) (kc2 := 9) (ks2 := 56) B [] (ct_J19_hasNext_s g J (p := le) (xs := ps_1) (md := md_1) (cap := ecap) (it := it14) (c := k) (lr := lrt) (W1 := v5)  (hli_1) (by have := hln_1.1; omega)) dX3_join_19 rfl (ci := 22) rfl (rc_at B (ci := 22) rfl (k := 8) rfl) q3234 q940 q942 q104 q944 q938 q937 q943 q941 q939 rfl rfl mojava_util_Iterator_hasNext___Z rfl rfl (by decide) (by decide) (Nat.le_of_ble_eq_true rfl) (Nat.le_of_ble_eq_true rfl) (Nat.le_of_ble_eq_true rfl) (fun _ _ hx => noX_x hx) (fun v19 L1 hp19 => ?_)
      obtain ⟨rfl, rfl⟩ := hp19
      refine (show Go g κ 24 [some (.ref m), some (.int (nI i)), some (.ref it14), none, none, none, none] [.int (nI (if ¬ k = ps_1.length then 1 else 0))] [v0, v1, v2, v4, v6, v7, [(m, .inr (12, [.ref ls, .ref lb, .ref lk, .ref lp, .ref lr, .ref le, .ref lm, .ref lo, .int (nI 0), .int (dZz D), .int (nI (dBn D)), .int (nI (dCm D))]))], v3, [(it14, .inr (22, [.int (nI k), .int lrt, .int md_1, .ref le]))], v5] 9 56 from ?_)
      rw [hln_1.1]
      refine (show Go g κ 24 [some (.ref m), some (.int (nI i)), some (.ref it14), none, none, none, none] [.int (nI (if ¬ k = (dEs D).length then 1 else 0))] [v0, v1, v2, v4, v6, v7, [(m, .inr (12, [.ref ls, .ref lb, .ref lk, .ref lp, .ref lr, .ref le, .ref lm, .ref lo, .int (nI 0), .int (dZz D), .int (nI (dBn D)), .int (nI (dCm D))]))], v3, [(it14, .inr (22, [.int (nI k), .int lrt, .int md_1, .ref le]))], v5] 9 56 from ?_)
      refine g_if_eq (tgt := 198) (q := 27) B dX3_join_24 rfl (by decide) (bo_eq) (fun c24 => ?_) (fun c24 => ?_)
      · skip
        refine g_aload_n (q := 199) B dX3_join_198 rfl rfl (rv_r _) ?_
        refine g_iconst (v := nI 2) (q := 200) B dX3_join_199 rfl (by decide) ?_
        refine g_put (q := 203) (L2 := [v0, v1, v2, v4, v6, v7, [(m, .inr (12, [.ref ls, .ref lb, .ref lk, .ref lp, .ref lr, .ref le, .ref lm, .ref lo, .int (nI 2), .int (dZz D), .int (nI (dBn D)), .int (nI (dCm D))]))], v3, [(it14, .inr (22, [.int (nI k), .int lrt, .int md_1, .ref le]))], v5]) B (ci := 12) (k := 6) (j := 8) in_X3 tyX3 tyX3_ok nmX3 rfl dX3_join_200 rfl rfl (Nat.le_of_ble_eq_true rfl) q3065 rfl rfl rfl rfl (Nat.le_of_ble_eq_true rfl) rfl ?_
        refine g_iconst (v := nI 0) (q := 204) B dX3_join_203 rfl (by decide) ?_
        obtain ⟨wc_2, ewc_2⟩ : ∃ w : va_W, w = ([[(m, .inr (12, [.ref ls, .ref lb, .ref lk, .ref lp, .ref lr, .ref le, .ref lm, .ref lo, .int (nI 2), .int (dZz D), .int (nI (dBn D)), .int (nI (dCm D))]))], v0, v1, v2, v3, v4, v5, v6, v7] : List va_W).flatten := ⟨_, rfl⟩
        have hwc_2 : KdP g m (dT D 2) wc_2 := by
          rw [ewc_2]
          exact ⟨ls, lb, lk, lp, lr, le, lm, lo, kcap, pcap, rcap, ecap, mcap, mks, mps, _, _, _, _, _, _, _, _, hcap, hv0, hv1, hv2, hv3, hv4, hv5, hv6, hv7, rfl⟩
        refine g_close (w := wc_2) [6, 0, 0, 0, 3, 0, 3, 0, 0] rfl ewc_2 rfl ?_
        refine (show Go g κ 204 [some (.ref m), some (.int (nI i)), some (.ref it14), none, none, none, none] [.int (nI 0)] [[(it14, .inr (22, [.int (nI k), .int lrt, .int md_1, .ref le]))], wc_2] 9 56 from ?_)
        refine g_pk [1] rfl rfl ?_
        refine (show Go g κ 204 [some (.ref m), some (.int (nI i)), some (.ref it14), none, none, none, none] [.int (nI 0)] [wc_2] 9 56 from ?_)
        exact g_iret B E dX3_join_204 (⟨2, nI 0, _, rfl, rfl, hwc_2, Or.inr ⟨rfl, i, rfl, hii, fun e E2 l h1 h2 => hjo e E2 l (by have := get_lt2 h1; omega) h1 h2⟩⟩)
      · skip
        have c24 := Classical.not_not.mp c24
        refine g_aload_n (q := 28) B dX3_join_27 rfl rfl (rv_r _) ?_
        obtain ⟨r28, hr28⟩ := get_ex (xs := (dEs D)) (i := k) (by omega)
        obtain ⟨x28, hx28⟩ := get_ex (xs := ps_1) (i := k) (by have := get_lt2 hr28; have := hln_1.1; omega)
        have hE_3 := hel_1 _ _ _ hx28 hr28
        refine g_callF (q := 33) (is := [8, 8]) (kc2 := 9) (ks2 := 56) B [] (ct_J19_next_s g J (p := le) (xs := ps_1) (md := md_1) (cap := ecap) (it := it14) (c := k) (lr := lrt) (x := x28) (W1 := v5)  (hli_1) (hx28)) dX3_join_28 rfl (ci := 22) rfl (rc_at B (ci := 22) rfl (k := 8) rfl) q3236 q967 q969 q104 q971 q966 q965 q970 q968 q939 rfl rfl mojava_util_Iterator_next___Ljava_lang_Object_ rfl rfl (by decide) (by decide) (Nat.le_of_ble_eq_true rfl) (Nat.le_of_ble_eq_true rfl) (Nat.le_of_ble_eq_true rfl) (fun _ _ hx => noX_x hx) (fun v28 L1 hp28 => ?_)
        obtain ⟨rfl, rfl⟩ := hp28
        refine (show Go g κ 33 [some (.ref m), some (.int (nI i)), some (.ref it14), none, none, none, none] [.ref x28] [v0, v1, v2, v4, v6, v7, [(m, .inr (12, [.ref ls, .ref lb, .ref lk, .ref lp, .ref lr, .ref le, .ref lm, .ref lo, .int (nI 0), .int (dZz D), .int (nI (dBn D)), .int (nI (dCm D))]))], v3, [(it14, .inr (22, [.int (nI (k + 1)), .int (nI k), .int md_1, .ref le]))], v5] 9 56 from ?_)
        refine g_castRS (ci := 16) (q := 36) B rfl (rc_in B (ci := 16) rfl (k := 9) rfl (Sub.hm (hE_3) fun _ z => EpP.hm z)) dX3_join_33 rfl q3243 ?_
        refine g_astore_n (q := 37) (lv2 := [some (.ref m), some (.int (nI i)), some (.ref it14), some (.ref x28), none, none, none]) B dX3_join_36 rfl (Nat.le_of_ble_eq_true rfl) (rv_r _) rfl ?_
        refine g_iconst (v := nI 0) (q := 38) B dX3_join_37 rfl (by decide) ?_
        refine g_istore (q := 40) (lv2 := [some (.ref m), some (.int (nI i)), some (.ref it14), some (.ref x28), some (.int (nI 0)), none, none]) B dX3_join_38 rfl (Nat.le_of_ble_eq_true rfl) rfl ?_
        have lp40 : ∀ (n40 : Nat) (n : Nat) , (n ≤ 16) → (∀ l, l < n → ¬ jnM D i r28 l) → 16 - n = n40 → Go g κ 40 [some (.ref m), some (.int (nI i)), some (.ref it14), some (.ref x28), some (.int (nI n)), none, none] [] [v0, v1, v2, v4, v6, v7, [(m, .inr (12, [.ref ls, .ref lb, .ref lk, .ref lp, .ref lr, .ref le, .ref lm, .ref lo, .int (nI 0), .int (dZz D), .int (nI (dBn D)), .int (nI (dCm D))]))], v3, [(it14, .inr (22, [.int (nI (k + 1)), .int (nI k), .int md_1, .ref le]))], v5] 9 56 := by
          intro n40
          induction n40 using Nat.strongRecOn with
          | _ n40 ih40 =>
          intro n  hn hjn hmu40
          refine g_iload (q := 42) B dX3_join_40 rfl rfl ?_
          refine g_bipush (v := nI 16) (q := 44) B dX3_join_42 rfl (by decide) ?_
          refine g_icmp_ge (tgt := 195) (q := 47) B dX3_join_44 rfl (by decide) (nI_leI (by omega) (by omega)) (fun c44 => ?_) (fun c44 => ?_)
          · skip
            refine g_goto (tgt := 18) B dX3_join_195 (by decide) ?_
            refine g_fg 3 rfl ?_
            refine g_fg 4 rfl ?_
            exact ih18 _ (by have := get_lt2 hr28; omega) (k + 1) (nI k) (by first | assumption | omega | rfl) (fun e E2 l h1 h2 h3 => by rcases Nat.lt_or_ge e k with z | z; exact hjo e E2 l z h2 h3; rw [show e = k by omega, hr28] at h2; cases h2; exact hjn l (by omega)) rfl
          · skip
            refine g_aload_n (q := 48) B dX3_join_47 rfl rfl (rv_r _) ?_
            obtain ⟨ap_4, an_4, al_4, ac_4, aw_4, am_4, ak_4, fp_4, fn_4, fl_4, fc_4, fw_4, fm_4, fk_4, hE_4, hfp_4, hfn_4, hfl_4, hfc_4, hfw_4, hfm_4, hfk_4, hc_4_0, hc_4_1, hc_4_2, hc_4_3, hc_4_4, hc_4_5, hc_4_6, hc_4_7⟩ := EpP.at (hE_3)
            refine g_getNM (q := 51) B (ci := 16) (k := 9) (j := 10) in_X13 rfl dX3_join_48 rfl rfl (hc_4_0) (Nat.le_of_ble_eq_true rfl) q3273 rfl rfl ?_
            refine g_iload (q := 53) B dX3_join_51 rfl rfl ?_
            refine g_ialdM (v := oI ((ePk r28) n)) (q := 54) B (k := 9) dX3_join_53 rfl rfl (hc_4_7) (vp_in_nI (by omega) (by omega)) (by rw [nI_clamp (by omega)]; exact hfk_4 _ (by omega)) ?_
            refine g_istore (q := 56) (lv2 := [some (.ref m), some (.int (nI i)), some (.ref it14), some (.ref x28), some (.int (nI n)), some (.int (oI ((ePk r28) n))), none]) B dX3_join_54 rfl (Nat.le_of_ble_eq_true rfl) rfl ?_
            refine g_iload (q := 58) B dX3_join_56 rfl rfl ?_
            refine g_iconst (v := -1) (q := 59) B dX3_join_58 rfl (by decide) ?_
            refine g_icmp_eq (tgt := 189) (q := 62) B dX3_join_59 rfl (by decide) (oI_n ((fun n h => by have := hE_4.2.2.2.2.2 _ _ h; omega))) (fun c59 => ?_) (fun c59 => ?_)
            · skip
              refine g_lvs (lv2 := [some (.ref m), some (.int (nI i)), some (.ref it14), some (.ref x28), some (.int (nI n)), some (.int (-1)), none]) (st2 := []) (by rw [(show oI ((ePk r28) n) = -1 from by rw [c59]; rfl)]) (by first | rfl | rw [(show oI ((ePk r28) n) = -1 from by rw [c59]; rfl)]) ?_
              refine g_iinc (v := nI (n + 1)) (q := 192) (lv2 := [some (.ref m), some (.int (nI i)), some (.ref it14), some (.ref x28), some (.int (nI (n + 1))), some (.int (-1)), none]) B dX3_join_189 rfl rfl (nI_add _ 1) (Nat.le_of_ble_eq_true rfl) rfl ?_
              refine g_goto (tgt := 40) B dX3_join_192 (by decide) ?_
              refine g_fg 5 rfl ?_
              exact ih40 _ (by omega) (n + 1) (by omega) (fun l hl => by rcases Nat.lt_or_ge l n with z | z; exact hjn l z; rw [show l = n by omega]; first | exact jnM_0 c59 | exact jnM_n ev59 hq9 (fun z => c78 z.1) | exact jnM_n ev59 hq9 (fun z => z.2 c96)) rfl
            · skip
              obtain ⟨v59, ev59⟩ := Option.ne_none_iff_exists'.mp c59
              refine g_lvs (lv2 := [some (.ref m), some (.int (nI i)), some (.ref it14), some (.ref x28), some (.int (nI n)), some (.int (nI v59)), none]) (st2 := []) (by rw [(show oI ((ePk r28) n) = nI v59 from by rw [ev59]; rfl)]) (by first | rfl | rw [(show oI ((ePk r28) n) = nI v59 from by rw [ev59]; rfl)]) ?_
              have hkk := hpkb _ (List.mem_of_getElem? hr28) _ _ ev59
              obtain ⟨q9, hq9⟩ := get_ex (xs := dKs D) (i := v59) hkk
              refine g_aload_n (q := 63) B dX3_join_62 rfl rfl (rv_r _) ?_
              refine g_get (q := 66) B (ci := 12) (k := 6) (j := 2) in_X3 rfl dX3_join_63 rfl rfl (Nat.le_of_ble_eq_true rfl) q3059 rfl rfl ?_
              refine g_iload (q := 68) B dX3_join_66 rfl rfl ?_
              obtain ⟨md_5, hli_5, hln_5, hel_5⟩ := LoP.at (Sub.self hv2)
              obtain ⟨x68, hx68⟩ := get_ex (xs := mks) (i := v59) (by have := get_lt2 (show (dKs D)[v59]? = some q9 from hq9); have := hln_5.1; omega)
              have hE_6 := hel_5 _ _ _ hx68 (show (dKs D)[v59]? = some q9 from hq9)
              refine g_callV (q := 71) (is := [2]) (kc2 := 9) (ks2 := 56) B [.int (nI v59)] (ct_J2_get_s g J (p := lk) (xs := mks) (md := md_5) (cap := kcap) (i := v59) (x := x68) (W0 := v2)  (hli_5) (hx68)) dX3_join_68 rfl (rc_in B (ci := 21) rfl (k := 2) rfl (LoP.hm hv2)) rfl q3231 q1095 q3667 q81 q1097 rfl rfl moJ2_get rfl rfl (by decide) (by decide) (Nat.le_of_ble_eq_true rfl) (Nat.le_of_ble_eq_true rfl) (Nat.le_of_ble_eq_true rfl) (fun _ _ hx => noX_x hx) (fun v68 L1 hp68 => ?_)
              obtain ⟨rfl, rfl⟩ := hp68
              refine (show Go g κ 71 [some (.ref m), some (.int (nI i)), some (.ref it14), some (.ref x28), some (.int (nI n)), some (.int (nI v59)), none] [.ref x68] [v0, v1, v4, v6, v7, [(m, .inr (12, [.ref ls, .ref lb, .ref lk, .ref lp, .ref lr, .ref le, .ref lm, .ref lo, .int (nI 0), .int (dZz D), .int (nI (dBn D)), .int (nI (dCm D))]))], v3, [(it14, .inr (22, [.int (nI (k + 1)), .int (nI k), .int md_1, .ref le]))], v5, v2] 9 56 from ?_)
              refine g_castRS (ci := 15) (q := 74) B rfl (rc_in B (ci := 15) rfl (k := 9) rfl (Sub.hm (hE_6) fun _ z => MqP.hm z)) dX3_join_71 rfl q3198 ?_
              obtain ⟨hK_7, hc_7_0⟩ := MqP.at (hE_6)
              refine g_getNM (q := 77) B (ci := 15) (k := 9) (j := 0) in_X9 rfl dX3_join_74 rfl rfl (hc_7_0) (Nat.le_of_ble_eq_true rfl) q3205 rfl rfl ?_
              have hqb := (MqP.at (hE_6)).1.1
              refine g_iload_n (q := 78) B dX3_join_77 rfl rfl ?_
              refine g_icmp_ne (tgt := 189) (q := 81) B dX3_join_78 rfl (by decide) (not_congr (nI_eq (by omega) (by omega))) (fun c78 => ?_) (fun c78 => ?_)
              · skip
                refine g_iinc (v := nI (n + 1)) (q := 192) (lv2 := [some (.ref m), some (.int (nI i)), some (.ref it14), some (.ref x28), some (.int (nI (n + 1))), some (.int (nI v59)), none]) B dX3_join_189 rfl rfl (nI_add _ 1) (Nat.le_of_ble_eq_true rfl) rfl ?_
                refine g_goto (tgt := 40) B dX3_join_192 (by decide) ?_
                refine g_fg 5 rfl ?_
                refine g_pk [0, 0, 7, 0, 0, 0, 0, 0, 0, 0] rfl rfl ?_
                refine (show Go g κ 40 [some (.ref m), some (.int (nI i)), some (.ref it14), some (.ref x28), some (.int (nI (n + 1))), none, none] [] [v0, v1, v2, v4, v6, v7, [(m, .inr (12, [.ref ls, .ref lb, .ref lk, .ref lp, .ref lr, .ref le, .ref lm, .ref lo, .int (nI 0), .int (dZz D), .int (nI (dBn D)), .int (nI (dCm D))]))], v3, [(it14, .inr (22, [.int (nI (k + 1)), .int (nI k), .int md_1, .ref le]))], v5] 9 56 from ?_)
                exact ih40 _ (by omega) (n + 1) (by omega) (fun l hl => by rcases Nat.lt_or_ge l n with z | z; exact hjn l z; rw [show l = n by omega]; first | exact jnM_0 c59 | exact jnM_n ev59 hq9 (fun z => c78 z.1) | exact jnM_n ev59 hq9 (fun z => z.2 c96)) rfl
              · skip
                refine g_aload_n (q := 82) B dX3_join_81 rfl rfl (rv_r _) ?_
                refine g_get (q := 85) B (ci := 12) (k := 5) (j := 2) in_X3 rfl dX3_join_82 rfl rfl (Nat.le_of_ble_eq_true rfl) q3059 rfl rfl ?_
                refine g_iload (q := 87) B dX3_join_85 rfl rfl ?_
                have hE_8 := hel_5 _ _ _ hx68 (show (dKs D)[v59]? = some q9 from hq9)
                refine g_callV (q := 90) (is := [9]) (kc2 := 9) (ks2 := 56) B [.int (nI v59)] (ct_J2_get_s g J (p := lk) (xs := mks) (md := md_5) (cap := kcap) (i := v59) (x := x68) (W0 := v2)  (hli_5) (hx68)) dX3_join_87 rfl (rc_in B (ci := 21) rfl (k := 9) rfl (LoP.hm hv2)) rfl q3231 q1095 q3667 q81 q1097 rfl rfl moJ2_get rfl rfl (by decide) (by decide) (Nat.le_of_ble_eq_true rfl) (Nat.le_of_ble_eq_true rfl) (Nat.le_of_ble_eq_true rfl) (fun _ _ hx => noX_x hx) (fun v87 L1 hp87 => ?_)
                obtain ⟨rfl, rfl⟩ := hp87
                refine (show Go g κ 90 [some (.ref m), some (.int (nI i)), some (.ref it14), some (.ref x28), some (.int (nI n)), some (.int (nI v59)), none] [.ref x68] [v0, v1, v4, v6, v7, [(m, .inr (12, [.ref ls, .ref lb, .ref lk, .ref lp, .ref lr, .ref le, .ref lm, .ref lo, .int (nI 0), .int (dZz D), .int (nI (dBn D)), .int (nI (dCm D))]))], v3, [(it14, .inr (22, [.int (nI (k + 1)), .int (nI k), .int md_1, .ref le]))], v5, v2] 9 56 from ?_)
                refine g_castRS (ci := 15) (q := 93) B rfl (rc_in B (ci := 15) rfl (k := 9) rfl (Sub.hm (hE_8) fun _ z => MqP.hm z)) dX3_join_90 rfl q3198 ?_
                refine g_getNM (q := 96) B (ci := 15) (k := 9) (j := 4) in_X9 rfl dX3_join_93 rfl rfl (hc_7_0) (Nat.le_of_ble_eq_true rfl) q3211 rfl rfl ?_
                refine g_if_eq (tgt := 102) (q := 99) B dX3_join_96 rfl (by decide) (bo_eq) (fun c96 => ?_) (fun c96 => ?_)
                · skip
                  exact absurd ⟨i, k, r28, n, rfl, hii, hr28, by omega, v59, q9, ev59, hq9, Classical.not_not.mp c78, c96⟩ hx
                · skip
                  have c96 := Classical.not_not.mp c96
                  refine g_goto (tgt := 189) B dX3_join_99 (by decide) ?_
                  refine g_iinc (v := nI (n + 1)) (q := 192) (lv2 := [some (.ref m), some (.int (nI i)), some (.ref it14), some (.ref x28), some (.int (nI (n + 1))), some (.int (nI v59)), none]) B dX3_join_189 rfl rfl (nI_add _ 1) (Nat.le_of_ble_eq_true rfl) rfl ?_
                  refine g_goto (tgt := 40) B dX3_join_192 (by decide) ?_
                  refine g_fg 5 rfl ?_
                  refine g_pk [0, 0, 7, 0, 0, 0, 0, 0, 0, 0] rfl rfl ?_
                  refine (show Go g κ 40 [some (.ref m), some (.int (nI i)), some (.ref it14), some (.ref x28), some (.int (nI (n + 1))), none, none] [] [v0, v1, v2, v4, v6, v7, [(m, .inr (12, [.ref ls, .ref lb, .ref lk, .ref lp, .ref lr, .ref le, .ref lm, .ref lo, .int (nI 0), .int (dZz D), .int (nI (dBn D)), .int (nI (dCm D))]))], v3, [(it14, .inr (22, [.int (nI (k + 1)), .int (nI k), .int md_1, .ref le]))], v5] 9 56 from ?_)
                  exact ih40 _ (by omega) (n + 1) (by omega) (fun l hl => by rcases Nat.lt_or_ge l n with z | z; exact hjn l z; rw [show l = n by omega]; first | exact jnM_0 c59 | exact jnM_n ev59 hq9 (fun z => c78 z.1) | exact jnM_n ev59 hq9 (fun z => z.2 c96)) rfl
        exact lp40 _ 0 (Nat.zero_le _) (fun l h => absurd h (Nat.not_lt_zero l)) rfl
    exact lp18 _ 0 (-1) (Nat.zero_le _) (fun e Ep l h => absurd h (Nat.not_lt_zero e)) rfl
  · skip
    have c5 := Classical.not_not.mp c5
    refine g_iconst (v := nI 0) (q := 9) B dX3_join_8 rfl (by decide) ?_
    obtain ⟨wc_9, ewc_9⟩ : ∃ w : va_W, w = ([[(m, .inr (12, [.ref ls, .ref lb, .ref lk, .ref lp, .ref lr, .ref le, .ref lm, .ref lo, .int (nI k2), .int (dZz D), .int (nI (dBn D)), .int (nI (dCm D))]))], v0, v1, v2, v3, v4, v5, v6, v7] : List va_W).flatten := ⟨_, rfl⟩
    have hwc_9 : KdP g m (dT D k2) wc_9 := by
      rw [ewc_9]
      exact ⟨ls, lb, lk, lp, lr, le, lm, lo, kcap, pcap, rcap, ecap, mcap, mks, mps, _, _, _, _, _, _, _, _, hcap, hv0, hv1, hv2, hv3, hv4, hv5, hv6, hv7, rfl⟩
    refine g_close (w := wc_9) [7, 0, 0, 0, 4, 0, 0, 0, 0] rfl ewc_9 rfl ?_
    refine (show Go g κ 9 [some (.ref m), some (.int v), none, none, none, none, none] [.int (nI 0)] [wc_9] 10 60 from ?_)
    exact g_iret B E dX3_join_9 (⟨k2, nI 0, _, rfl, rfl, hwc_9, Or.inl ⟨by rw [if_neg c5] at hk_2; exact hk_2, c5⟩⟩)
set_option maxHeartbeats 16000000 in
theorem ct_X3_join_y (g : Gv) (J : Jd g) {m : Nat} {D : MdS} {i : Nat} {r : MpS} {e : Nat} {Ep : MeS} {l : Nat} {kk : Nat} {q : MkS} {k0 : Nat} {w0 : va_W} (hw0 : KdP g m D w0) (hD : MdB D) (hpkb : ∀ Ep ∈ dEs D, ∀ l n, ePk Ep l = some n → n < (dKs D).length) (hr : (dPs D)[i]? = some r) (hE : (dEs D)[e]? = some Ep) (hl : l < 16) (hjk : ePk Ep l = some kk) (hq : (dKs D)[kk]? = some q) (hq1 : q.1 = i) (hq2 : ¬ q.2.2.2.2 = true) (hfst : ∀ (e2 : Nat) (E2 : MeS) (l2 : Nat), (dEs D)[e2]? = some E2 → l2 < 16 → (e2 < e ∨ (e2 = e ∧ l2 < l)) → ¬ jnM D i E2 l2) (hk1 : 1 ≤ k0) (hk4 : k0 ≤ 4) (hw : eWy Ep (nab l k0) = true) (hwn : ∀ j, 1 ≤ j → j < k0 → ¬ eWy Ep (nab l j) = true) (hN : NtB ((dKs D).set kk ((q.1, q.2.1, q.2.2.1, q.2.2.2.1, true) : MkS)) (dEs D) ((dPs D).set i (comR (getR ((mEp r, l, q.2.1, mRn r, mNd r, mCh r, mEv r) : MpS) Ep k0) Ep)) (dSs D).length (dMs D).length) : Ct g yX3_join (ws_ yX3_join cX3_join 7 (some .int)) 10 (60 + 10070 + 640 * (dMs D).length) (300 + 130200 + 1600 * (dMs D).length) [.ref m, .int (nI i)] [w0] (fun (rv_ : Option Value) (rL_ : List va_W) => ∃ (Qs : List MpS) (u0 : va_W), rv_ = some (.int (nI (eNo Ep))) ∧ rL_ = [u0] ∧ KdP g m ((dSs D, dBx D, ((dKs D).set kk ((q.1, q.2.1, q.2.2.1, q.2.2.2.1, true) : MkS)), Qs, dRs D, dEs D, dMs D, dSo D, 0, dZz D, dBn D, dCm D) : MdS) u0 ∧ (NtR ((dKs D).set kk ((q.1, q.2.1, q.2.2.1, q.2.2.2.1, true) : MkS)) (dEs D) ((dPs D).set i (comR (getR ((mEp r, l, q.2.1, mRn r, mNd r, mCh r, mEv r) : MpS) Ep k0) Ep)) Qs ((dPs D).set i (comR (getR ((mEp r, l, q.2.1, mRn r, mNd r, mCh r, mEv r) : MpS) Ep k0) Ep)).length)) noX := by
  refine Ct.of "KeygroveModel" [some (.ref m), some (.int (nI i)), none, none, none, none, none] rfl (by decide) rfl (Nat.le_of_ble_eq_true rfl) rfl ?_
  intro κ B E tb
  have hD0 := hD
  obtain ⟨hd1, hd2, hd3, hd4, hd5, hd6, hd7, hd8, hd9⟩ := hD0
  obtain ⟨ls, lb, lk, lp, lr, le, lm, lo, kcap, pcap, rcap, ecap, mcap, mks, mps, v0, v1, v2, v3, v4, v5, v6, v7, hcap, hv0, hv1, hv2, hv3, hv4, hv5, hv6, hv7, rfl⟩ := hw0
  refine g_open 0 rfl rfl rfl ?_
  refine (show Go g κ 0 [some (.ref m), some (.int (nI i)), none, none, none, none, none] [] [[(m, .inr (12, [.ref ls, .ref lb, .ref lk, .ref lp, .ref lr, .ref le, .ref lm, .ref lo, .int (nI (dTh D)), .int (dZz D), .int (nI (dBn D)), .int (nI (dCm D))]))], v0, v1, v2, v3, v4, v5, v6, v7] (60 + 10070 + 640 * (dMs D).length) (300 + 130200 + 1600 * (dMs D).length) from ?_)
  obtain ⟨kc1, kc2, kc3, kc4, kc5⟩ := (show capM kcap pcap rcap ecap mcap from hcap)
  have hi := get_lt2 hr
  have hel := get_lt2 hE
  refine g_aload_n (q := 1) B dX3_join_0 rfl rfl (rv_r _) ?_
  refine g_iload_n (q := 2) B dX3_join_1 rfl rfl ?_
  refine g_callV (q := 5) (is := [0, 3]) (kc2 := 60 + 10070 + 640 * (dMs D).length) (ks2 := 300 + 130200 + 1600 * (dMs D).length) B [.int (nI i)] (ct_X3_isNoPerson g J (m := m) (ls := ls) (lb := lb) (lk := lk) (lp := lp) (lr := lr) (le := le) (lm := lm) (lo := lo) (th := dTh D) (z := dZz D) (bo := dBn D) (cm := dCm D) (mps := mps) (Ps := (dPs D)) (pcap := pcap) (v := nI i) hv3 (by omega)) dX3_join_2 rfl (rc_at B (ci := 12) rfl (k := 0) rfl) rfl q3506 q3508 qs70 q85 q3509 rfl rfl moX3_isNoPerson rfl rfl (by decide) (by decide) (Nat.le_of_ble_eq_true rfl) (by omega) (by omega) (fun _ _ hx => noX_x hx) (fun v2 L1 hp2 => ?_)
  obtain ⟨k2, rfl, rfl, hk_2⟩ := hp2
  refine (show Go g κ 5 [some (.ref m), some (.int (nI i)), none, none, none, none, none] [.int (nI (if ¬ inR (nI i) (dPs D).length = true then 1 else 0))] [v0, v1, v2, v4, v5, v6, v7, [(m, .inr (12, [.ref ls, .ref lb, .ref lk, .ref lp, .ref lr, .ref le, .ref lm, .ref lo, .int (nI k2), .int (dZz D), .int (nI (dBn D)), .int (nI (dCm D))]))], v3] (60 + 10070 + 640 * (dMs D).length) (300 + 130200 + 1600 * (dMs D).length) from ?_)
  refine g_if_eq (tgt := 10) (q := 8) B dX3_join_5 rfl (by decide) (iff_true_intro (bo_eq.mpr (by rw [inR_k (by omega)]; simpa using hi))) (fun _ => ?_) (fun z => absurd trivial z)
  have hk20 : k2 = 0 := by rw [hk_2, if_pos (by rw [inR_k (by omega)]; simpa using hi)]
  subst hk20
  refine (show Go g κ 10 [some (.ref m), some (.int (nI i)), none, none, none, none, none] [] [v0, v1, v2, v4, v5, v6, v7, [(m, .inr (12, [.ref ls, .ref lb, .ref lk, .ref lp, .ref lr, .ref le, .ref lm, .ref lo, .int (nI 0), .int (dZz D), .int (nI (dBn D)), .int (nI (dCm D))]))], v3] (60 + 10070 + 640 * (dMs D).length) (300 + 130200 + 1600 * (dMs D).length) from ?_)
  refine g_aload_n (q := 11) B dX3_join_10 rfl rfl (rv_r _) ?_
  refine g_get (q := 14) B (ci := 12) (k := 7) (j := 5) in_X3 rfl dX3_join_11 rfl rfl (Nat.le_of_ble_eq_true rfl) q3062 rfl rfl ?_
  obtain ⟨ps_1, md_1, hli_1, hln_1, hel_1⟩ := LhP.at (Sub.self hv5)
  refine g_callV (q := 17) (is := [4]) (kc2 := (60 + 10070 + 640 * (dMs D).length) - 1) (ks2 := (300 + 130200 + 1600 * (dMs D).length) - 4) B [] (ct_J2_iterator_s g J (p := le) (xs := ps_1) (md := md_1) (cap := ecap) (W0 := v5)  (hli_1)) dX3_join_14 rfl (rc_in B (ci := 21) rfl (k := 4) rfl (LhP.hm hv5)) rfl q3232 q805 q3668 q81 q807 rfl rfl moJ2_iterator rfl rfl (by decide) (by decide) (Nat.le_of_ble_eq_true rfl) (by omega) (by omega) (fun _ _ hx => noX_x hx) (fun v14 L1 hp14 => ?_)
  obtain ⟨it14, rfl, rfl⟩ := hp14
  refine (show Go g κ 17 [some (.ref m), some (.int (nI i)), none, none, none, none, none] [.ref it14] [v0, v1, v2, v4, v6, v7, [(m, .inr (12, [.ref ls, .ref lb, .ref lk, .ref lp, .ref lr, .ref le, .ref lm, .ref lo, .int (nI 0), .int (dZz D), .int (nI (dBn D)), .int (nI (dCm D))]))], v3, [(it14, .inr (22, [.int (nI 0), .int (-1), .int md_1, .ref le]))], v5] ((60 + 10070 + 640 * (dMs D).length) - 1) ((300 + 130200 + 1600 * (dMs D).length) - 4) from ?_)
  refine g_astore_n (q := 18) (lv2 := [some (.ref m), some (.int (nI i)), some (.ref it14), none, none, none, none]) B dX3_join_17 rfl (Nat.le_of_ble_eq_true rfl) (rv_r _) rfl ?_
  have lp18 : ∀ (n18 : Nat) (k : Nat) (lrt : Int32) , (k ≤ (dEs D).length) → (k ≤ e) → (dEs D).length - k = n18 → Go g κ 18 [some (.ref m), some (.int (nI i)), some (.ref it14), none, none, none, none] [] [v0, v1, v2, v4, v6, v7, [(m, .inr (12, [.ref ls, .ref lb, .ref lk, .ref lp, .ref lr, .ref le, .ref lm, .ref lo, .int (nI 0), .int (dZz D), .int (nI (dBn D)), .int (nI (dCm D))]))], v3, [(it14, .inr (22, [.int (nI k), .int lrt, .int md_1, .ref le]))], v5] ((60 + 10070 + 640 * (dMs D).length) - 1) ((300 + 130200 + 1600 * (dMs D).length) - 4) := by
    intro n18
    induction n18 using Nat.strongRecOn with
    | _ n18 ih18 =>
    intro k lrt  hk hke hmu18
    refine g_aload_n (q := 19) B dX3_join_18 rfl rfl (rv_r _) ?_
    refine g_callF (q := 24) (is := [8, 8]) (kc2 := (60 + 10070 + 640 * (dMs D).length) - 1) (ks2 := (300 + 130200 + 1600 * (dMs D).length) - 4) B [] (ct_J19_hasNext_s g J (p := le) (xs := ps_1) (md := md_1) (cap := ecap) (it := it14) (c := k) (lr := lrt) (W1 := v5)  (hli_1) (by have := hln_1.1; omega)) dX3_join_19 rfl (ci := 22) rfl (rc_at B (ci := 22) rfl (k := 8) rfl) q3234 q940 q942 q104 q944 q938 q937 q943 q941 q939 rfl rfl mojava_util_Iterator_hasNext___Z rfl rfl (by decide) (by decide) (Nat.le_of_ble_eq_true rfl) (by omega) (by omega) (fun _ _ hx => noX_x hx) (fun v19 L1 hp19 => ?_)
    obtain ⟨rfl, rfl⟩ := hp19
    refine (show Go g κ 24 [some (.ref m), some (.int (nI i)), some (.ref it14), none, none, none, none] [.int (nI (if ¬ k = ps_1.length then 1 else 0))] [v0, v1, v2, v4, v6, v7, [(m, .inr (12, [.ref ls, .ref lb, .ref lk, .ref lp, .ref lr, .ref le, .ref lm, .ref lo, .int (nI 0), .int (dZz D), .int (nI (dBn D)), .int (nI (dCm D))]))], v3, [(it14, .inr (22, [.int (nI k), .int lrt, .int md_1, .ref le]))], v5] ((60 + 10070 + 640 * (dMs D).length) - 1) ((300 + 130200 + 1600 * (dMs D).length) - 4) from ?_)
    rw [hln_1.1]
    refine (show Go g κ 24 [some (.ref m), some (.int (nI i)), some (.ref it14), none, none, none, none] [.int (nI (if ¬ k = (dEs D).length then 1 else 0))] [v0, v1, v2, v4, v6, v7, [(m, .inr (12, [.ref ls, .ref lb, .ref lk, .ref lp, .ref lr, .ref le, .ref lm, .ref lo, .int (nI 0), .int (dZz D), .int (nI (dBn D)), .int (nI (dCm D))]))], v3, [(it14, .inr (22, [.int (nI k), .int lrt, .int md_1, .ref le]))], v5] ((60 + 10070 + 640 * (dMs D).length) - 1) ((300 + 130200 + 1600 * (dMs D).length) - 4) from ?_)
    refine g_if_eq (tgt := 198) (q := 27) B dX3_join_24 rfl (by decide) (bo_eq) (fun c24 => ?_) (fun c24 => ?_)
    · skip
      exact absurd (show k < k by omega) (Nat.lt_irrefl k)
    · skip
      have c24 := Classical.not_not.mp c24
      refine g_aload_n (q := 28) B dX3_join_27 rfl rfl (rv_r _) ?_
      obtain ⟨r28, hr28⟩ := get_ex (xs := (dEs D)) (i := k) (by omega)
      obtain ⟨x28, hx28⟩ := get_ex (xs := ps_1) (i := k) (by have := get_lt2 hr28; have := hln_1.1; omega)
      have hE_2 := hel_1 _ _ _ hx28 hr28
      refine g_callF (q := 33) (is := [8, 8]) (kc2 := (60 + 10070 + 640 * (dMs D).length) - 1) (ks2 := (300 + 130200 + 1600 * (dMs D).length) - 4) B [] (ct_J19_next_s g J (p := le) (xs := ps_1) (md := md_1) (cap := ecap) (it := it14) (c := k) (lr := lrt) (x := x28) (W1 := v5)  (hli_1) (hx28)) dX3_join_28 rfl (ci := 22) rfl (rc_at B (ci := 22) rfl (k := 8) rfl) q3236 q967 q969 q104 q971 q966 q965 q970 q968 q939 rfl rfl mojava_util_Iterator_next___Ljava_lang_Object_ rfl rfl (by decide) (by decide) (Nat.le_of_ble_eq_true rfl) (by omega) (by omega) (fun _ _ hx => noX_x hx) (fun v28 L1 hp28 => ?_)
      obtain ⟨rfl, rfl⟩ := hp28
      refine (show Go g κ 33 [some (.ref m), some (.int (nI i)), some (.ref it14), none, none, none, none] [.ref x28] [v0, v1, v2, v4, v6, v7, [(m, .inr (12, [.ref ls, .ref lb, .ref lk, .ref lp, .ref lr, .ref le, .ref lm, .ref lo, .int (nI 0), .int (dZz D), .int (nI (dBn D)), .int (nI (dCm D))]))], v3, [(it14, .inr (22, [.int (nI (k + 1)), .int (nI k), .int md_1, .ref le]))], v5] ((60 + 10070 + 640 * (dMs D).length) - 1) ((300 + 130200 + 1600 * (dMs D).length) - 4) from ?_)
      refine g_castRS (ci := 16) (q := 36) B rfl (rc_in B (ci := 16) rfl (k := 9) rfl (Sub.hm (hE_2) fun _ z => EpP.hm z)) dX3_join_33 rfl q3243 ?_
      refine g_astore_n (q := 37) (lv2 := [some (.ref m), some (.int (nI i)), some (.ref it14), some (.ref x28), none, none, none]) B dX3_join_36 rfl (Nat.le_of_ble_eq_true rfl) (rv_r _) rfl ?_
      refine g_iconst (v := nI 0) (q := 38) B dX3_join_37 rfl (by decide) ?_
      refine g_istore (q := 40) (lv2 := [some (.ref m), some (.int (nI i)), some (.ref it14), some (.ref x28), some (.int (nI 0)), none, none]) B dX3_join_38 rfl (Nat.le_of_ble_eq_true rfl) rfl ?_
      have lp40 : ∀ (n40 : Nat) (n : Nat) , (n ≤ 16) → (k = e → n ≤ l) → 16 - n = n40 → Go g κ 40 [some (.ref m), some (.int (nI i)), some (.ref it14), some (.ref x28), some (.int (nI n)), none, none] [] [v0, v1, v2, v4, v6, v7, [(m, .inr (12, [.ref ls, .ref lb, .ref lk, .ref lp, .ref lr, .ref le, .ref lm, .ref lo, .int (nI 0), .int (dZz D), .int (nI (dBn D)), .int (nI (dCm D))]))], v3, [(it14, .inr (22, [.int (nI (k + 1)), .int (nI k), .int md_1, .ref le]))], v5] ((60 + 10070 + 640 * (dMs D).length) - 1) ((300 + 130200 + 1600 * (dMs D).length) - 4) := by
        intro n40
        induction n40 using Nat.strongRecOn with
        | _ n40 ih40 =>
        intro n  hn hnl hmu40
        refine g_iload (q := 42) B dX3_join_40 rfl rfl ?_
        refine g_bipush (v := nI 16) (q := 44) B dX3_join_42 rfl (by decide) ?_
        refine g_icmp_ge (tgt := 195) (q := 47) B dX3_join_44 rfl (by decide) (nI_leI (by omega) (by omega)) (fun c44 => ?_) (fun c44 => ?_)
        · skip
          refine g_goto (tgt := 18) B dX3_join_195 (by decide) ?_
          refine g_fg 3 rfl ?_
          refine g_fg 4 rfl ?_
          exact ih18 _ (by have := get_lt2 hr28; omega) (k + 1) (nI k) (by first | assumption | omega | rfl) (by rcases Nat.lt_or_ge k e with z | z; omega; have := hnl (by omega); omega) rfl
        · skip
          refine g_aload_n (q := 48) B dX3_join_47 rfl rfl (rv_r _) ?_
          obtain ⟨ap_3, an_3, al_3, ac_3, aw_3, am_3, ak_3, fp_3, fn_3, fl_3, fc_3, fw_3, fm_3, fk_3, hE_3, hfp_3, hfn_3, hfl_3, hfc_3, hfw_3, hfm_3, hfk_3, hc_3_0, hc_3_1, hc_3_2, hc_3_3, hc_3_4, hc_3_5, hc_3_6, hc_3_7⟩ := EpP.at (hE_2)
          refine g_getNM (q := 51) B (ci := 16) (k := 9) (j := 10) in_X13 rfl dX3_join_48 rfl rfl (hc_3_0) (Nat.le_of_ble_eq_true rfl) q3273 rfl rfl ?_
          refine g_iload (q := 53) B dX3_join_51 rfl rfl ?_
          refine g_ialdM (v := oI ((ePk r28) n)) (q := 54) B (k := 9) dX3_join_53 rfl rfl (hc_3_7) (vp_in_nI (by omega) (by omega)) (by rw [nI_clamp (by omega)]; exact hfk_3 _ (by omega)) ?_
          refine g_istore (q := 56) (lv2 := [some (.ref m), some (.int (nI i)), some (.ref it14), some (.ref x28), some (.int (nI n)), some (.int (oI ((ePk r28) n))), none]) B dX3_join_54 rfl (Nat.le_of_ble_eq_true rfl) rfl ?_
          refine g_iload (q := 58) B dX3_join_56 rfl rfl ?_
          refine g_iconst (v := -1) (q := 59) B dX3_join_58 rfl (by decide) ?_
          refine g_icmp_eq (tgt := 189) (q := 62) B dX3_join_59 rfl (by decide) (oI_n ((fun n h => by have := hE_3.2.2.2.2.2 _ _ h; omega))) (fun c59 => ?_) (fun c59 => ?_)
          · skip
            refine g_lvs (lv2 := [some (.ref m), some (.int (nI i)), some (.ref it14), some (.ref x28), some (.int (nI n)), some (.int (-1)), none]) (st2 := []) (by rw [(show oI ((ePk r28) n) = -1 from by rw [c59]; rfl)]) (by first | rfl | rw [(show oI ((ePk r28) n) = -1 from by rw [c59]; rfl)]) ?_
            refine g_iinc (v := nI (n + 1)) (q := 192) (lv2 := [some (.ref m), some (.int (nI i)), some (.ref it14), some (.ref x28), some (.int (nI (n + 1))), some (.int (-1)), none]) B dX3_join_189 rfl rfl (nI_add _ 1) (Nat.le_of_ble_eq_true rfl) rfl ?_
            refine g_goto (tgt := 40) B dX3_join_192 (by decide) ?_
            refine g_fg 5 rfl ?_
            exact ih40 _ (by omega) (n + 1) (by omega) (fun z => by have z2 := hnl z; rcases Nat.lt_or_ge n l with y | y; omega; exact absurd (show jnM D i r28 n by rw [show n = l by omega, show r28 = Ep by rw [z, hE] at hr28; cases hr28; rfl]; exact ⟨kk, q, hjk, hq, hq1, hq2⟩) (by first | exact jnM_0 c59 | exact jnM_n ev59 hq9 (fun z => c78 z.1) | exact jnM_n ev59 hq9 (fun z => z.2 c96))) rfl
          · skip
            obtain ⟨v59, ev59⟩ := Option.ne_none_iff_exists'.mp c59
            refine g_lvs (lv2 := [some (.ref m), some (.int (nI i)), some (.ref it14), some (.ref x28), some (.int (nI n)), some (.int (nI v59)), none]) (st2 := []) (by rw [(show oI ((ePk r28) n) = nI v59 from by rw [ev59]; rfl)]) (by first | rfl | rw [(show oI ((ePk r28) n) = nI v59 from by rw [ev59]; rfl)]) ?_
            have hkk := hpkb _ (List.mem_of_getElem? hr28) _ _ ev59
            obtain ⟨q9, hq9⟩ := get_ex (xs := dKs D) (i := v59) hkk
            refine g_aload_n (q := 63) B dX3_join_62 rfl rfl (rv_r _) ?_
            refine g_get (q := 66) B (ci := 12) (k := 6) (j := 2) in_X3 rfl dX3_join_63 rfl rfl (Nat.le_of_ble_eq_true rfl) q3059 rfl rfl ?_
            refine g_iload (q := 68) B dX3_join_66 rfl rfl ?_
            obtain ⟨md_4, hli_4, hln_4, hel_4⟩ := LoP.at (Sub.self hv2)
            obtain ⟨x68, hx68⟩ := get_ex (xs := mks) (i := v59) (by have := get_lt2 (show (dKs D)[v59]? = some q9 from hq9); have := hln_4.1; omega)
            have hE_5 := hel_4 _ _ _ hx68 (show (dKs D)[v59]? = some q9 from hq9)
            refine g_callV (q := 71) (is := [2]) (kc2 := (60 + 10070 + 640 * (dMs D).length) - 1) (ks2 := (300 + 130200 + 1600 * (dMs D).length) - 4) B [.int (nI v59)] (ct_J2_get_s g J (p := lk) (xs := mks) (md := md_4) (cap := kcap) (i := v59) (x := x68) (W0 := v2)  (hli_4) (hx68)) dX3_join_68 rfl (rc_in B (ci := 21) rfl (k := 2) rfl (LoP.hm hv2)) rfl q3231 q1095 q3667 q81 q1097 rfl rfl moJ2_get rfl rfl (by decide) (by decide) (Nat.le_of_ble_eq_true rfl) (by omega) (by omega) (fun _ _ hx => noX_x hx) (fun v68 L1 hp68 => ?_)
            obtain ⟨rfl, rfl⟩ := hp68
            refine (show Go g κ 71 [some (.ref m), some (.int (nI i)), some (.ref it14), some (.ref x28), some (.int (nI n)), some (.int (nI v59)), none] [.ref x68] [v0, v1, v4, v6, v7, [(m, .inr (12, [.ref ls, .ref lb, .ref lk, .ref lp, .ref lr, .ref le, .ref lm, .ref lo, .int (nI 0), .int (dZz D), .int (nI (dBn D)), .int (nI (dCm D))]))], v3, [(it14, .inr (22, [.int (nI (k + 1)), .int (nI k), .int md_1, .ref le]))], v5, v2] ((60 + 10070 + 640 * (dMs D).length) - 1) ((300 + 130200 + 1600 * (dMs D).length) - 4) from ?_)
            refine g_castRS (ci := 15) (q := 74) B rfl (rc_in B (ci := 15) rfl (k := 9) rfl (Sub.hm (hE_5) fun _ z => MqP.hm z)) dX3_join_71 rfl q3198 ?_
            obtain ⟨hK_6, hc_6_0⟩ := MqP.at (hE_5)
            refine g_getNM (q := 77) B (ci := 15) (k := 9) (j := 0) in_X9 rfl dX3_join_74 rfl rfl (hc_6_0) (Nat.le_of_ble_eq_true rfl) q3205 rfl rfl ?_
            have hqb := (MqP.at (hE_5)).1.1
            refine g_iload_n (q := 78) B dX3_join_77 rfl rfl ?_
            refine g_icmp_ne (tgt := 189) (q := 81) B dX3_join_78 rfl (by decide) (not_congr (nI_eq (by omega) (by omega))) (fun c78 => ?_) (fun c78 => ?_)
            · skip
              refine g_iinc (v := nI (n + 1)) (q := 192) (lv2 := [some (.ref m), some (.int (nI i)), some (.ref it14), some (.ref x28), some (.int (nI (n + 1))), some (.int (nI v59)), none]) B dX3_join_189 rfl rfl (nI_add _ 1) (Nat.le_of_ble_eq_true rfl) rfl ?_
              refine g_goto (tgt := 40) B dX3_join_192 (by decide) ?_
              refine g_fg 5 rfl ?_
              refine g_pk [0, 0, 7, 0, 0, 0, 0, 0, 0, 0] rfl rfl ?_
              refine (show Go g κ 40 [some (.ref m), some (.int (nI i)), some (.ref it14), some (.ref x28), some (.int (nI (n + 1))), none, none] [] [v0, v1, v2, v4, v6, v7, [(m, .inr (12, [.ref ls, .ref lb, .ref lk, .ref lp, .ref lr, .ref le, .ref lm, .ref lo, .int (nI 0), .int (dZz D), .int (nI (dBn D)), .int (nI (dCm D))]))], v3, [(it14, .inr (22, [.int (nI (k + 1)), .int (nI k), .int md_1, .ref le]))], v5] ((60 + 10070 + 640 * (dMs D).length) - 1) ((300 + 130200 + 1600 * (dMs D).length) - 4) from ?_)
              exact ih40 _ (by omega) (n + 1) (by omega) (fun z => by have z2 := hnl z; rcases Nat.lt_or_ge n l with y | y; omega; exact absurd (show jnM D i r28 n by rw [show n = l by omega, show r28 = Ep by rw [z, hE] at hr28; cases hr28; rfl]; exact ⟨kk, q, hjk, hq, hq1, hq2⟩) (by first | exact jnM_0 c59 | exact jnM_n ev59 hq9 (fun z => c78 z.1) | exact jnM_n ev59 hq9 (fun z => z.2 c96))) rfl
            · skip
              refine g_aload_n (q := 82) B dX3_join_81 rfl rfl (rv_r _) ?_
              refine g_get (q := 85) B (ci := 12) (k := 5) (j := 2) in_X3 rfl dX3_join_82 rfl rfl (Nat.le_of_ble_eq_true rfl) q3059 rfl rfl ?_
              refine g_iload (q := 87) B dX3_join_85 rfl rfl ?_
              have hE_7 := hel_4 _ _ _ hx68 (show (dKs D)[v59]? = some q9 from hq9)
              refine g_callV (q := 90) (is := [9]) (kc2 := (60 + 10070 + 640 * (dMs D).length) - 1) (ks2 := (300 + 130200 + 1600 * (dMs D).length) - 4) B [.int (nI v59)] (ct_J2_get_s g J (p := lk) (xs := mks) (md := md_4) (cap := kcap) (i := v59) (x := x68) (W0 := v2)  (hli_4) (hx68)) dX3_join_87 rfl (rc_in B (ci := 21) rfl (k := 9) rfl (LoP.hm hv2)) rfl q3231 q1095 q3667 q81 q1097 rfl rfl moJ2_get rfl rfl (by decide) (by decide) (Nat.le_of_ble_eq_true rfl) (by omega) (by omega) (fun _ _ hx => noX_x hx) (fun v87 L1 hp87 => ?_)
              obtain ⟨rfl, rfl⟩ := hp87
              refine (show Go g κ 90 [some (.ref m), some (.int (nI i)), some (.ref it14), some (.ref x28), some (.int (nI n)), some (.int (nI v59)), none] [.ref x68] [v0, v1, v4, v6, v7, [(m, .inr (12, [.ref ls, .ref lb, .ref lk, .ref lp, .ref lr, .ref le, .ref lm, .ref lo, .int (nI 0), .int (dZz D), .int (nI (dBn D)), .int (nI (dCm D))]))], v3, [(it14, .inr (22, [.int (nI (k + 1)), .int (nI k), .int md_1, .ref le]))], v5, v2] ((60 + 10070 + 640 * (dMs D).length) - 1) ((300 + 130200 + 1600 * (dMs D).length) - 4) from ?_)
              refine g_castRS (ci := 15) (q := 93) B rfl (rc_in B (ci := 15) rfl (k := 9) rfl (Sub.hm (hE_7) fun _ z => MqP.hm z)) dX3_join_90 rfl q3198 ?_
              refine g_getNM (q := 96) B (ci := 15) (k := 9) (j := 4) in_X9 rfl dX3_join_93 rfl rfl (hc_6_0) (Nat.le_of_ble_eq_true rfl) q3211 rfl rfl ?_
              refine g_if_eq (tgt := 102) (q := 99) B dX3_join_96 rfl (by decide) (bo_eq) (fun c96 => ?_) (fun c96 => ?_)
              · skip
                have hjh : jnM D i r28 n := ⟨v59, q9, ev59, hq9, Classical.not_not.mp c78, c96⟩
                have hke2 : k = e := by
                  rcases Nat.lt_or_ge k e with z | z
                  · exact absurd hjh (hfst k r28 n hr28 (by omega) (Or.inl z))
                  · omega
                subst hke2
                have hre : r28 = Ep := Option.some.inj (hr28.symm.trans hE)
                subst hre
                have hnl2 : n = l := by
                  rcases Nat.lt_or_ge n l with z | z
                  · exact absurd hjh (hfst k r28 n hr28 (by omega) (Or.inr ⟨rfl, z⟩))
                  · have := hnl rfl; omega
                subst hnl2
                have hkk2 : v59 = kk := Option.some.inj (ev59.symm.trans hjk)
                subst hkk2
                have hqq : q9 = q := Option.some.inj (hq9.symm.trans hq)
                subst hqq
                refine g_aload_n (q := 103) B dX3_join_102 rfl rfl (rv_r _) ?_
                refine g_get (q := 106) B (ci := 12) (k := 5) (j := 3) in_X3 rfl dX3_join_103 rfl rfl (Nat.le_of_ble_eq_true rfl) q3060 rfl rfl ?_
                refine g_iload_n (q := 107) B dX3_join_106 rfl rfl ?_
                obtain ⟨md_8, hli_8, hln_8, hel_8⟩ := LoP.at (Sub.self hv3)
                obtain ⟨x107, hx107⟩ := get_ex (xs := mps) (i := i) (by have := get_lt2 (show (dPs D)[i]? = some r from hr); have := hln_8.1; omega)
                have hE_9 := hel_8 _ _ _ hx107 (show (dPs D)[i]? = some r from hr)
                refine g_callV (q := 110) (is := [6]) (kc2 := (60 + 10070 + 640 * (dMs D).length) - 1) (ks2 := (300 + 130200 + 1600 * (dMs D).length) - 4) B [.int (nI i)] (ct_J2_get_s g J (p := lp) (xs := mps) (md := md_8) (cap := pcap) (i := i) (x := x107) (W0 := v3)  (hli_8) (hx107)) dX3_join_107 rfl (rc_in B (ci := 21) rfl (k := 6) rfl (LoP.hm hv3)) rfl q3231 q1095 q3667 q81 q1097 rfl rfl moJ2_get rfl rfl (by decide) (by decide) (Nat.le_of_ble_eq_true rfl) (by omega) (by omega) (fun _ _ hx => noX_x hx) (fun v107 L1 hp107 => ?_)
                obtain ⟨rfl, rfl⟩ := hp107
                refine (show Go g κ 110 [some (.ref m), some (.int (nI i)), some (.ref it14), some (.ref x28), some (.int (nI n)), some (.int (nI v59)), none] [.ref x107] [v0, v1, v4, v6, v7, [(m, .inr (12, [.ref ls, .ref lb, .ref lk, .ref lp, .ref lr, .ref le, .ref lm, .ref lo, .int (nI 0), .int (dZz D), .int (nI (dBn D)), .int (nI (dCm D))]))], [(it14, .inr (22, [.int (nI (k + 1)), .int (nI k), .int md_1, .ref le]))], v5, v2, v3] ((60 + 10070 + 640 * (dMs D).length) - 1) ((300 + 130200 + 1600 * (dMs D).length) - 4) from ?_)
                refine g_castRS (ci := 13) (q := 113) B rfl (rc_in B (ci := 13) rfl (k := 9) rfl (Sub.hm (hE_9) fun _ z => MpP.hm z)) dX3_join_110 rfl q3107 ?_
                refine g_astore (q := 115) (lv2 := [some (.ref m), some (.int (nI i)), some (.ref it14), some (.ref x28), some (.int (nI n)), some (.int (nI v59)), some (.ref x107)]) B dX3_join_113 rfl (Nat.le_of_ble_eq_true rfl) (rv_r _) rfl ?_
                refine g_aload_n (q := 116) B dX3_join_115 rfl rfl (rv_r _) ?_
                refine g_get (q := 119) B (ci := 12) (k := 5) (j := 2) in_X3 rfl dX3_join_116 rfl rfl (Nat.le_of_ble_eq_true rfl) q3059 rfl rfl ?_
                refine g_iload (q := 121) B dX3_join_119 rfl rfl ?_
                have hE_10 := hel_4 _ _ _ hx68 (show (dKs D)[v59]? = some q9 from hq9)
                refine g_callV (q := 124) (is := [8]) (kc2 := (60 + 10070 + 640 * (dMs D).length) - 1) (ks2 := (300 + 130200 + 1600 * (dMs D).length) - 4) B [.int (nI v59)] (ct_J2_get_s g J (p := lk) (xs := mks) (md := md_4) (cap := kcap) (i := v59) (x := x68) (W0 := v2)  (hli_4) (hx68)) dX3_join_121 rfl (rc_in B (ci := 21) rfl (k := 8) rfl (LoP.hm hv2)) rfl q3231 q1095 q3667 q81 q1097 rfl rfl moJ2_get rfl rfl (by decide) (by decide) (Nat.le_of_ble_eq_true rfl) (by omega) (by omega) (fun _ _ hx => noX_x hx) (fun v121 L1 hp121 => ?_)
                obtain ⟨rfl, rfl⟩ := hp121
                refine (show Go g κ 124 [some (.ref m), some (.int (nI i)), some (.ref it14), some (.ref x28), some (.int (nI n)), some (.int (nI v59)), some (.ref x107)] [.ref x68] [v0, v1, v4, v6, v7, [(m, .inr (12, [.ref ls, .ref lb, .ref lk, .ref lp, .ref lr, .ref le, .ref lm, .ref lo, .int (nI 0), .int (dZz D), .int (nI (dBn D)), .int (nI (dCm D))]))], [(it14, .inr (22, [.int (nI (k + 1)), .int (nI k), .int md_1, .ref le]))], v5, v3, v2] ((60 + 10070 + 640 * (dMs D).length) - 1) ((300 + 130200 + 1600 * (dMs D).length) - 4) from ?_)
                refine g_castRS (ci := 15) (q := 127) B rfl (rc_in B (ci := 15) rfl (k := 9) rfl (Sub.hm (hE_10) fun _ z => MqP.hm z)) dX3_join_124 rfl q3198 ?_
                refine g_iconst (v := nI 1) (q := 128) B dX3_join_127 rfl (by decide) ?_
                obtain ⟨lu1_k, lwi_k, lu2_k, hlwi_k, hlcl_k, hle_k⟩ := LoP.opn hv2 hx68 hq9
                refine g_open 9 rfl hle_k rfl ?_
                refine (show Go g κ 128 [some (.ref m), some (.int (nI i)), some (.ref it14), some (.ref x28), some (.int (nI n)), some (.int (nI v59)), some (.ref x107)] [.int (nI 1), .ref x68] [v0, v1, v4, v6, v7, [(m, .inr (12, [.ref ls, .ref lb, .ref lk, .ref lp, .ref lr, .ref le, .ref lm, .ref lo, .int (nI 0), .int (dZz D), .int (nI (dBn D)), .int (nI (dCm D))]))], [(it14, .inr (22, [.int (nI (k + 1)), .int (nI k), .int md_1, .ref le]))], v5, v3, lu1_k, lwi_k, lu2_k] ((60 + 10070 + 640 * (dMs D).length) - 1) ((300 + 130200 + 1600 * (dMs D).length) - 4) from ?_)
                obtain ⟨hK_k, rfl⟩ := hlwi_k
                refine g_open 10 rfl rfl rfl ?_
                refine (show Go g κ 128 [some (.ref m), some (.int (nI i)), some (.ref it14), some (.ref x28), some (.int (nI n)), some (.int (nI v59)), some (.ref x107)] [.int (nI 1), .ref x68] [v0, v1, v4, v6, v7, [(m, .inr (12, [.ref ls, .ref lb, .ref lk, .ref lp, .ref lr, .ref le, .ref lm, .ref lo, .int (nI 0), .int (dZz D), .int (nI (dBn D)), .int (nI (dCm D))]))], [(it14, .inr (22, [.int (nI (k + 1)), .int (nI k), .int md_1, .ref le]))], v5, v3, lu1_k, lu2_k, [(x68, .inr (15, [.int (nI q9.1), .int (nI q9.2.1), .int (nI q9.2.2.1), .int (nI (if q9.2.2.2.1 = true then 1 else 0)), .int (nI (if q9.2.2.2.2 = true then 1 else 0))]))]] ((60 + 10070 + 640 * (dMs D).length) - 1) ((300 + 130200 + 1600 * (dMs D).length) - 4) from ?_)
                refine g_putN (q := 131) (L2 := [v0, v1, v4, v6, v7, [(m, .inr (12, [.ref ls, .ref lb, .ref lk, .ref lp, .ref lr, .ref le, .ref lm, .ref lo, .int (nI 0), .int (dZz D), .int (nI (dBn D)), .int (nI (dCm D))]))], [(it14, .inr (22, [.int (nI (k + 1)), .int (nI k), .int md_1, .ref le]))], v5, v3, lu1_k, lu2_k, [(x68, .inr (15, [.int (nI q9.1), .int (nI q9.2.1), .int (nI q9.2.2.1), .int (nI (if q9.2.2.2.1 = true then 1 else 0)), .int (nI 1)]))]]) B (ci := 15) (k := 11) (j := 4) in_X9 tyX9 tyX9_ok nmX9 rfl dX3_join_128 rfl rfl (Nat.le_of_ble_eq_true rfl) q3211 rfl rfl rfl rfl (Nat.le_of_ble_eq_true rfl) rfl ?_
                obtain ⟨wc_11, ewc_11⟩ : ∃ w : va_W, w = ([[(x68, .inr (15, [.int (nI q9.1), .int (nI q9.2.1), .int (nI q9.2.2.1), .int (nI (if q9.2.2.2.1 = true then 1 else 0)), .int (nI 1)]))]] : List va_W).flatten := ⟨_, rfl⟩
                have hwc_11 : MqP g x68 ((q9.1, q9.2.1, q9.2.2.1, q9.2.2.2.1, true) : MkS) wc_11 := by
                  rw [ewc_11]
                  exact ⟨hK_k, rfl⟩
                refine g_close (w := wc_11) [11] rfl ewc_11 rfl ?_
                refine (show Go g κ 131 [some (.ref m), some (.int (nI i)), some (.ref it14), some (.ref x28), some (.int (nI n)), some (.int (nI v59)), some (.ref x107)] [] [v0, v1, v4, v6, v7, [(m, .inr (12, [.ref ls, .ref lb, .ref lk, .ref lp, .ref lr, .ref le, .ref lm, .ref lo, .int (nI 0), .int (dZz D), .int (nI (dBn D)), .int (nI (dCm D))]))], [(it14, .inr (22, [.int (nI (k + 1)), .int (nI k), .int md_1, .ref le]))], v5, v3, lu1_k, lu2_k, wc_11] ((60 + 10070 + 640 * (dMs D).length) - 1) ((300 + 130200 + 1600 * (dMs D).length) - 4) from ?_)
                obtain ⟨wc_12, ewc_12⟩ : ∃ w : va_W, w = ([lu1_k, wc_11, lu2_k] : List va_W).flatten := ⟨_, rfl⟩
                have hwc_12 : LoP g (MqP g) lk mks ((dKs D).set v59 ((q9.1, q9.2.1, q9.2.2.1, q9.2.2.2.1, true) : MkS)) kcap wc_12 := by
                  rw [ewc_12]
                  exact hlcl_k _ _ hwc_11
                refine g_close (w := wc_12) [9, 10, 9] rfl ewc_12 rfl ?_
                refine (show Go g κ 131 [some (.ref m), some (.int (nI i)), some (.ref it14), some (.ref x28), some (.int (nI n)), some (.int (nI v59)), some (.ref x107)] [] [v0, v1, v4, v6, v7, [(m, .inr (12, [.ref ls, .ref lb, .ref lk, .ref lp, .ref lr, .ref le, .ref lm, .ref lo, .int (nI 0), .int (dZz D), .int (nI (dBn D)), .int (nI (dCm D))]))], [(it14, .inr (22, [.int (nI (k + 1)), .int (nI k), .int md_1, .ref le]))], v5, v3, wc_12] ((60 + 10070 + 640 * (dMs D).length) - 1) ((300 + 130200 + 1600 * (dMs D).length) - 4) from ?_)
                obtain ⟨lu1_o, lwi_o, lu2_o, hlwi_o, hlcl_o, hle_o⟩ := LoP.opn hv3 hx107 hr
                refine g_open 8 rfl hle_o rfl ?_
                refine (show Go g κ 131 [some (.ref m), some (.int (nI i)), some (.ref it14), some (.ref x28), some (.int (nI n)), some (.int (nI v59)), some (.ref x107)] [] [v0, v1, v4, v6, v7, [(m, .inr (12, [.ref ls, .ref lb, .ref lk, .ref lp, .ref lr, .ref le, .ref lm, .ref lo, .int (nI 0), .int (dZz D), .int (nI (dBn D)), .int (nI (dCm D))]))], [(it14, .inr (22, [.int (nI (k + 1)), .int (nI k), .int md_1, .ref le]))], v5, wc_12, lu1_o, lwi_o, lu2_o] ((60 + 10070 + 640 * (dMs D).length) - 1) ((300 + 130200 + 1600 * (dMs D).length) - 4) from ?_)
                obtain ⟨nd_o, ch_o, ev_o, cv_o, fn_o, fc_o, v0_o, v1_o, hM_o, hfn_o, hoc_o, hcv_o, hv0_o, hv1_o, rfl⟩ := hlwi_o
                refine g_open 10 rfl rfl rfl ?_
                refine (show Go g κ 131 [some (.ref m), some (.int (nI i)), some (.ref it14), some (.ref x28), some (.int (nI n)), some (.int (nI v59)), some (.ref x107)] [] [v0, v1, v4, v6, v7, [(m, .inr (12, [.ref ls, .ref lb, .ref lk, .ref lp, .ref lr, .ref le, .ref lm, .ref lo, .int (nI 0), .int (dZz D), .int (nI (dBn D)), .int (nI (dCm D))]))], [(it14, .inr (22, [.int (nI (k + 1)), .int (nI k), .int md_1, .ref le]))], v5, wc_12, lu1_o, lu2_o, [(x107, .inr (13, [.int (oI (mEp r)), .int (nI (mLf r)), .int (nI (mLs r)), .int (oI (mRn r)), .ref nd_o, .ref ch_o, .ref ev_o]))], [(nd_o, .inl (g.2.1 0, 31, .inl fn_o))], [(ch_o, .inl (g.2.1 5, 16, .inr (.inr (.inr (.inr fc_o)))))], v0_o, v1_o] ((60 + 10070 + 640 * (dMs D).length) - 1) ((300 + 130200 + 1600 * (dMs D).length) - 4) from ?_)
                refine g_aload (q := 133) B dX3_join_131 rfl rfl (rv_r _) ?_
                refine g_iload (q := 135) B dX3_join_133 rfl rfl ?_
                refine g_putN (q := 138) (L2 := [v0, v1, v4, v6, v7, [(m, .inr (12, [.ref ls, .ref lb, .ref lk, .ref lp, .ref lr, .ref le, .ref lm, .ref lo, .int (nI 0), .int (dZz D), .int (nI (dBn D)), .int (nI (dCm D))]))], [(it14, .inr (22, [.int (nI (k + 1)), .int (nI k), .int md_1, .ref le]))], v5, wc_12, lu1_o, lu2_o, [(x107, .inr (13, [.int (oI (mEp r)), .int (nI n), .int (nI (mLs r)), .int (oI (mRn r)), .ref nd_o, .ref ch_o, .ref ev_o]))], [(nd_o, .inl (g.2.1 0, 31, .inl fn_o))], [(ch_o, .inl (g.2.1 5, 16, .inr (.inr (.inr (.inr fc_o)))))], v0_o, v1_o]) B (ci := 13) (k := 11) (j := 1) in_X5 tyX5 tyX5_ok nmX5 rfl dX3_join_135 rfl rfl (Nat.le_of_ble_eq_true rfl) q3119 rfl rfl rfl rfl (Nat.le_of_ble_eq_true rfl) rfl ?_
                refine g_aload (q := 140) B dX3_join_138 rfl rfl (rv_r _) ?_
                refine g_aload_n (q := 141) B dX3_join_140 rfl rfl (rv_r _) ?_
                refine g_get (q := 144) B (ci := 12) (k := 5) (j := 2) in_X3 rfl dX3_join_141 rfl rfl (Nat.le_of_ble_eq_true rfl) q3059 rfl rfl ?_
                refine g_iload (q := 146) B dX3_join_144 rfl rfl ?_
                obtain ⟨md_13, hli_13, hln_13, hel_13⟩ := LoP.at (Sub.self hwc_12)
                have hE_14 := hel_13 _ _ _ hx68 (show ((dKs D).set v59 ((q9.1, q9.2.1, q9.2.2.1, q9.2.2.2.1, true) : MkS))[v59]? = some ((q9.1, q9.2.1, q9.2.2.1, q9.2.2.2.1, true) : MkS) from (set_at hq9))
                refine g_callV (q := 149) (is := [8]) (kc2 := (60 + 10070 + 640 * (dMs D).length) - 1) (ks2 := (300 + 130200 + 1600 * (dMs D).length) - 4) B [.int (nI v59)] (ct_J2_get_s g J (p := lk) (xs := mks) (md := md_13) (cap := kcap) (i := v59) (x := x68) (W0 := wc_12)  (hli_13) (hx68)) dX3_join_146 rfl (rc_in B (ci := 21) rfl (k := 8) rfl (LoP.hm hwc_12)) rfl q3231 q1095 q3667 q81 q1097 rfl rfl moJ2_get rfl rfl (by decide) (by decide) (Nat.le_of_ble_eq_true rfl) (by omega) (by omega) (fun _ _ hx => noX_x hx) (fun v146 L1 hp146 => ?_)
                obtain ⟨rfl, rfl⟩ := hp146
                refine (show Go g κ 149 [some (.ref m), some (.int (nI i)), some (.ref it14), some (.ref x28), some (.int (nI n)), some (.int (nI v59)), some (.ref x107)] [.ref x68, .ref x107] [v0, v1, v4, v6, v7, [(m, .inr (12, [.ref ls, .ref lb, .ref lk, .ref lp, .ref lr, .ref le, .ref lm, .ref lo, .int (nI 0), .int (dZz D), .int (nI (dBn D)), .int (nI (dCm D))]))], [(it14, .inr (22, [.int (nI (k + 1)), .int (nI k), .int md_1, .ref le]))], v5, lu1_o, lu2_o, [(x107, .inr (13, [.int (oI (mEp r)), .int (nI n), .int (nI (mLs r)), .int (oI (mRn r)), .ref nd_o, .ref ch_o, .ref ev_o]))], [(nd_o, .inl (g.2.1 0, 31, .inl fn_o))], [(ch_o, .inl (g.2.1 5, 16, .inr (.inr (.inr (.inr fc_o)))))], v0_o, v1_o, wc_12] ((60 + 10070 + 640 * (dMs D).length) - 1) ((300 + 130200 + 1600 * (dMs D).length) - 4) from ?_)
                refine g_castRS (ci := 15) (q := 152) B rfl (rc_in B (ci := 15) rfl (k := 15) rfl (Sub.hm (hE_14) fun _ z => MqP.hm z)) dX3_join_149 rfl q3198 ?_
                obtain ⟨hK_15, hc_15_0⟩ := MqP.at (hE_14)
                refine g_getNM (q := 155) B (ci := 15) (k := 15) (j := 1) in_X9 rfl dX3_join_152 rfl rfl (hc_15_0) (Nat.le_of_ble_eq_true rfl) q3207 rfl rfl ?_
                refine (show Go g κ 155 [some (.ref m), some (.int (nI i)), some (.ref it14), some (.ref x28), some (.int (nI n)), some (.int (nI v59)), some (.ref x107)] [.int (nI q9.2.1), .ref x107] [v0, v1, v4, v6, v7, [(m, .inr (12, [.ref ls, .ref lb, .ref lk, .ref lp, .ref lr, .ref le, .ref lm, .ref lo, .int (nI 0), .int (dZz D), .int (nI (dBn D)), .int (nI (dCm D))]))], [(it14, .inr (22, [.int (nI (k + 1)), .int (nI k), .int md_1, .ref le]))], v5, lu1_o, lu2_o, [(x107, .inr (13, [.int (oI (mEp r)), .int (nI n), .int (nI (mLs r)), .int (oI (mRn r)), .ref nd_o, .ref ch_o, .ref ev_o]))], [(nd_o, .inl (g.2.1 0, 31, .inl fn_o))], [(ch_o, .inl (g.2.1 5, 16, .inr (.inr (.inr (.inr fc_o)))))], v0_o, v1_o, wc_12] ((60 + 10070 + 640 * (dMs D).length) - 1) ((300 + 130200 + 1600 * (dMs D).length) - 4) from ?_)
                refine g_putN (q := 158) (L2 := [v0, v1, v4, v6, v7, [(m, .inr (12, [.ref ls, .ref lb, .ref lk, .ref lp, .ref lr, .ref le, .ref lm, .ref lo, .int (nI 0), .int (dZz D), .int (nI (dBn D)), .int (nI (dCm D))]))], [(it14, .inr (22, [.int (nI (k + 1)), .int (nI k), .int md_1, .ref le]))], v5, lu1_o, lu2_o, [(x107, .inr (13, [.int (oI (mEp r)), .int (nI n), .int (nI q9.2.1), .int (oI (mRn r)), .ref nd_o, .ref ch_o, .ref ev_o]))], [(nd_o, .inl (g.2.1 0, 31, .inl fn_o))], [(ch_o, .inl (g.2.1 5, 16, .inr (.inr (.inr (.inr fc_o)))))], v0_o, v1_o, wc_12]) B (ci := 13) (k := 10) (j := 2) in_X5 tyX5 tyX5_ok nmX5 rfl dX3_join_155 rfl rfl (Nat.le_of_ble_eq_true rfl) q3120 rfl rfl rfl rfl (Nat.le_of_ble_eq_true rfl) rfl ?_
                obtain ⟨wc_16, ewc_16⟩ : ∃ w : va_W, w = ([[(x107, .inr (13, [.int (oI (mEp r)), .int (nI n), .int (nI q9.2.1), .int (oI (mRn r)), .ref nd_o, .ref ch_o, .ref ev_o]))], [(nd_o, .inl (g.2.1 0, 31, .inl fn_o))], [(ch_o, .inl (g.2.1 5, 16, .inr (.inr (.inr (.inr fc_o)))))], v0_o, v1_o] : List va_W).flatten := ⟨_, rfl⟩
                have hwc_16 : MpP g x107 ((mEp r, n, q9.2.1, mRn r, mNd r, mCh r, mEv r) : MpS) wc_16 := by
                  rw [ewc_16]
                  exact ⟨nd_o, ch_o, ev_o, cv_o, fn_o, fc_o, _, _, (by obtain ⟨m1, m2, m3, m4, m5, m6, m7, m8⟩ := hM_o; exact ⟨m1, (show n < 16 by omega), (show q9.2.1 < 1000 from hK_k.2.1), m4, m5, m6, m7, m8⟩), hfn_o, hoc_o, hcv_o, hv0_o, hv1_o, rfl⟩
                refine g_close (w := wc_16) [10, 10, 10, 10, 10] rfl ewc_16 rfl ?_
                refine (show Go g κ 158 [some (.ref m), some (.int (nI i)), some (.ref it14), some (.ref x28), some (.int (nI n)), some (.int (nI v59)), some (.ref x107)] [] [v0, v1, v4, v6, v7, [(m, .inr (12, [.ref ls, .ref lb, .ref lk, .ref lp, .ref lr, .ref le, .ref lm, .ref lo, .int (nI 0), .int (dZz D), .int (nI (dBn D)), .int (nI (dCm D))]))], [(it14, .inr (22, [.int (nI (k + 1)), .int (nI k), .int md_1, .ref le]))], v5, lu1_o, lu2_o, wc_12, wc_16] ((60 + 10070 + 640 * (dMs D).length) - 1) ((300 + 130200 + 1600 * (dMs D).length) - 4) from ?_)
                refine g_aload (q := 160) B dX3_join_158 rfl rfl (rv_r _) ?_
                refine g_aload_n (q := 161) B dX3_join_160 rfl rfl (rv_r _) ?_
                refine g_aload_n (q := 162) B dX3_join_161 rfl rfl (rv_r _) ?_
                refine g_iload (q := 164) B dX3_join_162 rfl rfl ?_
                refine (show Go g κ 164 [some (.ref m), some (.int (nI i)), some (.ref it14), some (.ref x28), some (.int (nI n)), some (.int (nI v59)), some (.ref x107)] [.int (nI n), .ref x28, .ref x28, .ref x107] [v0, v1, v4, v6, v7, [(m, .inr (12, [.ref ls, .ref lb, .ref lk, .ref lp, .ref lr, .ref le, .ref lm, .ref lo, .int (nI 0), .int (dZz D), .int (nI (dBn D)), .int (nI (dCm D))]))], [(it14, .inr (22, [.int (nI (k + 1)), .int (nI k), .int md_1, .ref le]))], v5, lu1_o, lu2_o, wc_12, wc_16] ((60 + 10070 + 640 * (dMs D).length) - 1) ((300 + 130200 + 1600 * (dMs D).length) - 4) from ?_)
                refine g_callS (q := 167) (is := [7]) (kc2 := (60 + 10070 + 640 * (dMs D).length) - 1) (ks2 := (300 + 130200 + 1600 * (dMs D).length) - 4) B [.ref x28, .int (nI n)] (ct_X3_lowest_s g J (e := x28) (r := r28) (l := n) (k0 := k0) (W0 := v5)  (hE_2) (hl) (hk1) (hk4) (hw) (hwn)) dX3_join_164 rfl q3491 q3492 q85 q3493 rfl rfl moX3_lowest rfl rfl (by decide) (by decide) (Nat.le_of_ble_eq_true rfl) (by omega) (by omega) (fun _ _ hx => noX_x hx) (fun v164 L1 hp164 => ?_)
                obtain ⟨rfl, rfl⟩ := hp164
                refine (show Go g κ 167 [some (.ref m), some (.int (nI i)), some (.ref it14), some (.ref x28), some (.int (nI n)), some (.int (nI v59)), some (.ref x107)] [.int (nI (nab n k0)), .ref x28, .ref x107] [v0, v1, v4, v6, v7, [(m, .inr (12, [.ref ls, .ref lb, .ref lk, .ref lp, .ref lr, .ref le, .ref lm, .ref lo, .int (nI 0), .int (dZz D), .int (nI (dBn D)), .int (nI (dCm D))]))], [(it14, .inr (22, [.int (nI (k + 1)), .int (nI k), .int md_1, .ref le]))], lu1_o, lu2_o, wc_12, wc_16, v5] ((60 + 10070 + 640 * (dMs D).length) - 1) ((300 + 130200 + 1600 * (dMs D).length) - 4) from ?_)
                refine g_callS (q := 170) (is := []) (kc2 := (60 + 10070 + 640 * (dMs D).length) - 1) (ks2 := (300 + 130200 + 1600 * (dMs D).length) - 4) B [.int (nI (nab n k0))] (ct_X3_level g J (n := nab n k0)  (nab_b k0 (by omega) _ hl)) dX3_join_167 rfl q3441 q3442 q85 q3443 rfl rfl moX3_level rfl rfl (by decide) (by decide) (Nat.le_of_ble_eq_true rfl) (by omega) (by omega) (fun _ _ hx => noX_x hx) (fun v167 L1 hp167 => ?_)
                obtain ⟨rfl, rfl⟩ := hp167
                refine (show Go g κ 170 [some (.ref m), some (.int (nI i)), some (.ref it14), some (.ref x28), some (.int (nI n)), some (.int (nI v59)), some (.ref x107)] [.int (nI (lev (nab n k0))), .ref x28, .ref x107] [v0, v1, v4, v6, v7, [(m, .inr (12, [.ref ls, .ref lb, .ref lk, .ref lp, .ref lr, .ref le, .ref lm, .ref lo, .int (nI 0), .int (dZz D), .int (nI (dBn D)), .int (nI (dCm D))]))], [(it14, .inr (22, [.int (nI (k + 1)), .int (nI k), .int md_1, .ref le]))], lu1_o, lu2_o, wc_12, wc_16, v5] ((60 + 10070 + 640 * (dMs D).length) - 1) ((300 + 130200 + 1600 * (dMs D).length) - 4) from ?_)
                refine g_stk (y := .int (nI k0)) (by rw [lev_nab n (by omega) k0 (by omega)]) ?_
                refine (show Go g κ 170 [some (.ref m), some (.int (nI i)), some (.ref it14), some (.ref x28), some (.int (nI n)), some (.int (nI v59)), some (.ref x107)] [.int (nI k0), .ref x28, .ref x107] [v0, v1, v4, v6, v7, [(m, .inr (12, [.ref ls, .ref lb, .ref lk, .ref lp, .ref lr, .ref le, .ref lm, .ref lo, .int (nI 0), .int (dZz D), .int (nI (dBn D)), .int (nI (dCm D))]))], [(it14, .inr (22, [.int (nI (k + 1)), .int (nI k), .int md_1, .ref le]))], lu1_o, lu2_o, wc_12, wc_16, v5] ((60 + 10070 + 640 * (dMs D).length) - 1) ((300 + 130200 + 1600 * (dMs D).length) - 4) from ?_)
                refine g_callS (q := 173) (is := [10, 10]) (kc2 := (60 + 10070 + 640 * (dMs D).length) - 1) (ks2 := (300 + 130200 + 1600 * (dMs D).length) - 4) B [.ref x107, .ref x28, .int (nI k0)] (ct_X3_gets g J (a := x107) (r := ((mEp r, n, q9.2.1, mRn r, mNd r, mCh r, mEv r) : MpS)) (e := x28) (Ep := r28) (fm := k0) (we := v5) hwc_16 (hE_2) (by omega)) dX3_join_170 rfl q3495 q3496 q85 q3497 rfl rfl moX3_gets rfl rfl (by decide) (by decide) (Nat.le_of_ble_eq_true rfl) (by omega) (by omega) (fun _ _ hx => noX_x hx) (fun v170 L1 hp170 => ?_)
                obtain ⟨u0_170, rfl, rfl, hu0_170⟩ := hp170
                refine (show Go g κ 173 [some (.ref m), some (.int (nI i)), some (.ref it14), some (.ref x28), some (.int (nI n)), some (.int (nI v59)), some (.ref x107)] [] [v0, v1, v4, v6, v7, [(m, .inr (12, [.ref ls, .ref lb, .ref lk, .ref lp, .ref lr, .ref le, .ref lm, .ref lo, .int (nI 0), .int (dZz D), .int (nI (dBn D)), .int (nI (dCm D))]))], [(it14, .inr (22, [.int (nI (k + 1)), .int (nI k), .int md_1, .ref le]))], lu1_o, lu2_o, wc_12, u0_170, v5] ((60 + 10070 + 640 * (dMs D).length) - 1) ((300 + 130200 + 1600 * (dMs D).length) - 4) from ?_)
                refine g_aload_n (q := 174) B dX3_join_173 rfl rfl (rv_r _) ?_
                refine g_aload (q := 176) B dX3_join_174 rfl rfl (rv_r _) ?_
                refine g_aload_n (q := 177) B dX3_join_176 rfl rfl (rv_r _) ?_
                refine g_callV (q := 180) (is := [5, 9, 9]) (kc2 := (60 + 10070 + 640 * (dMs D).length) - 49) (ks2 := (300 + 130200 + 1600 * (dMs D).length) - 164) B [.ref x107, .ref x28] (ct_X3_comes g J (m := m) (ls := ls) (lb := lb) (lk := lk) (lp := lp) (lr := lr) (le := le) (lm := lm) (lo := lo) (th := 0) (z := (dZz D)) (bo := (dBn D)) (cm := (dCm D)) (a := x107) (r := (getR ((mEp r, n, q9.2.1, mRn r, mNd r, mCh r, mEv r) : MpS) r28 k0)) (e := x28) (Ep := r28) (we := v5) hu0_170 (hE_2)) dX3_join_177 rfl (rc_at B (ci := 12) rfl (k := 5) rfl) rfl q3306 q3308 qs58 q85 q3309 rfl rfl moX3_comes rfl rfl (by decide) (by decide) (Nat.le_of_ble_eq_true rfl) (by omega) (by omega) (fun _ _ hx => noX_x hx) (fun v177 L1 hp177 => ?_)
                obtain ⟨u1_177, rfl, rfl, hu1_177⟩ := hp177
                refine (show Go g κ 180 [some (.ref m), some (.int (nI i)), some (.ref it14), some (.ref x28), some (.int (nI n)), some (.int (nI v59)), some (.ref x107)] [] [v0, v1, v4, v6, v7, [(it14, .inr (22, [.int (nI (k + 1)), .int (nI k), .int md_1, .ref le]))], lu1_o, lu2_o, wc_12, [(m, .inr (12, [.ref ls, .ref lb, .ref lk, .ref lp, .ref lr, .ref le, .ref lm, .ref lo, .int (nI 0), .int (dZz D), .int (nI (dBn D)), .int (nI (dCm D))]))], u1_177, v5] ((60 + 10070 + 640 * (dMs D).length) - 49) ((300 + 130200 + 1600 * (dMs D).length) - 164) from ?_)
                obtain ⟨wc_17, ewc_17⟩ : ∃ w : va_W, w = ([lu1_o, u1_177, lu2_o] : List va_W).flatten := ⟨_, rfl⟩
                have hwc_17 : LoP g (MpP g) lp mps ((dPs D).set i (comR (getR ((mEp r, n, q9.2.1, mRn r, mNd r, mCh r, mEv r) : MpS) r28 k0) r28)) pcap wc_17 := by
                  rw [ewc_17]
                  exact hlcl_o _ _ hu1_177
                refine g_close (w := wc_17) [6, 9, 6] rfl ewc_17 rfl ?_
                refine (show Go g κ 180 [some (.ref m), some (.int (nI i)), some (.ref it14), some (.ref x28), some (.int (nI n)), some (.int (nI v59)), some (.ref x107)] [] [v0, v1, v4, v6, v7, [(it14, .inr (22, [.int (nI (k + 1)), .int (nI k), .int md_1, .ref le]))], wc_12, [(m, .inr (12, [.ref ls, .ref lb, .ref lk, .ref lp, .ref lr, .ref le, .ref lm, .ref lo, .int (nI 0), .int (dZz D), .int (nI (dBn D)), .int (nI (dCm D))]))], v5, wc_17] ((60 + 10070 + 640 * (dMs D).length) - 49) ((300 + 130200 + 1600 * (dMs D).length) - 164) from ?_)
                have hpl9 : ((dPs D).set i (comR (getR ((mEp r, n, q9.2.1, mRn r, mNd r, mCh r, mEv r) : MpS) r28 k0) r28)).length = (dPs D).length := List.length_set
                have hkl9 : ((dKs D).set v59 ((q9.1, q9.2.1, q9.2.2.1, q9.2.2.2.1, true) : MkS)).length = (dKs D).length := List.length_set
                refine g_aload_n (q := 181) B dX3_join_180 rfl rfl (rv_r _) ?_
                have hnt := nt_r (Q := (dMs D).length) (show ((dPs D).set i (comR (getR ((mEp r, n, q9.2.1, mRn r, mNd r, mCh r, mEv r) : MpS) r28 k0) r28)).length ≤ 10 from by omega) (show ((dKs D).set v59 ((q9.1, q9.2.1, q9.2.2.1, q9.2.2.2.1, true) : MkS)).length ≤ 24 from by omega) (show (dSs D).length ≤ 980 from by omega)
                obtain ⟨hnr1, hnr2⟩ := hnt
                refine g_callV (q := 184) (is := [7, 6, 7, 6]) (kc2 := 0) (ks2 := 0) B [] (ct_X3_notes g J (m := m) (ls := ls) (lb := lb) (lk := lk) (lp := lp) (lr := lr) (le := le) (lm := lm) (lo := lo) (th := 0) (z := (dZz D)) (bo := (dBn D)) (cm := (dCm D)) (mks := mks) (Ks := ((dKs D).set v59 ((q9.1, q9.2.1, q9.2.2.1, q9.2.2.2.1, true) : MkS))) (kcap := kcap) (mps := mps) (Ps := ((dPs D).set i (comR (getR ((mEp r, n, q9.2.1, mRn r, mNd r, mCh r, mEv r) : MpS) r28 k0) r28))) (pcap := pcap) (Es := (dEs D)) (ecap := ecap) (n := (dSs D).length) (Q := (dMs D).length) hwc_12 hwc_17 hv5 (by omega) (fun i_ r_ e_ h1_ h2_ => (hN i_ r_ h1_).1 e_ h2_) (fun i_ r_ k_ c_ h1_ h2_ => (hN i_ r_ h1_).2.1 k_ c_ h2_) (fun i_ r_ x_ h1_ h2_ => (hN i_ r_ h1_).2.2.1 x_ h2_) (fun i_ r_ h1_ => (hN i_ r_ h1_).2.2.2) (Nat.le_trans (by omega) (by decide : 980 ≤ 1000))) dX3_join_181 rfl (rc_at B (ci := 12) rfl (k := 7) rfl) rfl q3223 q3225 qs54 q85 q3226 rfl rfl moX3_notes rfl rfl (by decide) (by decide) (Nat.le_of_ble_eq_true rfl) (by omega) (by omega) (fun _ _ hx => noX_x hx) (fun v181 L1 hp181 => ?_)
                obtain ⟨Qs181, u2_181, rfl, rfl, hu2_181, hN_181⟩ := hp181
                refine (show Go g κ 184 [some (.ref m), some (.int (nI i)), some (.ref it14), some (.ref x28), some (.int (nI n)), some (.int (nI v59)), some (.ref x107)] [] [v0, v1, v4, v6, v7, [(it14, .inr (22, [.int (nI (k + 1)), .int (nI k), .int md_1, .ref le]))], [(m, .inr (12, [.ref ls, .ref lb, .ref lk, .ref lp, .ref lr, .ref le, .ref lm, .ref lo, .int (nI 0), .int (dZz D), .int (nI (dBn D)), .int (nI (dCm D))]))], wc_12, u2_181, v5] 0 0 from ?_)
                refine g_aload_n (q := 185) B dX3_join_184 rfl rfl (rv_r _) ?_
                refine g_getNM (q := 188) B (ci := 16) (k := 9) (j := 0) in_X13 rfl dX3_join_185 rfl rfl (hc_3_0) (Nat.le_of_ble_eq_true rfl) q3255 rfl rfl ?_
                obtain ⟨wc_18, ewc_18⟩ : ∃ w : va_W, w = ([[(m, .inr (12, [.ref ls, .ref lb, .ref lk, .ref lp, .ref lr, .ref le, .ref lm, .ref lo, .int (nI 0), .int (dZz D), .int (nI (dBn D)), .int (nI (dCm D))]))], v0, v1, wc_12, u2_181, v4, v5, v6, v7] : List va_W).flatten := ⟨_, rfl⟩
                have hwc_18 : KdP g m ((dSs D, dBx D, ((dKs D).set v59 ((q9.1, q9.2.1, q9.2.2.1, q9.2.2.2.1, true) : MkS)), Qs181, dRs D, dEs D, dMs D, dSo D, 0, dZz D, dBn D, dCm D) : MdS) wc_18 := by
                  rw [ewc_18]
                  exact ⟨ls, lb, lk, lp, lr, le, lm, lo, kcap, pcap, rcap, ecap, mcap, mks, mps, _, _, _, _, _, _, _, _, (by first | exact hcap | exact ⟨by first | exact kc1 | exact grow_b (by omega) kc1, by first | exact kc2 | exact grow_b (by omega) kc2, by first | exact kc3 | exact grow_b (by omega) kc3, by first | exact kc4 | exact grow_b (by omega) kc4, by first | exact kc5 | (have := grow_b (n := (dMs D).length) (cap := mcap) (by omega); first | omega | (unfold growN; split <;> (try split) <;> omega))⟩), hv0, hv1, hwc_12, hu2_181, hv4, hv5, hv6, hv7, rfl⟩
                refine g_close (w := wc_18) [6, 0, 0, 4, 4, 0, 3, 0, 0] rfl ewc_18 rfl ?_
                refine (show Go g κ 188 [some (.ref m), some (.int (nI i)), some (.ref it14), some (.ref x28), some (.int (nI n)), some (.int (nI v59)), some (.ref x107)] [.int (nI (eNo r28))] [[(it14, .inr (22, [.int (nI (k + 1)), .int (nI k), .int md_1, .ref le]))], wc_18] 0 0 from ?_)
                refine g_pk [1] rfl rfl ?_
                refine (show Go g κ 188 [some (.ref m), some (.int (nI i)), some (.ref it14), some (.ref x28), some (.int (nI n)), some (.int (nI v59)), some (.ref x107)] [.int (nI (eNo r28))] [wc_18] 0 0 from ?_)
                exact g_iret B E dX3_join_188 (⟨Qs181, _, rfl, rfl, hwc_18, hN_181⟩)
              · skip
                have c96 := Classical.not_not.mp c96
                refine g_goto (tgt := 189) B dX3_join_99 (by decide) ?_
                refine g_iinc (v := nI (n + 1)) (q := 192) (lv2 := [some (.ref m), some (.int (nI i)), some (.ref it14), some (.ref x28), some (.int (nI (n + 1))), some (.int (nI v59)), none]) B dX3_join_189 rfl rfl (nI_add _ 1) (Nat.le_of_ble_eq_true rfl) rfl ?_
                refine g_goto (tgt := 40) B dX3_join_192 (by decide) ?_
                refine g_fg 5 rfl ?_
                refine g_pk [0, 0, 7, 0, 0, 0, 0, 0, 0, 0] rfl rfl ?_
                refine (show Go g κ 40 [some (.ref m), some (.int (nI i)), some (.ref it14), some (.ref x28), some (.int (nI (n + 1))), none, none] [] [v0, v1, v2, v4, v6, v7, [(m, .inr (12, [.ref ls, .ref lb, .ref lk, .ref lp, .ref lr, .ref le, .ref lm, .ref lo, .int (nI 0), .int (dZz D), .int (nI (dBn D)), .int (nI (dCm D))]))], v3, [(it14, .inr (22, [.int (nI (k + 1)), .int (nI k), .int md_1, .ref le]))], v5] ((60 + 10070 + 640 * (dMs D).length) - 1) ((300 + 130200 + 1600 * (dMs D).length) - 4) from ?_)
                exact ih40 _ (by omega) (n + 1) (by omega) (fun z => by have z2 := hnl z; rcases Nat.lt_or_ge n l with y | y; omega; exact absurd (show jnM D i r28 n by rw [show n = l by omega, show r28 = Ep by rw [z, hE] at hr28; cases hr28; rfl]; exact ⟨kk, q, hjk, hq, hq1, hq2⟩) (by first | exact jnM_0 c59 | exact jnM_n ev59 hq9 (fun z => c78 z.1) | exact jnM_n ev59 hq9 (fun z => z.2 c96))) rfl
      exact lp40 _ 0 (Nat.zero_le _) (fun _ => Nat.zero_le _) rfl
  exact lp18 _ 0 (-1) (Nat.zero_le _) (Nat.zero_le _) rfl
