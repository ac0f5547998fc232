set_option maxRecDepth 100000
def RsB (D : MdS) : Prop := (∀ q ∈ dRs D, q.1 < 200 ∧ q.2.1 < 16 ∧ q.2.2 < 1000) ∧ ∀ q ∈ dRs D, q.1 = 97 → q.2.2 < (dKs D).length
def adCanM (D : MdS) (E : MeS) (r : MpS) (q : MkS) (r2 : MpS) : Prop := isF (dEs D).length (mEp r) = true ∧ ¬ q.2.2.2.1 = true ∧ lof (eTr E) q.1 = none ∧ mEp r2 = none ∧ ¬ prA (dKs D) (dRs D) q.1 = true
def rmCanM (D : MdS) (E : MeS) (r : MpS) (l : Nat) : Prop := isF (dEs D).length (mEp r) = true ∧ ¬ (eTr E).2.1 (2 * l) = none ∧ ¬ prR (dRs D) l = true
def rnCanM (D : MdS) (i : Nat) (r : MpS) : Prop := isF (dEs D).length (mEp r) = true ∧ ¬ prN (dRs D) i = true
theorem moX3_isNew : Mo yX3_isNew 1 := by
  refine ⟨by decide, by decide, by decide +kernel⟩
theorem moX3_isProposed : Mo yX3_isProposed 2 := by
  refine ⟨by decide, by decide, by decide +kernel⟩
theorem moX3_proposed : Mo yX3_proposed 3 := by
  refine ⟨by decide, by decide, by decide +kernel⟩
theorem ct_X3_add (g : Gv) (J : Jd g) {m : Nat} {D : MdS} {Ep : MeS} {v : Int32} {u : Int32} {w0 : va_W} (hw0 : KdP g m D w0) (hD : MdB D) (hT : dEs D ≠ [] → (dEs D)[(dEs D).length - 1]? = some Ep) (h16 : dEs D ≠ [] → ∀ l, 2 ^ (eTr Ep).1 ≤ l → (eTr Ep).2.2.2 l = none) (hkp : ∀ q ∈ dKs D, q.1 < (dPs D).length) (hRs : RsB D) : Ct g yX3_add (ws_ yX3_add cX3_add 5 (some .int)) 10 10 100 [.ref m, .int v, .int u] [w0] (fun (rv_ : Option Value) (rL_ : List va_W) => ∃ (k : Nat) (x : Int32) (Rs2 : List MrS) (u0 : va_W), rv_ = some (.int x) ∧ rL_ = [u0] ∧ KdP g m ((dSs D, dBx D, dKs D, dPs D, Rs2, dEs D, dMs D, dSo D, k, dZz D, dBn D, dCm D) : MdS) u0 ∧ ((k = 1 ∧ ¬ (inR v (dPs D).length = true ∧ inR u (dKs D).length = true) ∧ Rs2 = dRs D) ∨ ∃ (i : Nat) (r : MpS) (j : Nat) (q : MkS) (r2 : MpS), v = nI i ∧ (dPs D)[i]? = some r ∧ u = nI j ∧ (dKs D)[j]? = some q ∧ (dPs D)[q.1]? = some r2 ∧ ((k = 2 ∧ ¬ adCanM D Ep r q r2 ∧ Rs2 = dRs D) ∨ (k = 3 ∧ adCanM D Ep r q r2 ∧ (dRs D).length = 8 ∧ Rs2 = dRs D) ∨ (k = 0 ∧ adCanM D Ep r q r2 ∧ ¬ (dRs D).length = 8 ∧ x = nI ((dRs D).length + 1) ∧ Rs2 = dRs D ++ [(97, i, j)])))) noX := by
  refine Ct.of "KeygroveModel" [some (.ref m), some (.int v), some (.int u), none, none] rfl (by decide) rfl (Nat.le_of_ble_eq_true rfl) rfl ?_
  intro κ B E tb
  have hD0 := hD
  obtain ⟨hd1, hd2, hd3, hd4, hd5, hd6, hd7, hd8, hd9⟩ := hD0
  obtain ⟨ls, lb, lk, lp, lr, le, lm, lo, kcap, pcap, rcap, ecap, mcap, mks, mps, v0, v1, v2, v3, v4, v5, v6, v7, hcap, hv0, hv1, hv2, hv3, hv4, hv5, hv6, hv7, rfl⟩ := hw0
  refine g_open 0 rfl rfl rfl ?_
  refine (show Go g κ 0 [some (.ref m), some (.int v), some (.int u), none, none] [] [[(m, .inr (12, [.ref ls, .ref lb, .ref lk, .ref lp, .ref lr, .ref le, .ref lm, .ref lo, .int (nI (dTh D)), .int (dZz D), .int (nI (dBn D)), .int (nI (dCm D))]))], v0, v1, v2, v3, v4, v5, v6, v7] 10 100 from ?_)
  obtain ⟨kc1, kc2, kc3, kc4, kc5⟩ := (show capM kcap pcap rcap ecap mcap from hcap)
  have hrs9 := hRs
  obtain ⟨hrs1, hrs2⟩ := hrs9
  refine g_aload_n (q := 1) B dX3_add_0 rfl rfl (rv_r _) ?_
  refine g_aload_n (q := 2) B dX3_add_1 rfl rfl (rv_r _) ?_
  refine g_iload_n (q := 3) B dX3_add_2 rfl rfl ?_
  refine g_callV (q := 6) (is := [0, 3]) (kc2 := 10) (ks2 := 100) B [.int v] (ct_X3_isPerson g J (m := m) (ls := ls) (lb := lb) (lk := lk) (lp := lp) (lr := lr) (le := le) (lm := lm) (lo := lo) (th := dTh D) (z := dZz D) (bo := dBn D) (cm := dCm D) (mps := mps) (Ps := (dPs D)) (pcap := pcap) (v := v) hv3 (by omega)) dX3_add_3 rfl (rc_at B (ci := 12) rfl (k := 0) rfl) rfl q3153 q3155 qs51 q85 q3156 rfl rfl moX3_isPerson rfl rfl (by decide) (by decide) (Nat.le_of_ble_eq_true rfl) (Nat.le_of_ble_eq_true rfl) (Nat.le_of_ble_eq_true rfl) (fun _ _ hx => noX_x hx) (fun v3 L1 hp3 => ?_)
  obtain ⟨rfl, rfl⟩ := hp3
  refine (show Go g κ 6 [some (.ref m), some (.int v), some (.int u), none, none] [.int (nI (if inR v (dPs D).length = true then 1 else 0)), .ref m] [v0, v1, v2, v4, v5, v6, v7, [(m, .inr (12, [.ref ls, .ref lb, .ref lk, .ref lp, .ref lr, .ref le, .ref lm, .ref lo, .int (nI (dTh D)), .int (dZz D), .int (nI (dBn D)), .int (nI (dCm D))]))], v3] 10 100 from ?_)
  refine g_if_eq (tgt := 30) (q := 9) B dX3_add_6 rfl (by decide) (bo_eq) (fun c6 => ?_) (fun c6 => ?_)
  · skip
    refine g_iconst (v := nI 1) (q := 31) B dX3_add_30 rfl (by decide) ?_
    refine g_callV (q := 34) (is := [7]) (kc2 := 10) (ks2 := 100) B [.int (nI 1)] (ct_X3_isWrong g J (m := m) (ls := ls) (lb := lb) (lk := lk) (lp := lp) (lr := lr) (le := le) (lm := lm) (lo := lo) (th := (dTh D)) (z := (dZz D)) (bo := (dBn D)) (cm := (dCm D)) (k := 1)  (by decide)) dX3_add_31 rfl (rc_at B (ci := 12) rfl (k := 7) rfl) rfl q3103 q3105 qs49 q85 q3106 rfl rfl moX3_isWrong rfl rfl (by decide) (by decide) (Nat.le_of_ble_eq_true rfl) (Nat.le_of_ble_eq_true rfl) (Nat.le_of_ble_eq_true rfl) (fun _ _ hx => noX_x hx) (fun v31 L1 hp31 => ?_)
    obtain ⟨rfl, rfl⟩ := hp31
    refine (show Go g κ 34 [some (.ref m), some (.int v), some (.int u), none, none] [.int (nI (if ¬ 1 = 0 then 1 else 0))] [v0, v1, v2, v4, v5, v6, v7, v3, [(m, .inr (12, [.ref ls, .ref lb, .ref lk, .ref lp, .ref lr, .ref le, .ref lm, .ref lo, .int (nI 1), .int (dZz D), .int (nI (dBn D)), .int (nI (dCm D))]))]] 10 100 from ?_)
    refine g_if_eq (tgt := 39) (q := 37) B dX3_add_34 rfl (by decide) (iff_false_intro (by decide)) (fun z => z.elim) (fun _ => ?_)
    refine g_iconst (v := nI 0) (q := 38) B dX3_add_37 rfl (by decide) ?_
    obtain ⟨wc_1, ewc_1⟩ : ∃ w : va_W, w = ([[(m, .inr (12, [.ref ls, .ref lb, .ref lk, .ref lp, .ref lr, .ref le, .ref lm, .ref lo, .int (nI 1), .int (dZz D), .int (nI (dBn D)), .int (nI (dCm D))]))], v0, v1, v2, v3, v4, v5, v6, v7] : List va_W).flatten := ⟨_, rfl⟩
    have hwc_1 : KdP g m ((dSs D, dBx D, dKs D, dPs D, (dRs D), dEs D, dMs D, dSo D, 1, dZz D, dBn D, dCm D) : MdS) wc_1 := by
      rw [ewc_1]
      exact ⟨ls, lb, lk, lp, lr, le, lm, lo, kcap, pcap, rcap, ecap, mcap, mks, mps, _, _, _, _, _, _, _, _, (by first | exact hcap | exact ⟨by first | exact kc1 | exact grow_b (by omega) kc1, by first | exact kc2 | exact grow_b (by omega) kc2, by first | exact kc3 | exact grow_b (by omega) kc3, by first | exact kc4 | exact grow_b (by omega) kc4, by first | exact kc5 | (have := grow_b (n := (dMs D).length) (cap := mcap) (by omega); first | omega | (unfold growN; split <;> (try split) <;> omega))⟩), hv0, hv1, hv2, hv3, hv4, hv5, hv6, hv7, rfl⟩
    refine g_close (w := wc_1) [8, 0, 0, 0, 4, 0, 0, 0, 0] rfl ewc_1 rfl ?_
    refine (show Go g κ 38 [some (.ref m), some (.int v), some (.int u), none, none] [.int (nI 0)] [wc_1] 10 100 from ?_)
    exact g_iret B E dX3_add_38 (⟨1, nI 0, dRs D, _, rfl, rfl, hwc_1, Or.inl ⟨rfl, by rintro ⟨z1, z2⟩; first | exact c6 z1 | exact c23 z2, rfl⟩⟩)
  · skip
    have c6 := Classical.not_not.mp c6
    refine g_iload_n (q := 10) B dX3_add_9 rfl rfl ?_
    refine g_iconst (v := nI 0) (q := 11) B dX3_add_10 rfl (by decide) ?_
    refine g_aload_n (q := 12) B dX3_add_11 rfl rfl (rv_r _) ?_
    refine g_get (q := 15) B (ci := 12) (k := 7) (j := 2) in_X3 rfl dX3_add_12 rfl rfl (Nat.le_of_ble_eq_true rfl) q3059 rfl rfl ?_
    obtain ⟨md_2, hli_2, hln_2, hel_2⟩ := LoP.at (Sub.self hv2)
    refine g_callV (q := 18) (is := [2]) (kc2 := 10) (ks2 := 100) B [] (ct_J2_size_s g J (p := lk) (xs := mks) (md := md_2) (cap := kcap) (W0 := v2)  (hli_2)) dX3_add_15 rfl (rc_in B (ci := 21) rfl (k := 2) rfl (LoP.hm hv2)) rfl q3102 q321 q3665 q81 q323 rfl rfl moJ2_size rfl rfl (by decide) (by decide) (Nat.le_of_ble_eq_true rfl) (Nat.le_of_ble_eq_true rfl) (Nat.le_of_ble_eq_true rfl) (fun _ _ hx => noX_x hx) (fun v15 L1 hp15 => ?_)
    obtain ⟨rfl, rfl⟩ := hp15
    refine (show Go g κ 18 [some (.ref m), some (.int v), some (.int u), none, none] [.int (nI mks.length), .int (nI 0), .int u, .ref m] [v0, v1, v4, v5, v6, v7, [(m, .inr (12, [.ref ls, .ref lb, .ref lk, .ref lp, .ref lr, .ref le, .ref lm, .ref lo, .int (nI (dTh D)), .int (dZz D), .int (nI (dBn D)), .int (nI (dCm D))]))], v3, v2] 10 100 from ?_)
    rw [hln_2.1]
    refine (show Go g κ 18 [some (.ref m), some (.int v), some (.int u), none, none] [.int (nI ((dKs D).length)), .int (nI 0), .int u, .ref m] [v0, v1, v4, v5, v6, v7, [(m, .inr (12, [.ref ls, .ref lb, .ref lk, .ref lp, .ref lr, .ref le, .ref lm, .ref lo, .int (nI (dTh D)), .int (dZz D), .int (nI (dBn D)), .int (nI (dCm D))]))], v3, v2] 10 100 from ?_)
    refine g_iconst (v := nI 1) (q := 19) B dX3_add_18 rfl (by decide) ?_
    refine g_isub (v := nI (dKs D).length - nI 1) (q := 20) B dX3_add_19 rfl rfl ?_
    refine g_callS (q := 23) (is := []) (kc2 := 10) (ks2 := 100) B [.int u, .int (nI 0), .int (nI (dKs D).length - nI 1)] (ct_X3_isBetween g J (v := u) (n := (dKs D).length)  (by omega)) dX3_add_20 rfl q3157 q3158 q85 q3159 rfl rfl moX3_isBetween rfl rfl (by decide) (by decide) (Nat.le_of_ble_eq_true rfl) (Nat.le_of_ble_eq_true rfl) (Nat.le_of_ble_eq_true rfl) (fun _ _ hx => noX_x hx) (fun v20 L1 hp20 => ?_)
    obtain ⟨rfl, rfl⟩ := hp20
    refine (show Go g κ 23 [some (.ref m), some (.int v), some (.int u), none, none] [.int (nI (if inR u ((dKs D).length) = true then 1 else 0)), .ref m] [v0, v1, v4, v5, v6, v7, [(m, .inr (12, [.ref ls, .ref lb, .ref lk, .ref lp, .ref lr, .ref le, .ref lm, .ref lo, .int (nI (dTh D)), .int (dZz D), .int (nI (dBn D)), .int (nI (dCm D))]))], v3, v2] 10 100 from ?_)
    refine g_if_eq (tgt := 30) (q := 26) B dX3_add_23 rfl (by decide) (bo_eq) (fun c23 => ?_) (fun c23 => ?_)
    · skip
      refine g_iconst (v := nI 1) (q := 31) B dX3_add_30 rfl (by decide) ?_
      refine g_callV (q := 34) (is := [6]) (kc2 := 10) (ks2 := 100) B [.int (nI 1)] (ct_X3_isWrong g J (m := m) (ls := ls) (lb := lb) (lk := lk) (lp := lp) (lr := lr) (le := le) (lm := lm) (lo := lo) (th := (dTh D)) (z := (dZz D)) (bo := (dBn D)) (cm := (dCm D)) (k := 1)  (by decide)) dX3_add_31 rfl (rc_at B (ci := 12) rfl (k := 6) rfl) rfl q3103 q3105 qs49 q85 q3106 rfl rfl moX3_isWrong rfl rfl (by decide) (by decide) (Nat.le_of_ble_eq_true rfl) (Nat.le_of_ble_eq_true rfl) (Nat.le_of_ble_eq_true rfl) (fun _ _ hx => noX_x hx) (fun v31 L1 hp31 => ?_)
      obtain ⟨rfl, rfl⟩ := hp31
      refine (show Go g κ 34 [some (.ref m), some (.int v), some (.int u), none, none] [.int (nI (if ¬ 1 = 0 then 1 else 0))] [v0, v1, v4, v5, v6, v7, v3, v2, [(m, .inr (12, [.ref ls, .ref lb, .ref lk, .ref lp, .ref lr, .ref le, .ref lm, .ref lo, .int (nI 1), .int (dZz D), .int (nI (dBn D)), .int (nI (dCm D))]))]] 10 100 from ?_)
      refine g_if_eq (tgt := 39) (q := 37) B dX3_add_34 rfl (by decide) (iff_false_intro (by decide)) (fun z => z.elim) (fun _ => ?_)
      refine g_iconst (v := nI 0) (q := 38) B dX3_add_37 rfl (by decide) ?_
      obtain ⟨wc_3, ewc_3⟩ : ∃ w : va_W, w = ([[(m, .inr (12, [.ref ls, .ref lb, .ref lk, .ref lp, .ref lr, .ref le, .ref lm, .ref lo, .int (nI 1), .int (dZz D), .int (nI (dBn D)), .int (nI (dCm D))]))], v0, v1, v2, v3, v4, v5, v6, v7] : List va_W).flatten := ⟨_, rfl⟩
      have hwc_3 : KdP g m ((dSs D, dBx D, dKs D, dPs D, (dRs D), dEs D, dMs D, dSo D, 1, dZz D, dBn D, dCm D) : MdS) wc_3 := by
        rw [ewc_3]
        exact ⟨ls, lb, lk, lp, lr, le, lm, lo, kcap, pcap, rcap, ecap, mcap, mks, mps, _, _, _, _, _, _, _, _, (by first | exact hcap | exact ⟨by first | exact kc1 | exact grow_b (by omega) kc1, by first | exact kc2 | exact grow_b (by omega) kc2, by first | exact kc3 | exact grow_b (by omega) kc3, by first | exact kc4 | exact grow_b (by omega) kc4, by first | exact kc5 | (have := grow_b (n := (dMs D).length) (cap := mcap) (by omega); first | omega | (unfold growN; split <;> (try split) <;> omega))⟩), hv0, hv1, hv2, hv3, hv4, hv5, hv6, hv7, rfl⟩
      refine g_close (w := wc_3) [8, 0, 0, 5, 4, 0, 0, 0, 0] rfl ewc_3 rfl ?_
      refine (show Go g κ 38 [some (.ref m), some (.int v), some (.int u), none, none] [.int (nI 0)] [wc_3] 10 100 from ?_)
      exact g_iret B E dX3_add_38 (⟨1, nI 0, dRs D, _, rfl, rfl, hwc_3, Or.inl ⟨rfl, by rintro ⟨z1, z2⟩; first | exact c6 z1 | exact c23 z2, rfl⟩⟩)
    · skip
      have c23 := Classical.not_not.mp c23
      refine g_iconst (v := nI 0) (q := 27) B dX3_add_26 rfl (by decide) ?_
      refine g_goto (tgt := 31) B dX3_add_27 (by decide) ?_
      refine g_callV (q := 34) (is := [6]) (kc2 := 10) (ks2 := 100) B [.int (nI 0)] (ct_X3_isWrong g J (m := m) (ls := ls) (lb := lb) (lk := lk) (lp := lp) (lr := lr) (le := le) (lm := lm) (lo := lo) (th := (dTh D)) (z := (dZz D)) (bo := (dBn D)) (cm := (dCm D)) (k := 0)  (by decide)) dX3_add_31 rfl (rc_at B (ci := 12) rfl (k := 6) rfl) rfl q3103 q3105 qs49 q85 q3106 rfl rfl moX3_isWrong rfl rfl (by decide) (by decide) (Nat.le_of_ble_eq_true rfl) (Nat.le_of_ble_eq_true rfl) (Nat.le_of_ble_eq_true rfl) (fun _ _ hx => noX_x hx) (fun v31 L1 hp31 => ?_)
      obtain ⟨rfl, rfl⟩ := hp31
      refine (show Go g κ 34 [some (.ref m), some (.int v), some (.int u), none, none] [.int (nI (if ¬ 0 = 0 then 1 else 0))] [v0, v1, v4, v5, v6, v7, v3, v2, [(m, .inr (12, [.ref ls, .ref lb, .ref lk, .ref lp, .ref lr, .ref le, .ref lm, .ref lo, .int (nI 0), .int (dZz D), .int (nI (dBn D)), .int (nI (dCm D))]))]] 10 100 from ?_)
      refine g_if_eq (tgt := 39) (q := 37) B dX3_add_34 rfl (by decide) (iff_true_intro (by decide)) (fun _ => ?_) (fun z => absurd trivial z)
      obtain ⟨i, hii, rfl⟩ := inR_t c6
      obtain ⟨j, hij, rfl⟩ := inR_t c23
      obtain ⟨r, hr⟩ := get_ex (xs := dPs D) (i := i) hii
      obtain ⟨q, hq⟩ := get_ex (xs := dKs D) (i := j) hij
      have hkq := hkp _ (List.mem_of_getElem? hq)
      obtain ⟨r2, hr2⟩ := get_ex (xs := dPs D) (i := q.1) hkq
      refine (show Go g κ 39 [some (.ref m), some (.int (nI i)), some (.int (nI j)), none, none] [] [v0, v1, v4, v5, v6, v7, v3, v2, [(m, .inr (12, [.ref ls, .ref lb, .ref lk, .ref lp, .ref lr, .ref le, .ref lm, .ref lo, .int (nI 0), .int (dZz D), .int (nI (dBn D)), .int (nI (dCm D))]))]] 10 100 from ?_)
      refine g_aload_n (q := 40) B dX3_add_39 rfl rfl (rv_r _) ?_
      refine g_get (q := 43) B (ci := 12) (k := 8) (j := 2) in_X3 rfl dX3_add_40 rfl rfl (Nat.le_of_ble_eq_true rfl) q3059 rfl rfl ?_
      refine g_iload_n (q := 44) B dX3_add_43 rfl rfl ?_
      obtain ⟨x44, hx44⟩ := get_ex (xs := mks) (i := j) (by have := get_lt2 (show (dKs D)[j]? = some q from hq); have := hln_2.1; omega)
      have hE_4 := hel_2 _ _ _ hx44 (show (dKs D)[j]? = some q from hq)
      refine g_callV (q := 47) (is := [7]) (kc2 := 10) (ks2 := 100) B [.int (nI j)] (ct_J2_get_s g J (p := lk) (xs := mks) (md := md_2) (cap := kcap) (i := j) (x := x44) (W0 := v2)  (hli_2) (hx44)) dX3_add_44 rfl (rc_in B (ci := 21) rfl (k := 7) rfl (LoP.hm hv2)) rfl q3231 q1095 q3667 q81 q1097 rfl rfl moJ2_get rfl rfl (by decide) (by decide) (Nat.le_of_ble_eq_true rfl) (Nat.le_of_ble_eq_true rfl) (Nat.le_of_ble_eq_true rfl) (fun _ _ hx => noX_x hx) (fun v44 L1 hp44 => ?_)
      obtain ⟨rfl, rfl⟩ := hp44
      refine (show Go g κ 47 [some (.ref m), some (.int (nI i)), some (.int (nI j)), none, none] [.ref x44] [v0, v1, v4, v5, v6, v7, v3, [(m, .inr (12, [.ref ls, .ref lb, .ref lk, .ref lp, .ref lr, .ref le, .ref lm, .ref lo, .int (nI 0), .int (dZz D), .int (nI (dBn D)), .int (nI (dCm D))]))], v2] 10 100 from ?_)
      refine g_castRS (ci := 15) (q := 50) B rfl (rc_in B (ci := 15) rfl (k := 8) rfl (Sub.hm (hE_4) fun _ z => MqP.hm z)) dX3_add_47 rfl q3198 ?_
      obtain ⟨hK_5, hc_5_0⟩ := MqP.at (hE_4)
      refine g_getNM (q := 53) B (ci := 15) (k := 8) (j := 0) in_X9 rfl dX3_add_50 rfl rfl (hc_5_0) (Nat.le_of_ble_eq_true rfl) q3205 rfl rfl ?_
      refine g_istore_n (q := 54) (lv2 := [some (.ref m), some (.int (nI i)), some (.int (nI j)), some (.int (nI q.1)), none]) B dX3_add_53 rfl (Nat.le_of_ble_eq_true rfl) rfl ?_
      refine g_aload_n (q := 55) B dX3_add_54 rfl rfl (rv_r _) ?_
      refine g_iload_n (q := 56) B dX3_add_55 rfl rfl ?_
      refine g_callV (q := 59) (is := [7, 6, 3]) (kc2 := 10) (ks2 := 100) B [.int (nI i)] (ct_X3_isNew g J (m := m) (ls := ls) (lb := lb) (lk := lk) (lp := lp) (lr := lr) (le := le) (lm := lm) (lo := lo) (th := 0) (z := (dZz D)) (bo := (dBn D)) (cm := (dCm D)) (mps := mps) (Ps := (dPs D)) (pcap := pcap) (Es := (dEs D)) (ecap := ecap) (i := i) (r := r) hv3 hv5 (hr) (by omega) (by omega)) dX3_add_56 rfl (rc_at B (ci := 12) rfl (k := 7) rfl) rfl q3370 q3372 qs62 q85 q3373 rfl rfl moX3_isNew rfl rfl (by decide) (by decide) (Nat.le_of_ble_eq_true rfl) (Nat.le_of_ble_eq_true rfl) (Nat.le_of_ble_eq_true rfl) (fun _ _ hx => noX_x hx) (fun v56 L1 hp56 => ?_)
      obtain ⟨rfl, rfl⟩ := hp56
      refine (show Go g κ 59 [some (.ref m), some (.int (nI i)), some (.int (nI j)), some (.int (nI q.1)), none] [.int (nI (if isF (dEs D).length (mEp r) = true then 1 else 0))] [v0, v1, v4, v6, v7, v2, [(m, .inr (12, [.ref ls, .ref lb, .ref lk, .ref lp, .ref lr, .ref le, .ref lm, .ref lo, .int (nI 0), .int (dZz D), .int (nI (dBn D)), .int (nI (dCm D))]))], v3, v5] 10 100 from ?_)
      refine g_if_eq (tgt := 123) (q := 62) B dX3_add_59 rfl (by decide) (bo_eq) (fun c59 => ?_) (fun c59 => ?_)
      · skip
        refine g_iconst (v := nI 0) (q := 124) B dX3_add_123 rfl (by decide) ?_
        refine g_istore (q := 126) (lv2 := [some (.ref m), some (.int (nI i)), some (.int (nI j)), some (.int (nI q.1)), some (.int (nI 0))]) B dX3_add_124 rfl (Nat.le_of_ble_eq_true rfl) rfl ?_
        refine g_aload_n (q := 127) B dX3_add_126 rfl rfl (rv_r _) ?_
        refine g_iload (q := 129) B dX3_add_127 rfl rfl ?_
        refine g_if_ne (tgt := 136) (q := 132) B dX3_add_129 rfl (by decide) (iff_false_intro (by decide)) (fun z => z.elim) (fun _ => ?_)
        refine g_iconst (v := nI 2) (q := 133) B dX3_add_132 rfl (by decide) ?_
        refine g_goto (tgt := 153) B dX3_add_133 (by decide) ?_
        refine g_callV (q := 156) (is := [6]) (kc2 := 10) (ks2 := 100) B [.int (nI 2)] (ct_X3_isWrong g J (m := m) (ls := ls) (lb := lb) (lk := lk) (lp := lp) (lr := lr) (le := le) (lm := lm) (lo := lo) (th := 0) (z := (dZz D)) (bo := (dBn D)) (cm := (dCm D)) (k := 2)  (by decide)) dX3_add_153 rfl (rc_at B (ci := 12) rfl (k := 6) rfl) rfl q3103 q3105 qs49 q85 q3106 rfl rfl moX3_isWrong rfl rfl (by decide) (by decide) (Nat.le_of_ble_eq_true rfl) (Nat.le_of_ble_eq_true rfl) (Nat.le_of_ble_eq_true rfl) (fun _ _ hx => noX_x hx) (fun v153 L1 hp153 => ?_)
        obtain ⟨rfl, rfl⟩ := hp153
        refine (show Go g κ 156 [some (.ref m), some (.int (nI i)), some (.int (nI j)), some (.int (nI q.1)), some (.int (nI 0))] [.int (nI (if ¬ 2 = 0 then 1 else 0))] [v0, v1, v4, v6, v7, v2, v3, v5, [(m, .inr (12, [.ref ls, .ref lb, .ref lk, .ref lp, .ref lr, .ref le, .ref lm, .ref lo, .int (nI 2), .int (dZz D), .int (nI (dBn D)), .int (nI (dCm D))]))]] 10 100 from ?_)
        refine g_if_eq (tgt := 161) (q := 159) B dX3_add_156 rfl (by decide) (iff_false_intro (by decide)) (fun z => z.elim) (fun _ => ?_)
        refine g_iconst (v := nI 0) (q := 160) B dX3_add_159 rfl (by decide) ?_
        obtain ⟨wc_6, ewc_6⟩ : ∃ w : va_W, w = ([[(m, .inr (12, [.ref ls, .ref lb, .ref lk, .ref lp, .ref lr, .ref le, .ref lm, .ref lo, .int (nI 2), .int (dZz D), .int (nI (dBn D)), .int (nI (dCm D))]))], v0, v1, v2, v3, v4, v5, v6, v7] : List va_W).flatten := ⟨_, rfl⟩
        have hwc_6 : KdP g m ((dSs D, dBx D, dKs D, dPs D, (dRs D), dEs D, dMs D, dSo D, 2, dZz D, dBn D, dCm D) : MdS) wc_6 := by
          rw [ewc_6]
          exact ⟨ls, lb, lk, lp, lr, le, lm, lo, kcap, pcap, rcap, ecap, mcap, mks, mps, _, _, _, _, _, _, _, _, (by first | exact hcap | exact ⟨by first | exact kc1 | exact grow_b (by omega) kc1, by first | exact kc2 | exact grow_b (by omega) kc2, by first | exact kc3 | exact grow_b (by omega) kc3, by first | exact kc4 | exact grow_b (by omega) kc4, by first | exact kc5 | (have := grow_b (n := (dMs D).length) (cap := mcap) (by omega); first | omega | (unfold growN; split <;> (try split) <;> omega))⟩), hv0, hv1, hv2, hv3, hv4, hv5, hv6, hv7, rfl⟩
        refine g_close (w := wc_6) [8, 0, 0, 3, 3, 0, 2, 0, 0] rfl ewc_6 rfl ?_
        refine (show Go g κ 160 [some (.ref m), some (.int (nI i)), some (.int (nI j)), some (.int (nI q.1)), some (.int (nI 0))] [.int (nI 0)] [wc_6] 10 100 from ?_)
        exact g_iret B E dX3_add_160 (⟨2, nI 0, dRs D, _, rfl, rfl, hwc_6, Or.inr ⟨i, r, j, q, r2, rfl, hr, rfl, hq, hr2, Or.inl ⟨rfl, by rintro ⟨z1, z2, z3, z4, z5⟩; first | exact c59 z1 | exact z2 c76 | exact c88 z3 | exact c106 z4 | exact z5 c116, rfl⟩⟩⟩)
      · skip
        have c59 := Classical.not_not.mp c59
        have hne : dEs D ≠ [] := fun z => by have h := isF_ne c59; rw [z] at h; exact absurd h (by decide)
        refine g_aload_n (q := 63) B dX3_add_62 rfl rfl (rv_r _) ?_
        refine g_get (q := 66) B (ci := 12) (k := 6) (j := 2) in_X3 rfl dX3_add_63 rfl rfl (Nat.le_of_ble_eq_true rfl) q3059 rfl rfl ?_
        refine g_iload_n (q := 67) B dX3_add_66 rfl rfl ?_
        have hE_7 := hel_2 _ _ _ hx44 (show (dKs D)[j]? = some q from hq)
        refine g_callV (q := 70) (is := [5]) (kc2 := 10) (ks2 := 100) B [.int (nI j)] (ct_J2_get_s g J (p := lk) (xs := mks) (md := md_2) (cap := kcap) (i := j) (x := x44) (W0 := v2)  (hli_2) (hx44)) dX3_add_67 rfl (rc_in B (ci := 21) rfl (k := 5) rfl (LoP.hm hv2)) rfl q3231 q1095 q3667 q81 q1097 rfl rfl moJ2_get rfl rfl (by decide) (by decide) (Nat.le_of_ble_eq_true rfl) (Nat.le_of_ble_eq_true rfl) (Nat.le_of_ble_eq_true rfl) (fun _ _ hx => noX_x hx) (fun v67 L1 hp67 => ?_)
        obtain ⟨rfl, rfl⟩ := hp67
        refine (show Go g κ 70 [some (.ref m), some (.int (nI i)), some (.int (nI j)), some (.int (nI q.1)), none] [.ref x44] [v0, v1, v4, v6, v7, [(m, .inr (12, [.ref ls, .ref lb, .ref lk, .ref lp, .ref lr, .ref le, .ref lm, .ref lo, .int (nI 0), .int (dZz D), .int (nI (dBn D)), .int (nI (dCm D))]))], v3, v5, v2] 10 100 from ?_)
        refine g_castRS (ci := 15) (q := 73) B rfl (rc_in B (ci := 15) rfl (k := 8) rfl (Sub.hm (hE_7) fun _ z => MqP.hm z)) dX3_add_70 rfl q3198 ?_
        refine g_getNM (q := 76) B (ci := 15) (k := 8) (j := 3) in_X9 rfl dX3_add_73 rfl rfl (hc_5_0) (Nat.le_of_ble_eq_true rfl) q3210 rfl rfl ?_
        refine g_if_ne (tgt := 123) (q := 79) B dX3_add_76 rfl (by decide) (bo_ne) (fun c76 => ?_) (fun c76 => ?_)
        · skip
          refine g_iconst (v := nI 0) (q := 124) B dX3_add_123 rfl (by decide) ?_
          refine g_istore (q := 126) (lv2 := [some (.ref m), some (.int (nI i)), some (.int (nI j)), some (.int (nI q.1)), some (.int (nI 0))]) B dX3_add_124 rfl (Nat.le_of_ble_eq_true rfl) rfl ?_
          refine g_aload_n (q := 127) B dX3_add_126 rfl rfl (rv_r _) ?_
          refine g_iload (q := 129) B dX3_add_127 rfl rfl ?_
          refine g_if_ne (tgt := 136) (q := 132) B dX3_add_129 rfl (by decide) (iff_false_intro (by decide)) (fun z => z.elim) (fun _ => ?_)
          refine g_iconst (v := nI 2) (q := 133) B dX3_add_132 rfl (by decide) ?_
          refine g_goto (tgt := 153) B dX3_add_133 (by decide) ?_
          refine g_callV (q := 156) (is := [5]) (kc2 := 10) (ks2 := 100) B [.int (nI 2)] (ct_X3_isWrong g J (m := m) (ls := ls) (lb := lb) (lk := lk) (lp := lp) (lr := lr) (le := le) (lm := lm) (lo := lo) (th := 0) (z := (dZz D)) (bo := (dBn D)) (cm := (dCm D)) (k := 2)  (by decide)) dX3_add_153 rfl (rc_at B (ci := 12) rfl (k := 5) rfl) rfl q3103 q3105 qs49 q85 q3106 rfl rfl moX3_isWrong rfl rfl (by decide) (by decide) (Nat.le_of_ble_eq_true rfl) (Nat.le_of_ble_eq_true rfl) (Nat.le_of_ble_eq_true rfl) (fun _ _ hx => noX_x hx) (fun v153 L1 hp153 => ?_)
          obtain ⟨rfl, rfl⟩ := hp153
          refine (show Go g κ 156 [some (.ref m), some (.int (nI i)), some (.int (nI j)), some (.int (nI q.1)), some (.int (nI 0))] [.int (nI (if ¬ 2 = 0 then 1 else 0))] [v0, v1, v4, v6, v7, v3, v5, v2, [(m, .inr (12, [.ref ls, .ref lb, .ref lk, .ref lp, .ref lr, .ref le, .ref lm, .ref lo, .int (nI 2), .int (dZz D), .int (nI (dBn D)), .int (nI (dCm D))]))]] 10 100 from ?_)
          refine g_if_eq (tgt := 161) (q := 159) B dX3_add_156 rfl (by decide) (iff_false_intro (by decide)) (fun z => z.elim) (fun _ => ?_)
          refine g_iconst (v := nI 0) (q := 160) B dX3_add_159 rfl (by decide) ?_
          obtain ⟨wc_8, ewc_8⟩ : ∃ w : va_W, w = ([[(m, .inr (12, [.ref ls, .ref lb, .ref lk, .ref lp, .ref lr, .ref le, .ref lm, .ref lo, .int (nI 2), .int (dZz D), .int (nI (dBn D)), .int (nI (dCm D))]))], v0, v1, v2, v3, v4, v5, v6, v7] : List va_W).flatten := ⟨_, rfl⟩
          have hwc_8 : KdP g m ((dSs D, dBx D, dKs D, dPs D, (dRs D), dEs D, dMs D, dSo D, 2, dZz D, dBn D, dCm D) : MdS) wc_8 := by
            rw [ewc_8]
            exact ⟨ls, lb, lk, lp, lr, le, lm, lo, kcap, pcap, rcap, ecap, mcap, mks, mps, _, _, _, _, _, _, _, _, (by first | exact hcap | exact ⟨by first | exact kc1 | exact grow_b (by omega) kc1, by first | exact kc2 | exact grow_b (by omega) kc2, by first | exact kc3 | exact grow_b (by omega) kc3, by first | exact kc4 | exact grow_b (by omega) kc4, by first | exact kc5 | (have := grow_b (n := (dMs D).length) (cap := mcap) (by omega); first | omega | (unfold growN; split <;> (try split) <;> omega))⟩), hv0, hv1, hv2, hv3, hv4, hv5, hv6, hv7, rfl⟩
          refine g_close (w := wc_8) [8, 0, 0, 5, 3, 0, 2, 0, 0] rfl ewc_8 rfl ?_
          refine (show Go g κ 160 [some (.ref m), some (.int (nI i)), some (.int (nI j)), some (.int (nI q.1)), some (.int (nI 0))] [.int (nI 0)] [wc_8] 10 100 from ?_)
          exact g_iret B E dX3_add_160 (⟨2, nI 0, dRs D, _, rfl, rfl, hwc_8, Or.inr ⟨i, r, j, q, r2, rfl, hr, rfl, hq, hr2, Or.inl ⟨rfl, by rintro ⟨z1, z2, z3, z4, z5⟩; first | exact c59 z1 | exact z2 c76 | exact c88 z3 | exact c106 z4 | exact z5 c116, rfl⟩⟩⟩)
        · skip
          refine g_aload_n (q := 80) B dX3_add_79 rfl rfl (rv_r _) ?_
          refine g_iload_n (q := 81) B dX3_add_80 rfl rfl ?_
          refine g_aload_n (q := 82) B dX3_add_81 rfl rfl (rv_r _) ?_
          refine g_callV (q := 85) (is := [5, 6]) (kc2 := 10) (ks2 := 100) B [] (ct_X3_newest g J (m := m) (ls := ls) (lb := lb) (lk := lk) (lp := lp) (lr := lr) (le := le) (lm := lm) (lo := lo) (th := 0) (z := (dZz D)) (bo := (dBn D)) (cm := (dCm D)) (Es := (dEs D)) (ecap := ecap) (Ep := Ep) hv5 (hT hne) (by omega)) dX3_add_82 rfl (rc_at B (ci := 12) rfl (k := 5) rfl) rfl q3374 q3376 qs63 q85 q3377 rfl rfl moX3_newest rfl rfl (by decide) (by decide) (Nat.le_of_ble_eq_true rfl) (Nat.le_of_ble_eq_true rfl) (Nat.le_of_ble_eq_true rfl) (fun _ _ hx => noX_x hx) (fun v82 L1 hp82 => ?_)
          obtain ⟨e82, rfl, rfl, hE_82⟩ := hp82
          refine (show Go g κ 85 [some (.ref m), some (.int (nI i)), some (.int (nI j)), some (.int (nI q.1)), none] [.ref e82, .int (nI q.1), .ref m] [v0, v1, v4, v6, v7, v3, v2, [(m, .inr (12, [.ref ls, .ref lb, .ref lk, .ref lp, .ref lr, .ref le, .ref lm, .ref lo, .int (nI 0), .int (dZz D), .int (nI (dBn D)), .int (nI (dCm D))]))], v5] 10 100 from ?_)
          refine g_callV (q := 88) (is := [7, 7]) (kc2 := 10) (ks2 := 100) B [.int (nI q.1), .ref e82] (ct_X3_isIn g J (m := m) (ls := ls) (lb := lb) (lk := lk) (lp := lp) (lr := lr) (le := le) (lm := lm) (lo := lo) (th := 0) (z := (dZz D)) (bo := (dBn D)) (cm := (dCm D)) (p := q.1) (e := e82) (Ep := Ep) (we := v5)  (hE_82) (by first | assumption | omega | rfl) (h16 hne)) dX3_add_85 rfl (rc_at B (ci := 12) rfl (k := 7) rfl) rfl q3362 q3364 qs61 q85 q3365 rfl rfl moX3_isIn rfl rfl (by decide) (by decide) (Nat.le_of_ble_eq_true rfl) (Nat.le_of_ble_eq_true rfl) (Nat.le_of_ble_eq_true rfl) (fun _ _ hx => noX_x hx) (fun v85 L1 hp85 => ?_)
          obtain ⟨rfl, rfl⟩ := hp85
          refine (show Go g κ 88 [some (.ref m), some (.int (nI i)), some (.int (nI j)), some (.int (nI q.1)), none] [.int (nI (if ¬ lof (eTr Ep) q.1 = none then 1 else 0))] [v0, v1, v4, v6, v7, v3, v2, [(m, .inr (12, [.ref ls, .ref lb, .ref lk, .ref lp, .ref lr, .ref le, .ref lm, .ref lo, .int (nI 0), .int (dZz D), .int (nI (dBn D)), .int (nI (dCm D))]))], v5] 10 100 from ?_)
          refine g_if_ne (tgt := 123) (q := 91) B dX3_add_88 rfl (by decide) (bo_ne) (fun c88 => ?_) (fun c88 => ?_)
          · skip
            refine g_iconst (v := nI 0) (q := 124) B dX3_add_123 rfl (by decide) ?_
            refine g_istore (q := 126) (lv2 := [some (.ref m), some (.int (nI i)), some (.int (nI j)), some (.int (nI q.1)), some (.int (nI 0))]) B dX3_add_124 rfl (Nat.le_of_ble_eq_true rfl) rfl ?_
            refine g_aload_n (q := 127) B dX3_add_126 rfl rfl (rv_r _) ?_
            refine g_iload (q := 129) B dX3_add_127 rfl rfl ?_
            refine g_if_ne (tgt := 136) (q := 132) B dX3_add_129 rfl (by decide) (iff_false_intro (by decide)) (fun z => z.elim) (fun _ => ?_)
            refine g_iconst (v := nI 2) (q := 133) B dX3_add_132 rfl (by decide) ?_
            refine g_goto (tgt := 153) B dX3_add_133 (by decide) ?_
            refine g_callV (q := 156) (is := [7]) (kc2 := 10) (ks2 := 100) B [.int (nI 2)] (ct_X3_isWrong g J (m := m) (ls := ls) (lb := lb) (lk := lk) (lp := lp) (lr := lr) (le := le) (lm := lm) (lo := lo) (th := 0) (z := (dZz D)) (bo := (dBn D)) (cm := (dCm D)) (k := 2)  (by decide)) dX3_add_153 rfl (rc_at B (ci := 12) rfl (k := 7) rfl) rfl q3103 q3105 qs49 q85 q3106 rfl rfl moX3_isWrong rfl rfl (by decide) (by decide) (Nat.le_of_ble_eq_true rfl) (Nat.le_of_ble_eq_true rfl) (Nat.le_of_ble_eq_true rfl) (fun _ _ hx => noX_x hx) (fun v153 L1 hp153 => ?_)
            obtain ⟨rfl, rfl⟩ := hp153
            refine (show Go g κ 156 [some (.ref m), some (.int (nI i)), some (.int (nI j)), some (.int (nI q.1)), some (.int (nI 0))] [.int (nI (if ¬ 2 = 0 then 1 else 0))] [v0, v1, v4, v6, v7, v3, v2, v5, [(m, .inr (12, [.ref ls, .ref lb, .ref lk, .ref lp, .ref lr, .ref le, .ref lm, .ref lo, .int (nI 2), .int (dZz D), .int (nI (dBn D)), .int (nI (dCm D))]))]] 10 100 from ?_)
            refine g_if_eq (tgt := 161) (q := 159) B dX3_add_156 rfl (by decide) (iff_false_intro (by decide)) (fun z => z.elim) (fun _ => ?_)
            refine g_iconst (v := nI 0) (q := 160) B dX3_add_159 rfl (by decide) ?_
            obtain ⟨wc_9, ewc_9⟩ : ∃ w : va_W, w = ([[(m, .inr (12, [.ref ls, .ref lb, .ref lk, .ref lp, .ref lr, .ref le, .ref lm, .ref lo, .int (nI 2), .int (dZz D), .int (nI (dBn D)), .int (nI (dCm D))]))], v0, v1, v2, v3, v4, v5, v6, v7] : List va_W).flatten := ⟨_, rfl⟩
            have hwc_9 : KdP g m ((dSs D, dBx D, dKs D, dPs D, (dRs D), dEs D, dMs D, dSo D, 2, dZz D, dBn D, dCm D) : MdS) wc_9 := by
              rw [ewc_9]
              exact ⟨ls, lb, lk, lp, lr, le, lm, lo, kcap, pcap, rcap, ecap, mcap, mks, mps, _, _, _, _, _, _, _, _, (by first | exact hcap | exact ⟨by first | exact kc1 | exact grow_b (by omega) kc1, by first | exact kc2 | exact grow_b (by omega) kc2, by first | exact kc3 | exact grow_b (by omega) kc3, by first | exact kc4 | exact grow_b (by omega) kc4, by first | exact kc5 | (have := grow_b (n := (dMs D).length) (cap := mcap) (by omega); first | omega | (unfold growN; split <;> (try split) <;> omega))⟩), hv0, hv1, hv2, hv3, hv4, hv5, hv6, hv7, rfl⟩
            refine g_close (w := wc_9) [8, 0, 0, 4, 3, 0, 2, 0, 0] rfl ewc_9 rfl ?_
            refine (show Go g κ 160 [some (.ref m), some (.int (nI i)), some (.int (nI j)), some (.int (nI q.1)), some (.int (nI 0))] [.int (nI 0)] [wc_9] 10 100 from ?_)
            exact g_iret B E dX3_add_160 (⟨2, nI 0, dRs D, _, rfl, rfl, hwc_9, Or.inr ⟨i, r, j, q, r2, rfl, hr, rfl, hq, hr2, Or.inl ⟨rfl, by rintro ⟨z1, z2, z3, z4, z5⟩; first | exact c59 z1 | exact z2 c76 | exact c88 z3 | exact c106 z4 | exact z5 c116, rfl⟩⟩⟩)
          · skip
            refine g_aload_n (q := 92) B dX3_add_91 rfl rfl (rv_r _) ?_
            refine g_get (q := 95) B (ci := 12) (k := 7) (j := 3) in_X3 rfl dX3_add_92 rfl rfl (Nat.le_of_ble_eq_true rfl) q3060 rfl rfl ?_
            refine g_iload_n (q := 96) B dX3_add_95 rfl rfl ?_
            obtain ⟨md_10, hli_10, hln_10, hel_10⟩ := LoP.at (Sub.self hv3)
            obtain ⟨x96, hx96⟩ := get_ex (xs := mps) (i := q.1) (by have := get_lt2 (show (dPs D)[q.1]? = some r2 from hr2); have := hln_10.1; omega)
            have hE_11 := hel_10 _ _ _ hx96 (show (dPs D)[q.1]? = some r2 from hr2)
            refine g_callV (q := 99) (is := [5]) (kc2 := 10) (ks2 := 100) B [.int (nI q.1)] (ct_J2_get_s g J (p := lp) (xs := mps) (md := md_10) (cap := pcap) (i := q.1) (x := x96) (W0 := v3)  (hli_10) (hx96)) dX3_add_96 rfl (rc_in B (ci := 21) rfl (k := 5) rfl (LoP.hm hv3)) rfl q3231 q1095 q3667 q81 q1097 rfl rfl moJ2_get rfl rfl (by decide) (by decide) (Nat.le_of_ble_eq_true rfl) (Nat.le_of_ble_eq_true rfl) (Nat.le_of_ble_eq_true rfl) (fun _ _ hx => noX_x hx) (fun v96 L1 hp96 => ?_)
            obtain ⟨rfl, rfl⟩ := hp96
            refine (show Go g κ 99 [some (.ref m), some (.int (nI i)), some (.int (nI j)), some (.int (nI q.1)), none] [.ref x96] [v0, v1, v4, v6, v7, v2, [(m, .inr (12, [.ref ls, .ref lb, .ref lk, .ref lp, .ref lr, .ref le, .ref lm, .ref lo, .int (nI 0), .int (dZz D), .int (nI (dBn D)), .int (nI (dCm D))]))], v5, v3] 10 100 from ?_)
            refine g_castRS (ci := 13) (q := 102) B rfl (rc_in B (ci := 13) rfl (k := 8) rfl (Sub.hm (hE_11) fun _ z => MpP.hm z)) dX3_add_99 rfl q3107 ?_
            obtain ⟨nd_12, ch_12, ev_12, cv_12, fn_12, fc_12, hM_12, hfn_12, hoc_12, hcv_12, hc_12_0, hc_12_1, hc_12_2, hs_12_0, hs_12_1⟩ := MpP.at (hE_11)
            refine g_getNM (q := 105) B (ci := 13) (k := 8) (j := 0) in_X5 rfl dX3_add_102 rfl rfl (hc_12_0) (Nat.le_of_ble_eq_true rfl) q3118 rfl rfl ?_
            refine g_iconst (v := -1) (q := 106) B dX3_add_105 rfl (by decide) ?_
            refine g_icmp_ne (tgt := 123) (q := 109) B dX3_add_106 rfl (by decide) (oI_nn ((fun n h => by have := hM_12.1 _ h; omega))) (fun c106 => ?_) (fun c106 => ?_)
            · skip
              obtain ⟨v106, ev106⟩ := Option.ne_none_iff_exists'.mp c106
              refine g_iconst (v := nI 0) (q := 124) B dX3_add_123 rfl (by decide) ?_
              refine g_istore (q := 126) (lv2 := [some (.ref m), some (.int (nI i)), some (.int (nI j)), some (.int (nI q.1)), some (.int (nI 0))]) B dX3_add_124 rfl (Nat.le_of_ble_eq_true rfl) rfl ?_
              refine g_aload_n (q := 127) B dX3_add_126 rfl rfl (rv_r _) ?_
              refine g_iload (q := 129) B dX3_add_127 rfl rfl ?_
              refine g_if_ne (tgt := 136) (q := 132) B dX3_add_129 rfl (by decide) (iff_false_intro (by decide)) (fun z => z.elim) (fun _ => ?_)
              refine g_iconst (v := nI 2) (q := 133) B dX3_add_132 rfl (by decide) ?_
              refine g_goto (tgt := 153) B dX3_add_133 (by decide) ?_
              refine g_callV (q := 156) (is := [6]) (kc2 := 10) (ks2 := 100) B [.int (nI 2)] (ct_X3_isWrong g J (m := m) (ls := ls) (lb := lb) (lk := lk) (lp := lp) (lr := lr) (le := le) (lm := lm) (lo := lo) (th := 0) (z := (dZz D)) (bo := (dBn D)) (cm := (dCm D)) (k := 2)  (by decide)) dX3_add_153 rfl (rc_at B (ci := 12) rfl (k := 6) rfl) rfl q3103 q3105 qs49 q85 q3106 rfl rfl moX3_isWrong rfl rfl (by decide) (by decide) (Nat.le_of_ble_eq_true rfl) (Nat.le_of_ble_eq_true rfl) (Nat.le_of_ble_eq_true rfl) (fun _ _ hx => noX_x hx) (fun v153 L1 hp153 => ?_)
              obtain ⟨rfl, rfl⟩ := hp153
              refine (show Go g κ 156 [some (.ref m), some (.int (nI i)), some (.int (nI j)), some (.int (nI q.1)), some (.int (nI 0))] [.int (nI (if ¬ 2 = 0 then 1 else 0))] [v0, v1, v4, v6, v7, v2, v5, v3, [(m, .inr (12, [.ref ls, .ref lb, .ref lk, .ref lp, .ref lr, .ref le, .ref lm, .ref lo, .int (nI 2), .int (dZz D), .int (nI (dBn D)), .int (nI (dCm D))]))]] 10 100 from ?_)
              refine g_if_eq (tgt := 161) (q := 159) B dX3_add_156 rfl (by decide) (iff_false_intro (by decide)) (fun z => z.elim) (fun _ => ?_)
              refine g_iconst (v := nI 0) (q := 160) B dX3_add_159 rfl (by decide) ?_
              obtain ⟨wc_13, ewc_13⟩ : ∃ w : va_W, w = ([[(m, .inr (12, [.ref ls, .ref lb, .ref lk, .ref lp, .ref lr, .ref le, .ref lm, .ref lo, .int (nI 2), .int (dZz D), .int (nI (dBn D)), .int (nI (dCm D))]))], v0, v1, v2, v3, v4, v5, v6, v7] : List va_W).flatten := ⟨_, rfl⟩
              have hwc_13 : KdP g m ((dSs D, dBx D, dKs D, dPs D, (dRs D), dEs D, dMs D, dSo D, 2, dZz D, dBn D, dCm D) : MdS) wc_13 := by
                rw [ewc_13]
                exact ⟨ls, lb, lk, lp, lr, le, lm, lo, kcap, pcap, rcap, ecap, mcap, mks, mps, _, _, _, _, _, _, _, _, (by first | exact hcap | exact ⟨by first | exact kc1 | exact grow_b (by omega) kc1, by first | exact kc2 | exact grow_b (by omega) kc2, by first | exact kc3 | exact grow_b (by omega) kc3, by first | exact kc4 | exact grow_b (by omega) kc4, by first | exact kc5 | (have := grow_b (n := (dMs D).length) (cap := mcap) (by omega); first | omega | (unfold growN; split <;> (try split) <;> omega))⟩), hv0, hv1, hv2, hv3, hv4, hv5, hv6, hv7, rfl⟩
              refine g_close (w := wc_13) [8, 0, 0, 3, 4, 0, 2, 0, 0] rfl ewc_13 rfl ?_
              refine (show Go g κ 160 [some (.ref m), some (.int (nI i)), some (.int (nI j)), some (.int (nI q.1)), some (.int (nI 0))] [.int (nI 0)] [wc_13] 10 100 from ?_)
              exact g_iret B E dX3_add_160 (⟨2, nI 0, dRs D, _, rfl, rfl, hwc_13, Or.inr ⟨i, r, j, q, r2, rfl, hr, rfl, hq, hr2, Or.inl ⟨rfl, by rintro ⟨z1, z2, z3, z4, z5⟩; first | exact c59 z1 | exact z2 c76 | exact c88 z3 | exact c106 z4 | exact z5 c116, rfl⟩⟩⟩)
            · skip
              have c106 := Classical.not_not.mp c106
              refine g_aload_n (q := 110) B dX3_add_109 rfl rfl (rv_r _) ?_
              refine g_bipush (v := nI 97) (q := 112) B dX3_add_110 rfl (by decide) ?_
              refine g_iload_n (q := 113) B dX3_add_112 rfl rfl ?_
              refine g_callV (q := 116) (is := [6, 2, 4]) (kc2 := 9) (ks2 := 96) B [.int (nI 97), .int (nI j)] (ct_X3_isProposed_97 g J (m := m) (ls := ls) (lb := lb) (lk := lk) (lp := lp) (lr := lr) (le := le) (lm := lm) (lo := lo) (th := 0) (z := (dZz D)) (bo := (dBn D)) (cm := (dCm D)) (w := j) (q0 := q) (Rs := (dRs D)) (rcap := rcap) (mks := mks) (Ks := (dKs D)) (kcap := kcap) hv4 hv2 (hrs1) (by omega) (hq) (hrs2)) dX3_add_113 rfl (rc_at B (ci := 12) rfl (k := 6) rfl) rfl q3378 q3380 qs64 q85 q3381 rfl rfl moX3_isProposed rfl rfl (by decide) (by decide) (Nat.le_of_ble_eq_true rfl) (Nat.le_of_ble_eq_true rfl) (Nat.le_of_ble_eq_true rfl) (fun _ _ hx => noX_x hx) (fun v113 L1 hp113 => ?_)
              obtain ⟨rfl, rfl⟩ := hp113
              refine (show Go g κ 116 [some (.ref m), some (.int (nI i)), some (.int (nI j)), some (.int (nI q.1)), none] [.int (nI (if prA (dKs D) (dRs D) q.1 = true then 1 else 0))] [v0, v1, v6, v7, v5, v3, [(m, .inr (12, [.ref ls, .ref lb, .ref lk, .ref lp, .ref lr, .ref le, .ref lm, .ref lo, .int (nI 0), .int (dZz D), .int (nI (dBn D)), .int (nI (dCm D))]))], v4, v2] 9 96 from ?_)
              refine g_if_ne (tgt := 123) (q := 119) B dX3_add_116 rfl (by decide) (bo_ne) (fun c116 => ?_) (fun c116 => ?_)
              · skip
                refine g_iconst (v := nI 0) (q := 124) B dX3_add_123 rfl (by decide) ?_
                refine g_istore (q := 126) (lv2 := [some (.ref m), some (.int (nI i)), some (.int (nI j)), some (.int (nI q.1)), some (.int (nI 0))]) B dX3_add_124 rfl (Nat.le_of_ble_eq_true rfl) rfl ?_
                refine g_aload_n (q := 127) B dX3_add_126 rfl rfl (rv_r _) ?_
                refine g_iload (q := 129) B dX3_add_127 rfl rfl ?_
                refine g_if_ne (tgt := 136) (q := 132) B dX3_add_129 rfl (by decide) (iff_false_intro (by decide)) (fun z => z.elim) (fun _ => ?_)
                refine g_iconst (v := nI 2) (q := 133) B dX3_add_132 rfl (by decide) ?_
                refine g_goto (tgt := 153) B dX3_add_133 (by decide) ?_
                refine g_callV (q := 156) (is := [6]) (kc2 := 9) (ks2 := 96) B [.int (nI 2)] (ct_X3_isWrong g J (m := m) (ls := ls) (lb := lb) (lk := lk) (lp := lp) (lr := lr) (le := le) (lm := lm) (lo := lo) (th := 0) (z := (dZz D)) (bo := (dBn D)) (cm := (dCm D)) (k := 2)  (by decide)) dX3_add_153 rfl (rc_at B (ci := 12) rfl (k := 6) rfl) rfl q3103 q3105 qs49 q85 q3106 rfl rfl moX3_isWrong rfl rfl (by decide) (by decide) (Nat.le_of_ble_eq_true rfl) (Nat.le_of_ble_eq_true rfl) (Nat.le_of_ble_eq_true rfl) (fun _ _ hx => noX_x hx) (fun v153 L1 hp153 => ?_)
                obtain ⟨rfl, rfl⟩ := hp153
                refine (show Go g κ 156 [some (.ref m), some (.int (nI i)), some (.int (nI j)), some (.int (nI q.1)), some (.int (nI 0))] [.int (nI (if ¬ 2 = 0 then 1 else 0))] [v0, v1, v6, v7, v5, v3, v4, v2, [(m, .inr (12, [.ref ls, .ref lb, .ref lk, .ref lp, .ref lr, .ref le, .ref lm, .ref lo, .int (nI 2), .int (dZz D), .int (nI (dBn D)), .int (nI (dCm D))]))]] 9 96 from ?_)
                refine g_if_eq (tgt := 161) (q := 159) B dX3_add_156 rfl (by decide) (iff_false_intro (by decide)) (fun z => z.elim) (fun _ => ?_)
                refine g_iconst (v := nI 0) (q := 160) B dX3_add_159 rfl (by decide) ?_
                obtain ⟨wc_14, ewc_14⟩ : ∃ w : va_W, w = ([[(m, .inr (12, [.ref ls, .ref lb, .ref lk, .ref lp, .ref lr, .ref le, .ref lm, .ref lo, .int (nI 2), .int (dZz D), .int (nI (dBn D)), .int (nI (dCm D))]))], v0, v1, v2, v3, v4, v5, v6, v7] : List va_W).flatten := ⟨_, rfl⟩
                have hwc_14 : KdP g m ((dSs D, dBx D, dKs D, dPs D, (dRs D), dEs D, dMs D, dSo D, 2, dZz D, dBn D, dCm D) : MdS) wc_14 := by
                  rw [ewc_14]
                  exact ⟨ls, lb, lk, lp, lr, le, lm, lo, kcap, pcap, rcap, ecap, mcap, mks, mps, _, _, _, _, _, _, _, _, (by first | exact hcap | exact ⟨by first | exact kc1 | exact grow_b (by omega) kc1, by first | exact kc2 | exact grow_b (by omega) kc2, by first | exact kc3 | exact grow_b (by omega) kc3, by first | exact kc4 | exact grow_b (by omega) kc4, by first | exact kc5 | (have := grow_b (n := (dMs D).length) (cap := mcap) (by omega); first | omega | (unfold growN; split <;> (try split) <;> omega))⟩), hv0, hv1, hv2, hv3, hv4, hv5, hv6, hv7, rfl⟩
                refine g_close (w := wc_14) [8, 0, 0, 5, 3, 3, 2, 0, 0] rfl ewc_14 rfl ?_
                refine (show Go g κ 160 [some (.ref m), some (.int (nI i)), some (.int (nI j)), some (.int (nI q.1)), some (.int (nI 0))] [.int (nI 0)] [wc_14] 9 96 from ?_)
                exact g_iret B E dX3_add_160 (⟨2, nI 0, dRs D, _, rfl, rfl, hwc_14, Or.inr ⟨i, r, j, q, r2, rfl, hr, rfl, hq, hr2, Or.inl ⟨rfl, by rintro ⟨z1, z2, z3, z4, z5⟩; first | exact c59 z1 | exact z2 c76 | exact c88 z3 | exact c106 z4 | exact z5 c116, rfl⟩⟩⟩)
              · skip
                refine g_iconst (v := nI 1) (q := 120) B dX3_add_119 rfl (by decide) ?_
                refine g_goto (tgt := 124) B dX3_add_120 (by decide) ?_
                refine g_istore (q := 126) (lv2 := [some (.ref m), some (.int (nI i)), some (.int (nI j)), some (.int (nI q.1)), some (.int (nI 1))]) B dX3_add_124 rfl (Nat.le_of_ble_eq_true rfl) rfl ?_
                refine g_aload_n (q := 127) B dX3_add_126 rfl rfl (rv_r _) ?_
                refine g_iload (q := 129) B dX3_add_127 rfl rfl ?_
                refine g_if_ne (tgt := 136) (q := 132) B dX3_add_129 rfl (by decide) (iff_true_intro (by decide)) (fun _ => ?_) (fun z => absurd trivial z)
                refine g_aload_n (q := 137) B dX3_add_136 rfl rfl (rv_r _) ?_
                refine g_get (q := 140) B (ci := 12) (k := 6) (j := 4) in_X3 rfl dX3_add_137 rfl rfl (Nat.le_of_ble_eq_true rfl) q3061 rfl rfl ?_
                obtain ⟨ps_15, md_15, hli_15, hln_15, hel_15⟩ := LhP.at (Sub.self hv4)
                refine g_callV (q := 143) (is := [7]) (kc2 := 9) (ks2 := 96) B [] (ct_J2_size_s g J (p := lr) (xs := ps_15) (md := md_15) (cap := rcap) (W0 := v4)  (hli_15)) dX3_add_140 rfl (rc_in B (ci := 21) rfl (k := 7) rfl (LhP.hm hv4)) rfl q3102 q321 q3665 q81 q323 rfl rfl moJ2_size rfl rfl (by decide) (by decide) (Nat.le_of_ble_eq_true rfl) (Nat.le_of_ble_eq_true rfl) (Nat.le_of_ble_eq_true rfl) (fun _ _ hx => noX_x hx) (fun v140 L1 hp140 => ?_)
                obtain ⟨rfl, rfl⟩ := hp140
                refine (show Go g κ 143 [some (.ref m), some (.int (nI i)), some (.int (nI j)), some (.int (nI q.1)), some (.int (nI 1))] [.int (nI ps_15.length), .ref m] [v0, v1, v6, v7, v5, v3, [(m, .inr (12, [.ref ls, .ref lb, .ref lk, .ref lp, .ref lr, .ref le, .ref lm, .ref lo, .int (nI 0), .int (dZz D), .int (nI (dBn D)), .int (nI (dCm D))]))], v2, v4] 9 96 from ?_)
                rw [hln_15.1]
                refine (show Go g κ 143 [some (.ref m), some (.int (nI i)), some (.int (nI j)), some (.int (nI q.1)), some (.int (nI 1))] [.int (nI ((dRs D).length)), .ref m] [v0, v1, v6, v7, v5, v3, [(m, .inr (12, [.ref ls, .ref lb, .ref lk, .ref lp, .ref lr, .ref le, .ref lm, .ref lo, .int (nI 0), .int (dZz D), .int (nI (dBn D)), .int (nI (dCm D))]))], v2, v4] 9 96 from ?_)
                refine g_bipush (v := nI 8) (q := 145) B dX3_add_143 rfl (by decide) ?_
                refine g_icmp_ne (tgt := 152) (q := 148) B dX3_add_145 rfl (by decide) (not_congr (nI_eq (by omega) (by omega))) (fun c145 => ?_) (fun c145 => ?_)
                · skip
                  refine g_iconst (v := nI 0) (q := 153) B dX3_add_152 rfl (by decide) ?_
                  refine g_callV (q := 156) (is := [6]) (kc2 := 9) (ks2 := 96) B [.int (nI 0)] (ct_X3_isWrong g J (m := m) (ls := ls) (lb := lb) (lk := lk) (lp := lp) (lr := lr) (le := le) (lm := lm) (lo := lo) (th := 0) (z := (dZz D)) (bo := (dBn D)) (cm := (dCm D)) (k := 0)  (by decide)) dX3_add_153 rfl (rc_at B (ci := 12) rfl (k := 6) rfl) rfl q3103 q3105 qs49 q85 q3106 rfl rfl moX3_isWrong rfl rfl (by decide) (by decide) (Nat.le_of_ble_eq_true rfl) (Nat.le_of_ble_eq_true rfl) (Nat.le_of_ble_eq_true rfl) (fun _ _ hx => noX_x hx) (fun v153 L1 hp153 => ?_)
                  obtain ⟨rfl, rfl⟩ := hp153
                  refine (show Go g κ 156 [some (.ref m), some (.int (nI i)), some (.int (nI j)), some (.int (nI q.1)), some (.int (nI 1))] [.int (nI (if ¬ 0 = 0 then 1 else 0))] [v0, v1, v6, v7, v5, v3, v2, v4, [(m, .inr (12, [.ref ls, .ref lb, .ref lk, .ref lp, .ref lr, .ref le, .ref lm, .ref lo, .int (nI 0), .int (dZz D), .int (nI (dBn D)), .int (nI (dCm D))]))]] 9 96 from ?_)
                  refine g_if_eq (tgt := 161) (q := 159) B dX3_add_156 rfl (by decide) (iff_true_intro (by decide)) (fun _ => ?_) (fun z => absurd trivial z)
                  refine g_aload_n (q := 162) B dX3_add_161 rfl rfl (rv_r _) ?_
                  refine g_bipush (v := nI 97) (q := 164) B dX3_add_162 rfl (by decide) ?_
                  refine g_iload_n (q := 165) B dX3_add_164 rfl rfl ?_
                  refine g_iload_n (q := 166) B dX3_add_165 rfl rfl ?_
                  refine g_callV (q := 169) (is := [8, 7]) (kc2 := 7) (ks2 := 33) B [.int (nI 97), .int (nI i), .int (nI j)] (ct_X3_proposed g J (m := m) (ls := ls) (lb := lb) (lk := lk) (lp := lp) (lr := lr) (le := le) (lm := lm) (lo := lo) (th := 0) (z := (dZz D)) (bo := (dBn D)) (cm := (dCm D)) (Rs := (dRs D)) (rcap := rcap) (k := 97) (p := i) (wv := j) hv4 (by first | assumption | omega | rfl) (by omega) (by omega)) dX3_add_166 rfl (rc_at B (ci := 12) rfl (k := 8) rfl) rfl q3383 q3385 qs65 q85 q3386 rfl rfl moX3_proposed rfl rfl (by decide) (by decide) (Nat.le_of_ble_eq_true rfl) (Nat.le_of_ble_eq_true rfl) (Nat.le_of_ble_eq_true rfl) (fun _ _ hx => noX_x hx) (fun v166 L1 hp166 => ?_)
                  obtain ⟨u1_166, rfl, rfl, hu1_166⟩ := hp166
                  refine (show Go g κ 169 [some (.ref m), some (.int (nI i)), some (.int (nI j)), some (.int (nI q.1)), some (.int (nI 1))] [.int (nI ((dRs D).length + 1))] [v0, v1, v6, v7, v5, v3, v2, [(m, .inr (12, [.ref ls, .ref lb, .ref lk, .ref lp, .ref lr, .ref le, .ref lm, .ref lo, .int (nI 0), .int (dZz D), .int (nI (dBn D)), .int (nI (dCm D))]))], u1_166] 7 33 from ?_)
                  obtain ⟨wc_16, ewc_16⟩ : ∃ w : va_W, w = ([[(m, .inr (12, [.ref ls, .ref lb, .ref lk, .ref lp, .ref lr, .ref le, .ref lm, .ref lo, .int (nI 0), .int (dZz D), .int (nI (dBn D)), .int (nI (dCm D))]))], v0, v1, v2, v3, u1_166, v5, v6, v7] : List va_W).flatten := ⟨_, rfl⟩
                  have hwc_16 : KdP g m ((dSs D, dBx D, dKs D, dPs D, (dRs D ++ [(97, i, j)]), dEs D, dMs D, dSo D, 0, dZz D, dBn D, dCm D) : MdS) wc_16 := by
                    rw [ewc_16]
                    exact ⟨ls, lb, lk, lp, lr, le, lm, lo, kcap, pcap, (if (dRs D).length = rcap then growN rcap else rcap), ecap, mcap, mks, mps, _, _, _, _, _, _, _, _, (by first | exact hcap | exact ⟨by first | exact kc1 | exact grow_b (by omega) kc1, by first | exact kc2 | exact grow_b (by omega) kc2, by first | exact kc3 | exact grow_b (by omega) kc3, by first | exact kc4 | exact grow_b (by omega) kc4, by first | exact kc5 | (have := grow_b (n := (dMs D).length) (cap := mcap) (by omega); first | omega | (unfold growN; split <;> (try split) <;> omega))⟩), hv0, hv1, hv2, hv3, hu1_166, hv5, hv6, hv7, rfl⟩
                  refine g_close (w := wc_16) [7, 0, 0, 4, 3, 3, 2, 0, 0] rfl ewc_16 rfl ?_
                  refine (show Go g κ 169 [some (.ref m), some (.int (nI i)), some (.int (nI j)), some (.int (nI q.1)), some (.int (nI 1))] [.int (nI ((dRs D).length + 1))] [wc_16] 7 33 from ?_)
                  exact g_iret B E dX3_add_169 (⟨0, _, _, _, rfl, rfl, hwc_16, Or.inr ⟨i, r, j, q, r2, rfl, hr, rfl, hq, hr2, Or.inr (Or.inr ⟨rfl, ⟨c59, c76, Classical.not_not.mp c88, c106, c116⟩, c145, rfl, rfl⟩)⟩⟩)
                · skip
                  refine g_iconst (v := nI 3) (q := 149) B dX3_add_148 rfl (by decide) ?_
                  refine g_goto (tgt := 153) B dX3_add_149 (by decide) ?_
                  refine g_callV (q := 156) (is := [6]) (kc2 := 9) (ks2 := 96) B [.int (nI 3)] (ct_X3_isWrong g J (m := m) (ls := ls) (lb := lb) (lk := lk) (lp := lp) (lr := lr) (le := le) (lm := lm) (lo := lo) (th := 0) (z := (dZz D)) (bo := (dBn D)) (cm := (dCm D)) (k := 3)  (by decide)) dX3_add_153 rfl (rc_at B (ci := 12) rfl (k := 6) rfl) rfl q3103 q3105 qs49 q85 q3106 rfl rfl moX3_isWrong rfl rfl (by decide) (by decide) (Nat.le_of_ble_eq_true rfl) (Nat.le_of_ble_eq_true rfl) (Nat.le_of_ble_eq_true rfl) (fun _ _ hx => noX_x hx) (fun v153 L1 hp153 => ?_)
                  obtain ⟨rfl, rfl⟩ := hp153
                  refine (show Go g κ 156 [some (.ref m), some (.int (nI i)), some (.int (nI j)), some (.int (nI q.1)), some (.int (nI 1))] [.int (nI (if ¬ 3 = 0 then 1 else 0))] [v0, v1, v6, v7, v5, v3, v2, v4, [(m, .inr (12, [.ref ls, .ref lb, .ref lk, .ref lp, .ref lr, .ref le, .ref lm, .ref lo, .int (nI 3), .int (dZz D), .int (nI (dBn D)), .int (nI (dCm D))]))]] 9 96 from ?_)
                  refine g_if_eq (tgt := 161) (q := 159) B dX3_add_156 rfl (by decide) (iff_false_intro (by decide)) (fun z => z.elim) (fun _ => ?_)
                  refine g_iconst (v := nI 0) (q := 160) B dX3_add_159 rfl (by decide) ?_
                  obtain ⟨wc_17, ewc_17⟩ : ∃ w : va_W, w = ([[(m, .inr (12, [.ref ls, .ref lb, .ref lk, .ref lp, .ref lr, .ref le, .ref lm, .ref lo, .int (nI 3), .int (dZz D), .int (nI (dBn D)), .int (nI (dCm D))]))], v0, v1, v2, v3, v4, v5, v6, v7] : List va_W).flatten := ⟨_, rfl⟩
                  have hwc_17 : KdP g m ((dSs D, dBx D, dKs D, dPs D, (dRs D), dEs D, dMs D, dSo D, 3, dZz D, dBn D, dCm D) : MdS) wc_17 := by
                    rw [ewc_17]
                    exact ⟨ls, lb, lk, lp, lr, le, lm, lo, kcap, pcap, rcap, ecap, mcap, mks, mps, _, _, _, _, _, _, _, _, (by first | exact hcap | exact ⟨by first | exact kc1 | exact grow_b (by omega) kc1, by first | exact kc2 | exact grow_b (by omega) kc2, by first | exact kc3 | exact grow_b (by omega) kc3, by first | exact kc4 | exact grow_b (by omega) kc4, by first | exact kc5 | (have := grow_b (n := (dMs D).length) (cap := mcap) (by omega); first | omega | (unfold growN; split <;> (try split) <;> omega))⟩), hv0, hv1, hv2, hv3, hv4, hv5, hv6, hv7, rfl⟩
                  refine g_close (w := wc_17) [8, 0, 0, 4, 3, 3, 2, 0, 0] rfl ewc_17 rfl ?_
                  refine (show Go g κ 160 [some (.ref m), some (.int (nI i)), some (.int (nI j)), some (.int (nI q.1)), some (.int (nI 1))] [.int (nI 0)] [wc_17] 9 96 from ?_)
                  exact g_iret B E dX3_add_160 (⟨3, nI 0, dRs D, _, rfl, rfl, hwc_17, Or.inr ⟨i, r, j, q, r2, rfl, hr, rfl, hq, hr2, Or.inr (Or.inl ⟨rfl, ⟨c59, c76, Classical.not_not.mp c88, c106, c116⟩, Classical.not_not.mp c145, rfl⟩)⟩⟩)
theorem ct_X3_remove (g : Gv) (J : Jd g) {m : Nat} {D : MdS} {Ep : MeS} {v : Int32} {u : Int32} {w0 : va_W} (hw0 : KdP g m D w0) (hD : MdB D) (hT : dEs D ≠ [] → (dEs D)[(dEs D).length - 1]? = some Ep) (hRs : RsB D) : Ct g yX3_remove (ws_ yX3_remove cX3_remove 4 (some .int)) 10 10 100 [.ref m, .int v, .int u] [w0] (fun (rv_ : Option Value) (rL_ : List va_W) => ∃ (k : Nat) (x : Int32) (Rs2 : List MrS) (u0 : va_W), rv_ = some (.int x) ∧ rL_ = [u0] ∧ KdP g m ((dSs D, dBx D, dKs D, dPs D, Rs2, dEs D, dMs D, dSo D, k, dZz D, dBn D, dCm D) : MdS) u0 ∧ ((k = 1 ∧ ¬ (inR v (dPs D).length = true ∧ dEs D ≠ [] ∧ inR u (2 ^ (eTr Ep).1) = true) ∧ Rs2 = dRs D) ∨ ∃ (i : Nat) (r : MpS) (j : Nat), v = nI i ∧ (dPs D)[i]? = some r ∧ u = nI j ∧ j < 2 ^ (eTr Ep).1 ∧ dEs D ≠ [] ∧ ((k = 2 ∧ ¬ rmCanM D Ep r j ∧ Rs2 = dRs D) ∨ (k = 3 ∧ rmCanM D Ep r j ∧ (dRs D).length = 8 ∧ Rs2 = dRs D) ∨ (k = 0 ∧ rmCanM D Ep r j ∧ ¬ (dRs D).length = 8 ∧ x = nI ((dRs D).length + 1) ∧ Rs2 = dRs D ++ [(114, i, j)])))) noX := by
  refine Ct.of "KeygroveModel" [some (.ref m), some (.int v), some (.int u), none] rfl (by decide) rfl (Nat.le_of_ble_eq_true rfl) rfl ?_
  intro κ B E tb
  have hD0 := hD
  obtain ⟨hd1, hd2, hd3, hd4, hd5, hd6, hd7, hd8, hd9⟩ := hD0
  obtain ⟨ls, lb, lk, lp, lr, le, lm, lo, kcap, pcap, rcap, ecap, mcap, mks, mps, v0, v1, v2, v3, v4, v5, v6, v7, hcap, hv0, hv1, hv2, hv3, hv4, hv5, hv6, hv7, rfl⟩ := hw0
  refine g_open 0 rfl rfl rfl ?_
  refine (show Go g κ 0 [some (.ref m), some (.int v), some (.int u), none] [] [[(m, .inr (12, [.ref ls, .ref lb, .ref lk, .ref lp, .ref lr, .ref le, .ref lm, .ref lo, .int (nI (dTh D)), .int (dZz D), .int (nI (dBn D)), .int (nI (dCm D))]))], v0, v1, v2, v3, v4, v5, v6, v7] 10 100 from ?_)
  obtain ⟨kc1, kc2, kc3, kc4, kc5⟩ := (show capM kcap pcap rcap ecap mcap from hcap)
  have hrs9 := hRs
  obtain ⟨hrs1, hrs2⟩ := hrs9
  refine g_aload_n (q := 1) B dX3_remove_0 rfl rfl (rv_r _) ?_
  refine g_aload_n (q := 2) B dX3_remove_1 rfl rfl (rv_r _) ?_
  refine g_iload_n (q := 3) B dX3_remove_2 rfl rfl ?_
  refine g_callV (q := 6) (is := [0, 3]) (kc2 := 10) (ks2 := 100) B [.int v] (ct_X3_isPerson g J (m := m) (ls := ls) (lb := lb) (lk := lk) (lp := lp) (lr := lr) (le := le) (lm := lm) (lo := lo) (th := dTh D) (z := dZz D) (bo := dBn D) (cm := dCm D) (mps := mps) (Ps := (dPs D)) (pcap := pcap) (v := v) hv3 (by omega)) dX3_remove_3 rfl (rc_at B (ci := 12) rfl (k := 0) rfl) rfl q3153 q3155 qs51 q85 q3156 rfl rfl moX3_isPerson rfl rfl (by decide) (by decide) (Nat.le_of_ble_eq_true rfl) (Nat.le_of_ble_eq_true rfl) (Nat.le_of_ble_eq_true rfl) (fun _ _ hx => noX_x hx) (fun v3 L1 hp3 => ?_)
  obtain ⟨rfl, rfl⟩ := hp3
  refine (show Go g κ 6 [some (.ref m), some (.int v), some (.int u), none] [.int (nI (if inR v (dPs D).length = true then 1 else 0)), .ref m] [v0, v1, v2, v4, v5, v6, v7, [(m, .inr (12, [.ref ls, .ref lb, .ref lk, .ref lp, .ref lr, .ref le, .ref lm, .ref lo, .int (nI (dTh D)), .int (dZz D), .int (nI (dBn D)), .int (nI (dCm D))]))], v3] 10 100 from ?_)
  refine g_if_eq (tgt := 40) (q := 9) B dX3_remove_6 rfl (by decide) (bo_eq) (fun c6 => ?_) (fun c6 => ?_)
  · skip
    refine g_iconst (v := nI 1) (q := 41) B dX3_remove_40 rfl (by decide) ?_
    refine g_callV (q := 44) (is := [7]) (kc2 := 10) (ks2 := 100) B [.int (nI 1)] (ct_X3_isWrong g J (m := m) (ls := ls) (lb := lb) (lk := lk) (lp := lp) (lr := lr) (le := le) (lm := lm) (lo := lo) (th := (dTh D)) (z := (dZz D)) (bo := (dBn D)) (cm := (dCm D)) (k := 1)  (by decide)) dX3_remove_41 rfl (rc_at B (ci := 12) rfl (k := 7) rfl) rfl q3103 q3105 qs49 q85 q3106 rfl rfl moX3_isWrong rfl rfl (by decide) (by decide) (Nat.le_of_ble_eq_true rfl) (Nat.le_of_ble_eq_true rfl) (Nat.le_of_ble_eq_true rfl) (fun _ _ hx => noX_x hx) (fun v41 L1 hp41 => ?_)
    obtain ⟨rfl, rfl⟩ := hp41
    refine (show Go g κ 44 [some (.ref m), some (.int v), some (.int u), none] [.int (nI (if ¬ 1 = 0 then 1 else 0))] [v0, v1, v2, v4, v5, v6, v7, v3, [(m, .inr (12, [.ref ls, .ref lb, .ref lk, .ref lp, .ref lr, .ref le, .ref lm, .ref lo, .int (nI 1), .int (dZz D), .int (nI (dBn D)), .int (nI (dCm D))]))]] 10 100 from ?_)
    refine g_if_eq (tgt := 49) (q := 47) B dX3_remove_44 rfl (by decide) (iff_false_intro (by decide)) (fun z => z.elim) (fun _ => ?_)
    refine g_iconst (v := nI 0) (q := 48) B dX3_remove_47 rfl (by decide) ?_
    obtain ⟨wc_1, ewc_1⟩ : ∃ w : va_W, w = ([[(m, .inr (12, [.ref ls, .ref lb, .ref lk, .ref lp, .ref lr, .ref le, .ref lm, .ref lo, .int (nI 1), .int (dZz D), .int (nI (dBn D)), .int (nI (dCm D))]))], v0, v1, v2, v3, v4, v5, v6, v7] : List va_W).flatten := ⟨_, rfl⟩
    have hwc_1 : KdP g m ((dSs D, dBx D, dKs D, dPs D, (dRs D), dEs D, dMs D, dSo D, 1, dZz D, dBn D, dCm D) : MdS) wc_1 := by
      rw [ewc_1]
      exact ⟨ls, lb, lk, lp, lr, le, lm, lo, kcap, pcap, rcap, ecap, mcap, mks, mps, _, _, _, _, _, _, _, _, (by first | exact hcap | exact ⟨by first | exact kc1 | exact grow_b (by omega) kc1, by first | exact kc2 | exact grow_b (by omega) kc2, by first | exact kc3 | exact grow_b (by omega) kc3, by first | exact kc4 | exact grow_b (by omega) kc4, by first | exact kc5 | (have := grow_b (n := (dMs D).length) (cap := mcap) (by omega); first | omega | (unfold growN; split <;> (try split) <;> omega))⟩), hv0, hv1, hv2, hv3, hv4, hv5, hv6, hv7, rfl⟩
    refine g_close (w := wc_1) [8, 0, 0, 0, 4, 0, 0, 0, 0] rfl ewc_1 rfl ?_
    refine (show Go g κ 48 [some (.ref m), some (.int v), some (.int u), none] [.int (nI 0)] [wc_1] 10 100 from ?_)
    exact g_iret B E dX3_remove_48 (⟨1, nI 0, dRs D, _, rfl, rfl, hwc_1, Or.inl ⟨rfl, by rintro ⟨z1, z2, z3⟩; first | exact c6 z1 | exact c33 z3 | exact z2 (List.length_eq_zero_iff.mp c16), rfl⟩⟩)
  · skip
    have c6 := Classical.not_not.mp c6
    refine g_aload_n (q := 10) B dX3_remove_9 rfl rfl (rv_r _) ?_
    refine g_get (q := 13) B (ci := 12) (k := 7) (j := 5) in_X3 rfl dX3_remove_10 rfl rfl (Nat.le_of_ble_eq_true rfl) q3062 rfl rfl ?_
    obtain ⟨ps_2, md_2, hli_2, hln_2, hel_2⟩ := LhP.at (Sub.self hv5)
    refine g_callV (q := 16) (is := [4]) (kc2 := 10) (ks2 := 100) B [] (ct_J2_isEmpty_s g J (p := le) (xs := ps_2) (md := md_2) (cap := ecap) (W0 := v5)  (hli_2)) dX3_remove_13 rfl (rc_in B (ci := 21) rfl (k := 4) rfl (LhP.hm hv5)) rfl q3248 q1130 q3669 q81 q1132 rfl rfl moJ2_isEmpty rfl rfl (by decide) (by decide) (Nat.le_of_ble_eq_true rfl) (Nat.le_of_ble_eq_true rfl) (Nat.le_of_ble_eq_true rfl) (fun _ _ hx => noX_x hx) (fun v13 L1 hp13 => ?_)
    obtain ⟨rfl, rfl⟩ := hp13
    refine (show Go g κ 16 [some (.ref m), some (.int v), some (.int u), none] [.int (nI (if ps_2.length = 0 then 1 else 0)), .ref m] [v0, v1, v2, v4, v6, v7, [(m, .inr (12, [.ref ls, .ref lb, .ref lk, .ref lp, .ref lr, .ref le, .ref lm, .ref lo, .int (nI (dTh D)), .int (dZz D), .int (nI (dBn D)), .int (nI (dCm D))]))], v3, v5] 10 100 from ?_)
    rw [hln_2.1]
    refine (show Go g κ 16 [some (.ref m), some (.int v), some (.int u), none] [.int (nI (if (dEs D).length = 0 then 1 else 0)), .ref m] [v0, v1, v2, v4, v6, v7, [(m, .inr (12, [.ref ls, .ref lb, .ref lk, .ref lp, .ref lr, .ref le, .ref lm, .ref lo, .int (nI (dTh D)), .int (dZz D), .int (nI (dBn D)), .int (nI (dCm D))]))], v3, v5] 10 100 from ?_)
    refine g_if_ne (tgt := 40) (q := 19) B dX3_remove_16 rfl (by decide) (bo_ne) (fun c16 => ?_) (fun c16 => ?_)
    · skip
      refine g_iconst (v := nI 1) (q := 41) B dX3_remove_40 rfl (by decide) ?_
      refine g_callV (q := 44) (is := [6]) (kc2 := 10) (ks2 := 100) B [.int (nI 1)] (ct_X3_isWrong g J (m := m) (ls := ls) (lb := lb) (lk := lk) (lp := lp) (lr := lr) (le := le) (lm := lm) (lo := lo) (th := (dTh D)) (z := (dZz D)) (bo := (dBn D)) (cm := (dCm D)) (k := 1)  (by decide)) dX3_remove_41 rfl (rc_at B (ci := 12) rfl (k := 6) rfl) rfl q3103 q3105 qs49 q85 q3106 rfl rfl moX3_isWrong rfl rfl (by decide) (by decide) (Nat.le_of_ble_eq_true rfl) (Nat.le_of_ble_eq_true rfl) (Nat.le_of_ble_eq_true rfl) (fun _ _ hx => noX_x hx) (fun v41 L1 hp41 => ?_)
      obtain ⟨rfl, rfl⟩ := hp41
      refine (show Go g κ 44 [some (.ref m), some (.int v), some (.int u), none] [.int (nI (if ¬ 1 = 0 then 1 else 0))] [v0, v1, v2, v4, v6, v7, v3, v5, [(m, .inr (12, [.ref ls, .ref lb, .ref lk, .ref lp, .ref lr, .ref le, .ref lm, .ref lo, .int (nI 1), .int (dZz D), .int (nI (dBn D)), .int (nI (dCm D))]))]] 10 100 from ?_)
      refine g_if_eq (tgt := 49) (q := 47) B dX3_remove_44 rfl (by decide) (iff_false_intro (by decide)) (fun z => z.elim) (fun _ => ?_)
      refine g_iconst (v := nI 0) (q := 48) B dX3_remove_47 rfl (by decide) ?_
      obtain ⟨wc_3, ewc_3⟩ : ∃ w : va_W, w = ([[(m, .inr (12, [.ref ls, .ref lb, .ref lk, .ref lp, .ref lr, .ref le, .ref lm, .ref lo, .int (nI 1), .int (dZz D), .int (nI (dBn D)), .int (nI (dCm D))]))], v0, v1, v2, v3, v4, v5, v6, v7] : List va_W).flatten := ⟨_, rfl⟩
      have hwc_3 : KdP g m ((dSs D, dBx D, dKs D, dPs D, (dRs D), dEs D, dMs D, dSo D, 1, dZz D, dBn D, dCm D) : MdS) wc_3 := by
        rw [ewc_3]
        exact ⟨ls, lb, lk, lp, lr, le, lm, lo, kcap, pcap, rcap, ecap, mcap, mks, mps, _, _, _, _, _, _, _, _, (by first | exact hcap | exact ⟨by first | exact kc1 | exact grow_b (by omega) kc1, by first | exact kc2 | exact grow_b (by omega) kc2, by first | exact kc3 | exact grow_b (by omega) kc3, by first | exact kc4 | exact grow_b (by omega) kc4, by first | exact kc5 | (have := grow_b (n := (dMs D).length) (cap := mcap) (by omega); first | omega | (unfold growN; split <;> (try split) <;> omega))⟩), hv0, hv1, hv2, hv3, hv4, hv5, hv6, hv7, rfl⟩
      refine g_close (w := wc_3) [8, 0, 0, 0, 3, 0, 2, 0, 0] rfl ewc_3 rfl ?_
      refine (show Go g κ 48 [some (.ref m), some (.int v), some (.int u), none] [.int (nI 0)] [wc_3] 10 100 from ?_)
      exact g_iret B E dX3_remove_48 (⟨1, nI 0, dRs D, _, rfl, rfl, hwc_3, Or.inl ⟨rfl, by rintro ⟨z1, z2, z3⟩; first | exact c6 z1 | exact c33 z3 | exact z2 (List.length_eq_zero_iff.mp c16), rfl⟩⟩)
    · skip
      have hne : dEs D ≠ [] := fun z => c16 (by rw [z]; rfl)
      refine g_iload_n (q := 20) B dX3_remove_19 rfl rfl ?_
      refine g_iconst (v := nI 0) (q := 21) B dX3_remove_20 rfl (by decide) ?_
      refine g_aload_n (q := 22) B dX3_remove_21 rfl rfl (rv_r _) ?_
      refine g_callV (q := 25) (is := [6, 7]) (kc2 := 10) (ks2 := 100) B [] (ct_X3_newest g J (m := m) (ls := ls) (lb := lb) (lk := lk) (lp := lp) (lr := lr) (le := le) (lm := lm) (lo := lo) (th := (dTh D)) (z := (dZz D)) (bo := (dBn D)) (cm := (dCm D)) (Es := (dEs D)) (ecap := ecap) (Ep := Ep) hv5 (hT hne) (by omega)) dX3_remove_22 rfl (rc_at B (ci := 12) rfl (k := 6) rfl) rfl q3374 q3376 qs63 q85 q3377 rfl rfl moX3_newest rfl rfl (by decide) (by decide) (Nat.le_of_ble_eq_true rfl) (Nat.le_of_ble_eq_true rfl) (Nat.le_of_ble_eq_true rfl) (fun _ _ hx => noX_x hx) (fun v22 L1 hp22 => ?_)
      obtain ⟨e22, rfl, rfl, hE_22⟩ := hp22
      refine (show Go g κ 25 [some (.ref m), some (.int v), some (.int u), none] [.ref e22, .int (nI 0), .int u, .ref m] [v0, v1, v2, v4, v6, v7, v3, [(m, .inr (12, [.ref ls, .ref lb, .ref lk, .ref lp, .ref lr, .ref le, .ref lm, .ref lo, .int (nI (dTh D)), .int (dZz D), .int (nI (dBn D)), .int (nI (dCm D))]))], v5] 10 100 from ?_)
      have hEB22 := EpP.b2 hE_22
      have hTB22 := hEB22.2.1
      have hp222 := p2_4 hTB22.1
      obtain ⟨ap_4, an_4, al_4, ac_4, aw_4, am_4, ak_4, fp_4, fn_4, fl_4, fc_4, fw_4, fm_4, fk_4, hE_4, hfp_4, hfn_4, hfl_4, hfc_4, hfw_4, hfm_4, hfk_4, hc_4_0, hc_4_1, hc_4_2, hc_4_3, hc_4_4, hc_4_5, hc_4_6, hc_4_7⟩ := EpP.at (hE_22)
      refine g_getNM (q := 28) B (ci := 16) (k := 8) (j := 1) in_X13 rfl dX3_remove_25 rfl rfl (hc_4_0) (Nat.le_of_ble_eq_true rfl) q3257 rfl rfl ?_
      refine g_iconst (v := nI 1) (q := 29) B dX3_remove_28 rfl (by decide) ?_
      refine g_isub (v := nI (2 ^ (eTr Ep).1) - nI 1) (q := 30) B dX3_remove_29 rfl rfl ?_
      refine g_callS (q := 33) (is := []) (kc2 := 10) (ks2 := 100) B [.int u, .int (nI 0), .int (nI (2 ^ (eTr Ep).1) - nI 1)] (ct_X3_isBetween g J (v := u) (n := 2 ^ (eTr Ep).1)  (by omega)) dX3_remove_30 rfl q3157 q3158 q85 q3159 rfl rfl moX3_isBetween rfl rfl (by decide) (by decide) (Nat.le_of_ble_eq_true rfl) (Nat.le_of_ble_eq_true rfl) (Nat.le_of_ble_eq_true rfl) (fun _ _ hx => noX_x hx) (fun v30 L1 hp30 => ?_)
      obtain ⟨rfl, rfl⟩ := hp30
      refine (show Go g κ 33 [some (.ref m), some (.int v), some (.int u), none] [.int (nI (if inR u (2 ^ (eTr Ep).1) = true then 1 else 0)), .ref m] [v0, v1, v2, v4, v6, v7, v3, [(m, .inr (12, [.ref ls, .ref lb, .ref lk, .ref lp, .ref lr, .ref le, .ref lm, .ref lo, .int (nI (dTh D)), .int (dZz D), .int (nI (dBn D)), .int (nI (dCm D))]))], v5] 10 100 from ?_)
      refine g_if_eq (tgt := 40) (q := 36) B dX3_remove_33 rfl (by decide) (bo_eq) (fun c33 => ?_) (fun c33 => ?_)
      · skip
        refine g_iconst (v := nI 1) (q := 41) B dX3_remove_40 rfl (by decide) ?_
        refine g_callV (q := 44) (is := [7]) (kc2 := 10) (ks2 := 100) B [.int (nI 1)] (ct_X3_isWrong g J (m := m) (ls := ls) (lb := lb) (lk := lk) (lp := lp) (lr := lr) (le := le) (lm := lm) (lo := lo) (th := (dTh D)) (z := (dZz D)) (bo := (dBn D)) (cm := (dCm D)) (k := 1)  (by decide)) dX3_remove_41 rfl (rc_at B (ci := 12) rfl (k := 7) rfl) rfl q3103 q3105 qs49 q85 q3106 rfl rfl moX3_isWrong rfl rfl (by decide) (by decide) (Nat.le_of_ble_eq_true rfl) (Nat.le_of_ble_eq_true rfl) (Nat.le_of_ble_eq_true rfl) (fun _ _ hx => noX_x hx) (fun v41 L1 hp41 => ?_)
        obtain ⟨rfl, rfl⟩ := hp41
        refine (show Go g κ 44 [some (.ref m), some (.int v), some (.int u), none] [.int (nI (if ¬ 1 = 0 then 1 else 0))] [v0, v1, v2, v4, v6, v7, v3, v5, [(m, .inr (12, [.ref ls, .ref lb, .ref lk, .ref lp, .ref lr, .ref le, .ref lm, .ref lo, .int (nI 1), .int (dZz D), .int (nI (dBn D)), .int (nI (dCm D))]))]] 10 100 from ?_)
        refine g_if_eq (tgt := 49) (q := 47) B dX3_remove_44 rfl (by decide) (iff_false_intro (by decide)) (fun z => z.elim) (fun _ => ?_)
        refine g_iconst (v := nI 0) (q := 48) B dX3_remove_47 rfl (by decide) ?_
        obtain ⟨wc_5, ewc_5⟩ : ∃ w : va_W, w = ([[(m, .inr (12, [.ref ls, .ref lb, .ref lk, .ref lp, .ref lr, .ref le, .ref lm, .ref lo, .int (nI 1), .int (dZz D), .int (nI (dBn D)), .int (nI (dCm D))]))], v0, v1, v2, v3, v4, v5, v6, v7] : List va_W).flatten := ⟨_, rfl⟩
        have hwc_5 : KdP g m ((dSs D, dBx D, dKs D, dPs D, (dRs D), dEs D, dMs D, dSo D, 1, dZz D, dBn D, dCm D) : MdS) wc_5 := by
          rw [ewc_5]
          exact ⟨ls, lb, lk, lp, lr, le, lm, lo, kcap, pcap, rcap, ecap, mcap, mks, mps, _, _, _, _, _, _, _, _, (by first | exact hcap | exact ⟨by first | exact kc1 | exact grow_b (by omega) kc1, by first | exact kc2 | exact grow_b (by omega) kc2, by first | exact kc3 | exact grow_b (by omega) kc3, by first | exact kc4 | exact grow_b (by omega) kc4, by first | exact kc5 | (have := grow_b (n := (dMs D).length) (cap := mcap) (by omega); first | omega | (unfold growN; split <;> (try split) <;> omega))⟩), hv0, hv1, hv2, hv3, hv4, hv5, hv6, hv7, rfl⟩
        refine g_close (w := wc_5) [8, 0, 0, 0, 3, 0, 2, 0, 0] rfl ewc_5 rfl ?_
        refine (show Go g κ 48 [some (.ref m), some (.int v), some (.int u), none] [.int (nI 0)] [wc_5] 10 100 from ?_)
        exact g_iret B E dX3_remove_48 (⟨1, nI 0, dRs D, _, rfl, rfl, hwc_5, Or.inl ⟨rfl, by rintro ⟨z1, z2, z3⟩; first | exact c6 z1 | exact c33 z3 | exact z2 (List.length_eq_zero_iff.mp c16), rfl⟩⟩)
      · skip
        have c33 := Classical.not_not.mp c33
        refine g_iconst (v := nI 0) (q := 37) B dX3_remove_36 rfl (by decide) ?_
        refine g_goto (tgt := 41) B dX3_remove_37 (by decide) ?_
        refine g_callV (q := 44) (is := [7]) (kc2 := 10) (ks2 := 100) B [.int (nI 0)] (ct_X3_isWrong g J (m := m) (ls := ls) (lb := lb) (lk := lk) (lp := lp) (lr := lr) (le := le) (lm := lm) (lo := lo) (th := (dTh D)) (z := (dZz D)) (bo := (dBn D)) (cm := (dCm D)) (k := 0)  (by decide)) dX3_remove_41 rfl (rc_at B (ci := 12) rfl (k := 7) rfl) rfl q3103 q3105 qs49 q85 q3106 rfl rfl moX3_isWrong rfl rfl (by decide) (by decide) (Nat.le_of_ble_eq_true rfl) (Nat.le_of_ble_eq_true rfl) (Nat.le_of_ble_eq_true rfl) (fun _ _ hx => noX_x hx) (fun v41 L1 hp41 => ?_)
        obtain ⟨rfl, rfl⟩ := hp41
        refine (show Go g κ 44 [some (.ref m), some (.int v), some (.int u), none] [.int (nI (if ¬ 0 = 0 then 1 else 0))] [v0, v1, v2, v4, v6, v7, v3, v5, [(m, .inr (12, [.ref ls, .ref lb, .ref lk, .ref lp, .ref lr, .ref le, .ref lm, .ref lo, .int (nI 0), .int (dZz D), .int (nI (dBn D)), .int (nI (dCm D))]))]] 10 100 from ?_)
        refine g_if_eq (tgt := 49) (q := 47) B dX3_remove_44 rfl (by decide) (iff_true_intro (by decide)) (fun _ => ?_) (fun z => absurd trivial z)
        obtain ⟨i, hii, rfl⟩ := inR_t c6
        obtain ⟨j, hij, rfl⟩ := inR_t c33
        obtain ⟨r, hr⟩ := get_ex (xs := dPs D) (i := i) hii
        refine (show Go g κ 49 [some (.ref m), some (.int (nI i)), some (.int (nI j)), none] [] [v0, v1, v2, v4, v6, v7, v3, v5, [(m, .inr (12, [.ref ls, .ref lb, .ref lk, .ref lp, .ref lr, .ref le, .ref lm, .ref lo, .int (nI 0), .int (dZz D), .int (nI (dBn D)), .int (nI (dCm D))]))]] 10 100 from ?_)
        refine g_aload_n (q := 50) B dX3_remove_49 rfl rfl (rv_r _) ?_
        refine g_iload_n (q := 51) B dX3_remove_50 rfl rfl ?_
        refine g_callV (q := 54) (is := [8, 6, 6]) (kc2 := 10) (ks2 := 100) B [.int (nI i)] (ct_X3_isNew g J (m := m) (ls := ls) (lb := lb) (lk := lk) (lp := lp) (lr := lr) (le := le) (lm := lm) (lo := lo) (th := 0) (z := (dZz D)) (bo := (dBn D)) (cm := (dCm D)) (mps := mps) (Ps := (dPs D)) (pcap := pcap) (Es := (dEs D)) (ecap := ecap) (i := i) (r := r) hv3 hv5 (hr) (by omega) (by omega)) dX3_remove_51 rfl (rc_at B (ci := 12) rfl (k := 8) rfl) rfl q3370 q3372 qs62 q85 q3373 rfl rfl moX3_isNew rfl rfl (by decide) (by decide) (Nat.le_of_ble_eq_true rfl) (Nat.le_of_ble_eq_true rfl) (Nat.le_of_ble_eq_true rfl) (fun _ _ hx => noX_x hx) (fun v51 L1 hp51 => ?_)
        obtain ⟨rfl, rfl⟩ := hp51
        refine (show Go g κ 54 [some (.ref m), some (.int (nI i)), some (.int (nI j)), none] [.int (nI (if isF (dEs D).length (mEp r) = true then 1 else 0))] [v0, v1, v2, v4, v6, v7, [(m, .inr (12, [.ref ls, .ref lb, .ref lk, .ref lp, .ref lr, .ref le, .ref lm, .ref lo, .int (nI 0), .int (dZz D), .int (nI (dBn D)), .int (nI (dCm D))]))], v3, v5] 10 100 from ?_)
        refine g_if_eq (tgt := 86) (q := 57) B dX3_remove_54 rfl (by decide) (bo_eq) (fun c54 => ?_) (fun c54 => ?_)
        · skip
          refine g_iconst (v := nI 0) (q := 87) B dX3_remove_86 rfl (by decide) ?_
          refine g_istore_n (q := 88) (lv2 := [some (.ref m), some (.int (nI i)), some (.int (nI j)), some (.int (nI 0))]) B dX3_remove_87 rfl (Nat.le_of_ble_eq_true rfl) rfl ?_
          refine g_aload_n (q := 89) B dX3_remove_88 rfl rfl (rv_r _) ?_
          refine g_iload_n (q := 90) B dX3_remove_89 rfl rfl ?_
          refine g_if_ne (tgt := 97) (q := 93) B dX3_remove_90 rfl (by decide) (iff_false_intro (by decide)) (fun z => z.elim) (fun _ => ?_)
          refine g_iconst (v := nI 2) (q := 94) B dX3_remove_93 rfl (by decide) ?_
          refine g_goto (tgt := 114) B dX3_remove_94 (by decide) ?_
          refine g_callV (q := 117) (is := [6]) (kc2 := 10) (ks2 := 100) B [.int (nI 2)] (ct_X3_isWrong g J (m := m) (ls := ls) (lb := lb) (lk := lk) (lp := lp) (lr := lr) (le := le) (lm := lm) (lo := lo) (th := 0) (z := (dZz D)) (bo := (dBn D)) (cm := (dCm D)) (k := 2)  (by decide)) dX3_remove_114 rfl (rc_at B (ci := 12) rfl (k := 6) rfl) rfl q3103 q3105 qs49 q85 q3106 rfl rfl moX3_isWrong rfl rfl (by decide) (by decide) (Nat.le_of_ble_eq_true rfl) (Nat.le_of_ble_eq_true rfl) (Nat.le_of_ble_eq_true rfl) (fun _ _ hx => noX_x hx) (fun v114 L1 hp114 => ?_)
          obtain ⟨rfl, rfl⟩ := hp114
          refine (show Go g κ 117 [some (.ref m), some (.int (nI i)), some (.int (nI j)), some (.int (nI 0))] [.int (nI (if ¬ 2 = 0 then 1 else 0))] [v0, v1, v2, v4, v6, v7, v3, v5, [(m, .inr (12, [.ref ls, .ref lb, .ref lk, .ref lp, .ref lr, .ref le, .ref lm, .ref lo, .int (nI 2), .int (dZz D), .int (nI (dBn D)), .int (nI (dCm D))]))]] 10 100 from ?_)
          refine g_if_eq (tgt := 122) (q := 120) B dX3_remove_117 rfl (by decide) (iff_false_intro (by decide)) (fun z => z.elim) (fun _ => ?_)
          refine g_iconst (v := nI 0) (q := 121) B dX3_remove_120 rfl (by decide) ?_
          obtain ⟨wc_6, ewc_6⟩ : ∃ w : va_W, w = ([[(m, .inr (12, [.ref ls, .ref lb, .ref lk, .ref lp, .ref lr, .ref le, .ref lm, .ref lo, .int (nI 2), .int (dZz D), .int (nI (dBn D)), .int (nI (dCm D))]))], v0, v1, v2, v3, v4, v5, v6, v7] : List va_W).flatten := ⟨_, rfl⟩
          have hwc_6 : KdP g m ((dSs D, dBx D, dKs D, dPs D, (dRs D), dEs D, dMs D, dSo D, 2, dZz D, dBn D, dCm D) : MdS) wc_6 := by
            rw [ewc_6]
            exact ⟨ls, lb, lk, lp, lr, le, lm, lo, kcap, pcap, rcap, ecap, mcap, mks, mps, _, _, _, _, _, _, _, _, (by first | exact hcap | exact ⟨by first | exact kc1 | exact grow_b (by omega) kc1, by first | exact kc2 | exact grow_b (by omega) kc2, by first | exact kc3 | exact grow_b (by omega) kc3, by first | exact kc4 | exact grow_b (by omega) kc4, by first | exact kc5 | (have := grow_b (n := (dMs D).length) (cap := mcap) (by omega); first | omega | (unfold growN; split <;> (try split) <;> omega))⟩), hv0, hv1, hv2, hv3, hv4, hv5, hv6, hv7, rfl⟩
          refine g_close (w := wc_6) [8, 0, 0, 0, 3, 0, 2, 0, 0] rfl ewc_6 rfl ?_
          refine (show Go g κ 121 [some (.ref m), some (.int (nI i)), some (.int (nI j)), some (.int (nI 0))] [.int (nI 0)] [wc_6] 10 100 from ?_)
          exact g_iret B E dX3_remove_121 (⟨2, nI 0, dRs D, _, rfl, rfl, hwc_6, Or.inr ⟨i, r, j, rfl, hr, rfl, hij, hne, Or.inl ⟨rfl, by rintro ⟨z1, z2, z3⟩; first | exact c54 z1 | exact z2 c69 | exact z3 c79, rfl⟩⟩⟩)
        · skip
          have c54 := Classical.not_not.mp c54
          refine g_aload_n (q := 58) B dX3_remove_57 rfl rfl (rv_r _) ?_
          refine g_callV (q := 61) (is := [6, 7]) (kc2 := 10) (ks2 := 100) B [] (ct_X3_newest g J (m := m) (ls := ls) (lb := lb) (lk := lk) (lp := lp) (lr := lr) (le := le) (lm := lm) (lo := lo) (th := 0) (z := (dZz D)) (bo := (dBn D)) (cm := (dCm D)) (Es := (dEs D)) (ecap := ecap) (Ep := Ep) hv5 (hT hne) (by omega)) dX3_remove_58 rfl (rc_at B (ci := 12) rfl (k := 6) rfl) rfl q3374 q3376 qs63 q85 q3377 rfl rfl moX3_newest rfl rfl (by decide) (by decide) (Nat.le_of_ble_eq_true rfl) (Nat.le_of_ble_eq_true rfl) (Nat.le_of_ble_eq_true rfl) (fun _ _ hx => noX_x hx) (fun v58 L1 hp58 => ?_)
          obtain ⟨e58, rfl, rfl, hE_58⟩ := hp58
          refine (show Go g κ 61 [some (.ref m), some (.int (nI i)), some (.int (nI j)), none] [.ref e58] [v0, v1, v2, v4, v6, v7, v3, [(m, .inr (12, [.ref ls, .ref lb, .ref lk, .ref lp, .ref lr, .ref le, .ref lm, .ref lo, .int (nI 0), .int (dZz D), .int (nI (dBn D)), .int (nI (dCm D))]))], v5] 10 100 from ?_)
          have hEB58 := EpP.b2 hE_58
          have hTB58 := hEB58.2.1
          have hp258 := p2_4 hTB58.1
          obtain ⟨ap_7, an_7, al_7, ac_7, aw_7, am_7, ak_7, fp_7, fn_7, fl_7, fc_7, fw_7, fm_7, fk_7, hE_7, hfp_7, hfn_7, hfl_7, hfc_7, hfw_7, hfm_7, hfk_7, hc_7_0, hc_7_1, hc_7_2, hc_7_3, hc_7_4, hc_7_5, hc_7_6, hc_7_7⟩ := EpP.at (hE_58)
          refine g_getNM (q := 64) B (ci := 16) (k := 8) (j := 5) in_X13 rfl dX3_remove_61 rfl rfl (hc_7_0) (Nat.le_of_ble_eq_true rfl) q3263 rfl rfl ?_
          refine g_iconst (v := nI 2) (q := 65) B dX3_remove_64 rfl (by decide) ?_
          refine g_iload_n (q := 66) B dX3_remove_65 rfl rfl ?_
          refine g_imul (v := nI (2 * j)) (q := 67) B dX3_remove_66 rfl (pk_mul _ _) ?_
          refine g_ialdM (v := oI (((eTr Ep).2.1) (2 * j))) (q := 68) B (k := 8) dX3_remove_67 rfl rfl (hc_7_2) (vp_in_nI (by omega) (by omega)) (by rw [nI_clamp (by omega)]; exact hfn_7 _ (by omega)) ?_
          refine g_iconst (v := -1) (q := 69) B dX3_remove_68 rfl (by decide) ?_
          refine g_icmp_eq (tgt := 86) (q := 72) B dX3_remove_69 rfl (by decide) (oI_n ((fun n h => by have := hE_7.2.1.2.1 _ _ h; omega))) (fun c69 => ?_) (fun c69 => ?_)
          · skip
            refine g_iconst (v := nI 0) (q := 87) B dX3_remove_86 rfl (by decide) ?_
            refine g_istore_n (q := 88) (lv2 := [some (.ref m), some (.int (nI i)), some (.int (nI j)), some (.int (nI 0))]) B dX3_remove_87 rfl (Nat.le_of_ble_eq_true rfl) rfl ?_
            refine g_aload_n (q := 89) B dX3_remove_88 rfl rfl (rv_r _) ?_
            refine g_iload_n (q := 90) B dX3_remove_89 rfl rfl ?_
            refine g_if_ne (tgt := 97) (q := 93) B dX3_remove_90 rfl (by decide) (iff_false_intro (by decide)) (fun z => z.elim) (fun _ => ?_)
            refine g_iconst (v := nI 2) (q := 94) B dX3_remove_93 rfl (by decide) ?_
            refine g_goto (tgt := 114) B dX3_remove_94 (by decide) ?_
            refine g_callV (q := 117) (is := [7]) (kc2 := 10) (ks2 := 100) B [.int (nI 2)] (ct_X3_isWrong g J (m := m) (ls := ls) (lb := lb) (lk := lk) (lp := lp) (lr := lr) (le := le) (lm := lm) (lo := lo) (th := 0) (z := (dZz D)) (bo := (dBn D)) (cm := (dCm D)) (k := 2)  (by decide)) dX3_remove_114 rfl (rc_at B (ci := 12) rfl (k := 7) rfl) rfl q3103 q3105 qs49 q85 q3106 rfl rfl moX3_isWrong rfl rfl (by decide) (by decide) (Nat.le_of_ble_eq_true rfl) (Nat.le_of_ble_eq_true rfl) (Nat.le_of_ble_eq_true rfl) (fun _ _ hx => noX_x hx) (fun v114 L1 hp114 => ?_)
            obtain ⟨rfl, rfl⟩ := hp114
            refine (show Go g κ 117 [some (.ref m), some (.int (nI i)), some (.int (nI j)), some (.int (nI 0))] [.int (nI (if ¬ 2 = 0 then 1 else 0))] [v0, v1, v2, v4, v6, v7, v3, v5, [(m, .inr (12, [.ref ls, .ref lb, .ref lk, .ref lp, .ref lr, .ref le, .ref lm, .ref lo, .int (nI 2), .int (dZz D), .int (nI (dBn D)), .int (nI (dCm D))]))]] 10 100 from ?_)
            refine g_if_eq (tgt := 122) (q := 120) B dX3_remove_117 rfl (by decide) (iff_false_intro (by decide)) (fun z => z.elim) (fun _ => ?_)
            refine g_iconst (v := nI 0) (q := 121) B dX3_remove_120 rfl (by decide) ?_
            obtain ⟨wc_8, ewc_8⟩ : ∃ w : va_W, w = ([[(m, .inr (12, [.ref ls, .ref lb, .ref lk, .ref lp, .ref lr, .ref le, .ref lm, .ref lo, .int (nI 2), .int (dZz D), .int (nI (dBn D)), .int (nI (dCm D))]))], v0, v1, v2, v3, v4, v5, v6, v7] : List va_W).flatten := ⟨_, rfl⟩
            have hwc_8 : KdP g m ((dSs D, dBx D, dKs D, dPs D, (dRs D), dEs D, dMs D, dSo D, 2, dZz D, dBn D, dCm D) : MdS) wc_8 := by
              rw [ewc_8]
              exact ⟨ls, lb, lk, lp, lr, le, lm, lo, kcap, pcap, rcap, ecap, mcap, mks, mps, _, _, _, _, _, _, _, _, (by first | exact hcap | exact ⟨by first | exact kc1 | exact grow_b (by omega) kc1, by first | exact kc2 | exact grow_b (by omega) kc2, by first | exact kc3 | exact grow_b (by omega) kc3, by first | exact kc4 | exact grow_b (by omega) kc4, by first | exact kc5 | (have := grow_b (n := (dMs D).length) (cap := mcap) (by omega); first | omega | (unfold growN; split <;> (try split) <;> omega))⟩), hv0, hv1, hv2, hv3, hv4, hv5, hv6, hv7, rfl⟩
            refine g_close (w := wc_8) [8, 0, 0, 0, 3, 0, 2, 0, 0] rfl ewc_8 rfl ?_
            refine (show Go g κ 121 [some (.ref m), some (.int (nI i)), some (.int (nI j)), some (.int (nI 0))] [.int (nI 0)] [wc_8] 10 100 from ?_)
            exact g_iret B E dX3_remove_121 (⟨2, nI 0, dRs D, _, rfl, rfl, hwc_8, Or.inr ⟨i, r, j, rfl, hr, rfl, hij, hne, Or.inl ⟨rfl, by rintro ⟨z1, z2, z3⟩; first | exact c54 z1 | exact z2 c69 | exact z3 c79, rfl⟩⟩⟩)
          · skip
            obtain ⟨v69, ev69⟩ := Option.ne_none_iff_exists'.mp c69
            refine g_aload_n (q := 73) B dX3_remove_72 rfl rfl (rv_r _) ?_
            refine g_bipush (v := nI 114) (q := 75) B dX3_remove_73 rfl (by decide) ?_
            refine g_iload_n (q := 76) B dX3_remove_75 rfl rfl ?_
            refine g_callV (q := 79) (is := [7, 3, 2]) (kc2 := 9) (ks2 := 96) B [.int (nI 114), .int (nI j)] (ct_X3_isProposed_114 g J (m := m) (ls := ls) (lb := lb) (lk := lk) (lp := lp) (lr := lr) (le := le) (lm := lm) (lo := lo) (th := 0) (z := (dZz D)) (bo := (dBn D)) (cm := (dCm D)) (w := j) (Rs := (dRs D)) (rcap := rcap) (mks := mks) (Ks := (dKs D)) (kcap := kcap) hv4 hv2 (hrs1) (by omega)) dX3_remove_76 rfl (rc_at B (ci := 12) rfl (k := 7) rfl) rfl q3378 q3380 qs64 q85 q3381 rfl rfl moX3_isProposed rfl rfl (by decide) (by decide) (Nat.le_of_ble_eq_true rfl) (Nat.le_of_ble_eq_true rfl) (Nat.le_of_ble_eq_true rfl) (fun _ _ hx => noX_x hx) (fun v76 L1 hp76 => ?_)
            obtain ⟨rfl, rfl⟩ := hp76
            refine (show Go g κ 79 [some (.ref m), some (.int (nI i)), some (.int (nI j)), none] [.int (nI (if prR (dRs D) j = true then 1 else 0))] [v0, v1, v6, v7, v3, v5, [(m, .inr (12, [.ref ls, .ref lb, .ref lk, .ref lp, .ref lr, .ref le, .ref lm, .ref lo, .int (nI 0), .int (dZz D), .int (nI (dBn D)), .int (nI (dCm D))]))], v4, v2] 9 96 from ?_)
            refine g_if_ne (tgt := 86) (q := 82) B dX3_remove_79 rfl (by decide) (bo_ne) (fun c79 => ?_) (fun c79 => ?_)
            · skip
              refine g_iconst (v := nI 0) (q := 87) B dX3_remove_86 rfl (by decide) ?_
              refine g_istore_n (q := 88) (lv2 := [some (.ref m), some (.int (nI i)), some (.int (nI j)), some (.int (nI 0))]) B dX3_remove_87 rfl (Nat.le_of_ble_eq_true rfl) rfl ?_
              refine g_aload_n (q := 89) B dX3_remove_88 rfl rfl (rv_r _) ?_
              refine g_iload_n (q := 90) B dX3_remove_89 rfl rfl ?_
              refine g_if_ne (tgt := 97) (q := 93) B dX3_remove_90 rfl (by decide) (iff_false_intro (by decide)) (fun z => z.elim) (fun _ => ?_)
              refine g_iconst (v := nI 2) (q := 94) B dX3_remove_93 rfl (by decide) ?_
              refine g_goto (tgt := 114) B dX3_remove_94 (by decide) ?_
              refine g_callV (q := 117) (is := [6]) (kc2 := 9) (ks2 := 96) B [.int (nI 2)] (ct_X3_isWrong g J (m := m) (ls := ls) (lb := lb) (lk := lk) (lp := lp) (lr := lr) (le := le) (lm := lm) (lo := lo) (th := 0) (z := (dZz D)) (bo := (dBn D)) (cm := (dCm D)) (k := 2)  (by decide)) dX3_remove_114 rfl (rc_at B (ci := 12) rfl (k := 6) rfl) rfl q3103 q3105 qs49 q85 q3106 rfl rfl moX3_isWrong rfl rfl (by decide) (by decide) (Nat.le_of_ble_eq_true rfl) (Nat.le_of_ble_eq_true rfl) (Nat.le_of_ble_eq_true rfl) (fun _ _ hx => noX_x hx) (fun v114 L1 hp114 => ?_)
              obtain ⟨rfl, rfl⟩ := hp114
              refine (show Go g κ 117 [some (.ref m), some (.int (nI i)), some (.int (nI j)), some (.int (nI 0))] [.int (nI (if ¬ 2 = 0 then 1 else 0))] [v0, v1, v6, v7, v3, v5, v4, v2, [(m, .inr (12, [.ref ls, .ref lb, .ref lk, .ref lp, .ref lr, .ref le, .ref lm, .ref lo, .int (nI 2), .int (dZz D), .int (nI (dBn D)), .int (nI (dCm D))]))]] 9 96 from ?_)
              refine g_if_eq (tgt := 122) (q := 120) B dX3_remove_117 rfl (by decide) (iff_false_intro (by decide)) (fun z => z.elim) (fun _ => ?_)
              refine g_iconst (v := nI 0) (q := 121) B dX3_remove_120 rfl (by decide) ?_
              obtain ⟨wc_9, ewc_9⟩ : ∃ w : va_W, w = ([[(m, .inr (12, [.ref ls, .ref lb, .ref lk, .ref lp, .ref lr, .ref le, .ref lm, .ref lo, .int (nI 2), .int (dZz D), .int (nI (dBn D)), .int (nI (dCm D))]))], v0, v1, v2, v3, v4, v5, v6, v7] : List va_W).flatten := ⟨_, rfl⟩
              have hwc_9 : KdP g m ((dSs D, dBx D, dKs D, dPs D, (dRs D), dEs D, dMs D, dSo D, 2, dZz D, dBn D, dCm D) : MdS) wc_9 := by
                rw [ewc_9]
                exact ⟨ls, lb, lk, lp, lr, le, lm, lo, kcap, pcap, rcap, ecap, mcap, mks, mps, _, _, _, _, _, _, _, _, (by first | exact hcap | exact ⟨by first | exact kc1 | exact grow_b (by omega) kc1, by first | exact kc2 | exact grow_b (by omega) kc2, by first | exact kc3 | exact grow_b (by omega) kc3, by first | exact kc4 | exact grow_b (by omega) kc4, by first | exact kc5 | (have := grow_b (n := (dMs D).length) (cap := mcap) (by omega); first | omega | (unfold growN; split <;> (try split) <;> omega))⟩), hv0, hv1, hv2, hv3, hv4, hv5, hv6, hv7, rfl⟩
              refine g_close (w := wc_9) [8, 0, 0, 5, 2, 3, 2, 0, 0] rfl ewc_9 rfl ?_
              refine (show Go g κ 121 [some (.ref m), some (.int (nI i)), some (.int (nI j)), some (.int (nI 0))] [.int (nI 0)] [wc_9] 9 96 from ?_)
              exact g_iret B E dX3_remove_121 (⟨2, nI 0, dRs D, _, rfl, rfl, hwc_9, Or.inr ⟨i, r, j, rfl, hr, rfl, hij, hne, Or.inl ⟨rfl, by rintro ⟨z1, z2, z3⟩; first | exact c54 z1 | exact z2 c69 | exact z3 c79, rfl⟩⟩⟩)
            · skip
              refine g_iconst (v := nI 1) (q := 83) B dX3_remove_82 rfl (by decide) ?_
              refine g_goto (tgt := 87) B dX3_remove_83 (by decide) ?_
              refine g_istore_n (q := 88) (lv2 := [some (.ref m), some (.int (nI i)), some (.int (nI j)), some (.int (nI 1))]) B dX3_remove_87 rfl (Nat.le_of_ble_eq_true rfl) rfl ?_
              refine g_aload_n (q := 89) B dX3_remove_88 rfl rfl (rv_r _) ?_
              refine g_iload_n (q := 90) B dX3_remove_89 rfl rfl ?_
              refine g_if_ne (tgt := 97) (q := 93) B dX3_remove_90 rfl (by decide) (iff_true_intro (by decide)) (fun _ => ?_) (fun z => absurd trivial z)
              refine g_aload_n (q := 98) B dX3_remove_97 rfl rfl (rv_r _) ?_
              refine g_get (q := 101) B (ci := 12) (k := 6) (j := 4) in_X3 rfl dX3_remove_98 rfl rfl (Nat.le_of_ble_eq_true rfl) q3061 rfl rfl ?_
              obtain ⟨ps_10, md_10, hli_10, hln_10, hel_10⟩ := LhP.at (Sub.self hv4)
              refine g_callV (q := 104) (is := [7]) (kc2 := 9) (ks2 := 96) B [] (ct_J2_size_s g J (p := lr) (xs := ps_10) (md := md_10) (cap := rcap) (W0 := v4)  (hli_10)) dX3_remove_101 rfl (rc_in B (ci := 21) rfl (k := 7) rfl (LhP.hm hv4)) rfl q3102 q321 q3665 q81 q323 rfl rfl moJ2_size rfl rfl (by decide) (by decide) (Nat.le_of_ble_eq_true rfl) (Nat.le_of_ble_eq_true rfl) (Nat.le_of_ble_eq_true rfl) (fun _ _ hx => noX_x hx) (fun v101 L1 hp101 => ?_)
              obtain ⟨rfl, rfl⟩ := hp101
              refine (show Go g κ 104 [some (.ref m), some (.int (nI i)), some (.int (nI j)), some (.int (nI 1))] [.int (nI ps_10.length), .ref m] [v0, v1, v6, v7, v3, v5, [(m, .inr (12, [.ref ls, .ref lb, .ref lk, .ref lp, .ref lr, .ref le, .ref lm, .ref lo, .int (nI 0), .int (dZz D), .int (nI (dBn D)), .int (nI (dCm D))]))], v2, v4] 9 96 from ?_)
              rw [hln_10.1]
              refine (show Go g κ 104 [some (.ref m), some (.int (nI i)), some (.int (nI j)), some (.int (nI 1))] [.int (nI ((dRs D).length)), .ref m] [v0, v1, v6, v7, v3, v5, [(m, .inr (12, [.ref ls, .ref lb, .ref lk, .ref lp, .ref lr, .ref le, .ref lm, .ref lo, .int (nI 0), .int (dZz D), .int (nI (dBn D)), .int (nI (dCm D))]))], v2, v4] 9 96 from ?_)
              refine g_bipush (v := nI 8) (q := 106) B dX3_remove_104 rfl (by decide) ?_
              refine g_icmp_ne (tgt := 113) (q := 109) B dX3_remove_106 rfl (by decide) (not_congr (nI_eq (by omega) (by omega))) (fun c106 => ?_) (fun c106 => ?_)
              · skip
                refine g_iconst (v := nI 0) (q := 114) B dX3_remove_113 rfl (by decide) ?_
                refine g_callV (q := 117) (is := [6]) (kc2 := 9) (ks2 := 96) B [.int (nI 0)] (ct_X3_isWrong g J (m := m) (ls := ls) (lb := lb) (lk := lk) (lp := lp) (lr := lr) (le := le) (lm := lm) (lo := lo) (th := 0) (z := (dZz D)) (bo := (dBn D)) (cm := (dCm D)) (k := 0)  (by decide)) dX3_remove_114 rfl (rc_at B (ci := 12) rfl (k := 6) rfl) rfl q3103 q3105 qs49 q85 q3106 rfl rfl moX3_isWrong rfl rfl (by decide) (by decide) (Nat.le_of_ble_eq_true rfl) (Nat.le_of_ble_eq_true rfl) (Nat.le_of_ble_eq_true rfl) (fun _ _ hx => noX_x hx) (fun v114 L1 hp114 => ?_)
                obtain ⟨rfl, rfl⟩ := hp114
                refine (show Go g κ 117 [some (.ref m), some (.int (nI i)), some (.int (nI j)), some (.int (nI 1))] [.int (nI (if ¬ 0 = 0 then 1 else 0))] [v0, v1, v6, v7, v3, v5, v2, v4, [(m, .inr (12, [.ref ls, .ref lb, .ref lk, .ref lp, .ref lr, .ref le, .ref lm, .ref lo, .int (nI 0), .int (dZz D), .int (nI (dBn D)), .int (nI (dCm D))]))]] 9 96 from ?_)
                refine g_if_eq (tgt := 122) (q := 120) B dX3_remove_117 rfl (by decide) (iff_true_intro (by decide)) (fun _ => ?_) (fun z => absurd trivial z)
                refine g_aload_n (q := 123) B dX3_remove_122 rfl rfl (rv_r _) ?_
                refine g_bipush (v := nI 114) (q := 125) B dX3_remove_123 rfl (by decide) ?_
                refine g_iload_n (q := 126) B dX3_remove_125 rfl rfl ?_
                refine g_iload_n (q := 127) B dX3_remove_126 rfl rfl ?_
                refine g_callV (q := 130) (is := [8, 7]) (kc2 := 7) (ks2 := 33) B [.int (nI 114), .int (nI i), .int (nI j)] (ct_X3_proposed g J (m := m) (ls := ls) (lb := lb) (lk := lk) (lp := lp) (lr := lr) (le := le) (lm := lm) (lo := lo) (th := 0) (z := (dZz D)) (bo := (dBn D)) (cm := (dCm D)) (Rs := (dRs D)) (rcap := rcap) (k := 114) (p := i) (wv := j) hv4 (by first | assumption | omega | rfl) (by omega) (by omega)) dX3_remove_127 rfl (rc_at B (ci := 12) rfl (k := 8) rfl) rfl q3383 q3385 qs65 q85 q3386 rfl rfl moX3_proposed rfl rfl (by decide) (by decide) (Nat.le_of_ble_eq_true rfl) (Nat.le_of_ble_eq_true rfl) (Nat.le_of_ble_eq_true rfl) (fun _ _ hx => noX_x hx) (fun v127 L1 hp127 => ?_)
                obtain ⟨u1_127, rfl, rfl, hu1_127⟩ := hp127
                refine (show Go g κ 130 [some (.ref m), some (.int (nI i)), some (.int (nI j)), some (.int (nI 1))] [.int (nI ((dRs D).length + 1))] [v0, v1, v6, v7, v3, v5, v2, [(m, .inr (12, [.ref ls, .ref lb, .ref lk, .ref lp, .ref lr, .ref le, .ref lm, .ref lo, .int (nI 0), .int (dZz D), .int (nI (dBn D)), .int (nI (dCm D))]))], u1_127] 7 33 from ?_)
                obtain ⟨wc_11, ewc_11⟩ : ∃ w : va_W, w = ([[(m, .inr (12, [.ref ls, .ref lb, .ref lk, .ref lp, .ref lr, .ref le, .ref lm, .ref lo, .int (nI 0), .int (dZz D), .int (nI (dBn D)), .int (nI (dCm D))]))], v0, v1, v2, v3, u1_127, v5, v6, v7] : List va_W).flatten := ⟨_, rfl⟩
                have hwc_11 : KdP g m ((dSs D, dBx D, dKs D, dPs D, (dRs D ++ [(114, i, j)]), dEs D, dMs D, dSo D, 0, dZz D, dBn D, dCm D) : MdS) wc_11 := by
                  rw [ewc_11]
                  exact ⟨ls, lb, lk, lp, lr, le, lm, lo, kcap, pcap, (if (dRs D).length = rcap then growN rcap else rcap), ecap, mcap, mks, mps, _, _, _, _, _, _, _, _, (by first | exact hcap | exact ⟨by first | exact kc1 | exact grow_b (by omega) kc1, by first | exact kc2 | exact grow_b (by omega) kc2, by first | exact kc3 | exact grow_b (by omega) kc3, by first | exact kc4 | exact grow_b (by omega) kc4, by first | exact kc5 | (have := grow_b (n := (dMs D).length) (cap := mcap) (by omega); first | omega | (unfold growN; split <;> (try split) <;> omega))⟩), hv0, hv1, hv2, hv3, hu1_127, hv5, hv6, hv7, rfl⟩
                refine g_close (w := wc_11) [7, 0, 0, 4, 2, 3, 2, 0, 0] rfl ewc_11 rfl ?_
                refine (show Go g κ 130 [some (.ref m), some (.int (nI i)), some (.int (nI j)), some (.int (nI 1))] [.int (nI ((dRs D).length + 1))] [wc_11] 7 33 from ?_)
                exact g_iret B E dX3_remove_130 (⟨0, _, _, _, rfl, rfl, hwc_11, Or.inr ⟨i, r, j, rfl, hr, rfl, hij, hne, Or.inr (Or.inr ⟨rfl, ⟨c54, c69, c79⟩, c106, rfl, rfl⟩)⟩⟩)
              · skip
                refine g_iconst (v := nI 3) (q := 110) B dX3_remove_109 rfl (by decide) ?_
                refine g_goto (tgt := 114) B dX3_remove_110 (by decide) ?_
                refine g_callV (q := 117) (is := [6]) (kc2 := 9) (ks2 := 96) B [.int (nI 3)] (ct_X3_isWrong g J (m := m) (ls := ls) (lb := lb) (lk := lk) (lp := lp) (lr := lr) (le := le) (lm := lm) (lo := lo) (th := 0) (z := (dZz D)) (bo := (dBn D)) (cm := (dCm D)) (k := 3)  (by decide)) dX3_remove_114 rfl (rc_at B (ci := 12) rfl (k := 6) rfl) rfl q3103 q3105 qs49 q85 q3106 rfl rfl moX3_isWrong rfl rfl (by decide) (by decide) (Nat.le_of_ble_eq_true rfl) (Nat.le_of_ble_eq_true rfl) (Nat.le_of_ble_eq_true rfl) (fun _ _ hx => noX_x hx) (fun v114 L1 hp114 => ?_)
                obtain ⟨rfl, rfl⟩ := hp114
                refine (show Go g κ 117 [some (.ref m), some (.int (nI i)), some (.int (nI j)), some (.int (nI 1))] [.int (nI (if ¬ 3 = 0 then 1 else 0))] [v0, v1, v6, v7, v3, v5, v2, v4, [(m, .inr (12, [.ref ls, .ref lb, .ref lk, .ref lp, .ref lr, .ref le, .ref lm, .ref lo, .int (nI 3), .int (dZz D), .int (nI (dBn D)), .int (nI (dCm D))]))]] 9 96 from ?_)
                refine g_if_eq (tgt := 122) (q := 120) B dX3_remove_117 rfl (by decide) (iff_false_intro (by decide)) (fun z => z.elim) (fun _ => ?_)
                refine g_iconst (v := nI 0) (q := 121) B dX3_remove_120 rfl (by decide) ?_
                obtain ⟨wc_12, ewc_12⟩ : ∃ w : va_W, w = ([[(m, .inr (12, [.ref ls, .ref lb, .ref lk, .ref lp, .ref lr, .ref le, .ref lm, .ref lo, .int (nI 3), .int (dZz D), .int (nI (dBn D)), .int (nI (dCm D))]))], v0, v1, v2, v3, v4, v5, v6, v7] : List va_W).flatten := ⟨_, rfl⟩
                have hwc_12 : KdP g m ((dSs D, dBx D, dKs D, dPs D, (dRs D), dEs D, dMs D, dSo D, 3, dZz D, dBn D, dCm D) : MdS) wc_12 := by
                  rw [ewc_12]
                  exact ⟨ls, lb, lk, lp, lr, le, lm, lo, kcap, pcap, rcap, ecap, mcap, mks, mps, _, _, _, _, _, _, _, _, (by first | exact hcap | exact ⟨by first | exact kc1 | exact grow_b (by omega) kc1, by first | exact kc2 | exact grow_b (by omega) kc2, by first | exact kc3 | exact grow_b (by omega) kc3, by first | exact kc4 | exact grow_b (by omega) kc4, by first | exact kc5 | (have := grow_b (n := (dMs D).length) (cap := mcap) (by omega); first | omega | (unfold growN; split <;> (try split) <;> omega))⟩), hv0, hv1, hv2, hv3, hv4, hv5, hv6, hv7, rfl⟩
                refine g_close (w := wc_12) [8, 0, 0, 4, 2, 3, 2, 0, 0] rfl ewc_12 rfl ?_
                refine (show Go g κ 121 [some (.ref m), some (.int (nI i)), some (.int (nI j)), some (.int (nI 1))] [.int (nI 0)] [wc_12] 9 96 from ?_)
                exact g_iret B E dX3_remove_121 (⟨3, nI 0, dRs D, _, rfl, rfl, hwc_12, Or.inr ⟨i, r, j, rfl, hr, rfl, hij, hne, Or.inr (Or.inl ⟨rfl, ⟨c54, c69, c79⟩, Classical.not_not.mp c106, rfl⟩)⟩⟩)
theorem ct_X3_renew_x (g : Gv) (J : Jd g) {m : Nat} {D : MdS} {v : Int32} {w0 : va_W} (hw0 : KdP g m D w0) (hD : MdB D) (hRs : RsB D) (hx : ¬ (∃ (i : Nat) (r : MpS), v = nI i ∧ (dPs D)[i]? = some r ∧ rnCanM D i r ∧ (dRs D).length < 8)) : Ct g yX3_renew (ws_ yX3_renew cX3_renew 2 (some .int)) 10 10 100 [.ref m, .int v] [w0] (fun (rv_ : Option Value) (rL_ : List va_W) => ∃ (k : Nat) (x : Int32) (u0 : va_W), rv_ = some (.int x) ∧ rL_ = [u0] ∧ KdP g m (dT D k) u0 ∧ ((k = 1 ∧ ¬ inR v (dPs D).length = true) ∨ ∃ (i : Nat) (r : MpS), v = nI i ∧ (dPs D)[i]? = some r ∧ ((k = 2 ∧ ¬ rnCanM D i r) ∨ (k = 3 ∧ rnCanM D i r ∧ (dRs D).length = 8)))) noX := by
  refine Ct.of "KeygroveModel" [some (.ref m), some (.int v)] rfl (by decide) rfl (Nat.le_of_ble_eq_true rfl) rfl ?_
  intro κ B E tb
  have hD0 := hD
  obtain ⟨hd1, hd2, hd3, hd4, hd5, hd6, hd7, hd8, hd9⟩ := hD0
  obtain ⟨ls, lb, lk, lp, lr, le, lm, lo, kcap, pcap, rcap, ecap, mcap, mks, mps, v0, v1, v2, v3, v4, v5, v6, v7, hcap, hv0, hv1, hv2, hv3, hv4, hv5, hv6, hv7, rfl⟩ := hw0
  refine g_open 0 rfl rfl rfl ?_
  refine (show Go g κ 0 [some (.ref m), some (.int v)] [] [[(m, .inr (12, [.ref ls, .ref lb, .ref lk, .ref lp, .ref lr, .ref le, .ref lm, .ref lo, .int (nI (dTh D)), .int (dZz D), .int (nI (dBn D)), .int (nI (dCm D))]))], v0, v1, v2, v3, v4, v5, v6, v7] 10 100 from ?_)
  obtain ⟨kc1, kc2, kc3, kc4, kc5⟩ := (show capM kcap pcap rcap ecap mcap from hcap)
  have hrs9 := hRs
  obtain ⟨hrs1, hrs2⟩ := hrs9
  refine g_aload_n (q := 1) B dX3_renew_0 rfl rfl (rv_r _) ?_
  refine g_aload_n (q := 2) B dX3_renew_1 rfl rfl (rv_r _) ?_
  refine g_iload_n (q := 3) B dX3_renew_2 rfl rfl ?_
  refine g_callV (q := 6) (is := [0, 3]) (kc2 := 10) (ks2 := 100) B [.int v] (ct_X3_isPerson g J (m := m) (ls := ls) (lb := lb) (lk := lk) (lp := lp) (lr := lr) (le := le) (lm := lm) (lo := lo) (th := dTh D) (z := dZz D) (bo := dBn D) (cm := dCm D) (mps := mps) (Ps := (dPs D)) (pcap := pcap) (v := v) hv3 (by omega)) dX3_renew_3 rfl (rc_at B (ci := 12) rfl (k := 0) rfl) rfl q3153 q3155 qs51 q85 q3156 rfl rfl moX3_isPerson rfl rfl (by decide) (by decide) (Nat.le_of_ble_eq_true rfl) (Nat.le_of_ble_eq_true rfl) (Nat.le_of_ble_eq_true rfl) (fun _ _ hx => noX_x hx) (fun v3 L1 hp3 => ?_)
  obtain ⟨rfl, rfl⟩ := hp3
  refine (show Go g κ 6 [some (.ref m), some (.int v)] [.int (nI (if inR v (dPs D).length = true then 1 else 0)), .ref m] [v0, v1, v2, v4, v5, v6, v7, [(m, .inr (12, [.ref ls, .ref lb, .ref lk, .ref lp, .ref lr, .ref le, .ref lm, .ref lo, .int (nI (dTh D)), .int (dZz D), .int (nI (dBn D)), .int (nI (dCm D))]))], v3] 10 100 from ?_)
  refine g_if_ne (tgt := 13) (q := 9) B dX3_renew_6 rfl (by decide) (bo_ne) (fun c6 => ?_) (fun c6 => ?_)
  · skip
    obtain ⟨i, hii, rfl⟩ := inR_t c6
    obtain ⟨r, hr⟩ := get_ex (xs := dPs D) (i := i) hii
    refine (show Go g κ 13 [some (.ref m), some (.int (nI i))] [.ref m] [v0, v1, v2, v4, v5, v6, v7, [(m, .inr (12, [.ref ls, .ref lb, .ref lk, .ref lp, .ref lr, .ref le, .ref lm, .ref lo, .int (nI (dTh D)), .int (dZz D), .int (nI (dBn D)), .int (nI (dCm D))]))], v3] 10 100 from ?_)
    refine g_aload_n (q := 14) B dX3_renew_13 rfl rfl (rv_r _) ?_
    refine g_iload_n (q := 15) B dX3_renew_14 rfl rfl ?_
    refine g_callV (q := 18) (is := [7, 7, 4]) (kc2 := 10) (ks2 := 100) B [.int (nI i)] (ct_X3_isNew g J (m := m) (ls := ls) (lb := lb) (lk := lk) (lp := lp) (lr := lr) (le := le) (lm := lm) (lo := lo) (th := (dTh D)) (z := (dZz D)) (bo := (dBn D)) (cm := (dCm D)) (mps := mps) (Ps := (dPs D)) (pcap := pcap) (Es := (dEs D)) (ecap := ecap) (i := i) (r := r) hv3 hv5 (hr) (by omega) (by omega)) dX3_renew_15 rfl (rc_at B (ci := 12) rfl (k := 7) rfl) rfl q3370 q3372 qs62 q85 q3373 rfl rfl moX3_isNew rfl rfl (by decide) (by decide) (Nat.le_of_ble_eq_true rfl) (Nat.le_of_ble_eq_true rfl) (Nat.le_of_ble_eq_true rfl) (fun _ _ hx => noX_x hx) (fun v15 L1 hp15 => ?_)
    obtain ⟨rfl, rfl⟩ := hp15
    refine (show Go g κ 18 [some (.ref m), some (.int (nI i))] [.int (nI (if isF (dEs D).length (mEp r) = true then 1 else 0)), .ref m] [v0, v1, v2, v4, v6, v7, [(m, .inr (12, [.ref ls, .ref lb, .ref lk, .ref lp, .ref lr, .ref le, .ref lm, .ref lo, .int (nI (dTh D)), .int (dZz D), .int (nI (dBn D)), .int (nI (dCm D))]))], v3, v5] 10 100 from ?_)
    refine g_if_eq (tgt := 31) (q := 21) B dX3_renew_18 rfl (by decide) (bo_eq) (fun c18 => ?_) (fun c18 => ?_)
    · skip
      refine g_iconst (v := nI 2) (q := 32) B dX3_renew_31 rfl (by decide) ?_
      refine g_goto (tgt := 52) B dX3_renew_32 (by decide) ?_
      refine g_callV (q := 55) (is := [6]) (kc2 := 10) (ks2 := 100) B [.int (nI 2)] (ct_X3_isWrong g J (m := m) (ls := ls) (lb := lb) (lk := lk) (lp := lp) (lr := lr) (le := le) (lm := lm) (lo := lo) (th := (dTh D)) (z := (dZz D)) (bo := (dBn D)) (cm := (dCm D)) (k := 2)  (by decide)) dX3_renew_52 rfl (rc_at B (ci := 12) rfl (k := 6) rfl) rfl q3103 q3105 qs49 q85 q3106 rfl rfl moX3_isWrong rfl rfl (by decide) (by decide) (Nat.le_of_ble_eq_true rfl) (Nat.le_of_ble_eq_true rfl) (Nat.le_of_ble_eq_true rfl) (fun _ _ hx => noX_x hx) (fun v52 L1 hp52 => ?_)
      obtain ⟨rfl, rfl⟩ := hp52
      refine (show Go g κ 55 [some (.ref m), some (.int (nI i))] [.int (nI (if ¬ 2 = 0 then 1 else 0))] [v0, v1, v2, v4, v6, v7, v3, v5, [(m, .inr (12, [.ref ls, .ref lb, .ref lk, .ref lp, .ref lr, .ref le, .ref lm, .ref lo, .int (nI 2), .int (dZz D), .int (nI (dBn D)), .int (nI (dCm D))]))]] 10 100 from ?_)
      refine g_if_eq (tgt := 60) (q := 58) B dX3_renew_55 rfl (by decide) (iff_false_intro (by decide)) (fun z => z.elim) (fun _ => ?_)
      refine g_iconst (v := nI 0) (q := 59) B dX3_renew_58 rfl (by decide) ?_
      obtain ⟨wc_1, ewc_1⟩ : ∃ w : va_W, w = ([[(m, .inr (12, [.ref ls, .ref lb, .ref lk, .ref lp, .ref lr, .ref le, .ref lm, .ref lo, .int (nI 2), .int (dZz D), .int (nI (dBn D)), .int (nI (dCm D))]))], v0, v1, v2, v3, v4, v5, v6, v7] : List va_W).flatten := ⟨_, rfl⟩
      have hwc_1 : KdP g m (dT D 2) wc_1 := by
        rw [ewc_1]
        exact ⟨ls, lb, lk, lp, lr, le, lm, lo, kcap, pcap, rcap, ecap, mcap, mks, mps, _, _, _, _, _, _, _, _, hcap, hv0, hv1, hv2, hv3, hv4, hv5, hv6, hv7, rfl⟩
      refine g_close (w := wc_1) [8, 0, 0, 0, 3, 0, 2, 0, 0] rfl ewc_1 rfl ?_
      refine (show Go g κ 59 [some (.ref m), some (.int (nI i))] [.int (nI 0)] [wc_1] 10 100 from ?_)
      exact g_iret B E dX3_renew_59 (⟨2, nI 0, _, rfl, rfl, hwc_1, Or.inr ⟨i, r, rfl, hr, Or.inl ⟨rfl, by rintro ⟨z1, z2⟩; first | exact c18 z1 | exact z2 c28⟩⟩⟩)
    · skip
      have c18 := Classical.not_not.mp c18
      refine g_aload_n (q := 22) B dX3_renew_21 rfl rfl (rv_r _) ?_
      refine g_bipush (v := nI 110) (q := 24) B dX3_renew_22 rfl (by decide) ?_
      refine g_iload_n (q := 25) B dX3_renew_24 rfl rfl ?_
      refine g_callV (q := 28) (is := [6, 3, 2]) (kc2 := 9) (ks2 := 96) B [.int (nI 110), .int (nI i)] (ct_X3_isProposed_110 g J (m := m) (ls := ls) (lb := lb) (lk := lk) (lp := lp) (lr := lr) (le := le) (lm := lm) (lo := lo) (th := (dTh D)) (z := (dZz D)) (bo := (dBn D)) (cm := (dCm D)) (w := i) (Rs := (dRs D)) (rcap := rcap) (mks := mks) (Ks := (dKs D)) (kcap := kcap) hv4 hv2 (hrs1) (by omega)) dX3_renew_25 rfl (rc_at B (ci := 12) rfl (k := 6) rfl) rfl q3378 q3380 qs64 q85 q3381 rfl rfl moX3_isProposed rfl rfl (by decide) (by decide) (Nat.le_of_ble_eq_true rfl) (Nat.le_of_ble_eq_true rfl) (Nat.le_of_ble_eq_true rfl) (fun _ _ hx => noX_x hx) (fun v25 L1 hp25 => ?_)
      obtain ⟨rfl, rfl⟩ := hp25
      refine (show Go g κ 28 [some (.ref m), some (.int (nI i))] [.int (nI (if prN (dRs D) i = true then 1 else 0)), .ref m] [v0, v1, v6, v7, v3, v5, [(m, .inr (12, [.ref ls, .ref lb, .ref lk, .ref lp, .ref lr, .ref le, .ref lm, .ref lo, .int (nI (dTh D)), .int (dZz D), .int (nI (dBn D)), .int (nI (dCm D))]))], v4, v2] 9 96 from ?_)
      refine g_if_eq (tgt := 35) (q := 31) B dX3_renew_28 rfl (by decide) (bo_eq) (fun c28 => ?_) (fun c28 => ?_)
      · skip
        refine g_aload_n (q := 36) B dX3_renew_35 rfl rfl (rv_r _) ?_
        refine g_get (q := 39) B (ci := 12) (k := 6) (j := 4) in_X3 rfl dX3_renew_36 rfl rfl (Nat.le_of_ble_eq_true rfl) q3061 rfl rfl ?_
        obtain ⟨ps_2, md_2, hli_2, hln_2, hel_2⟩ := LhP.at (Sub.self hv4)
        refine g_callV (q := 42) (is := [7]) (kc2 := 9) (ks2 := 96) B [] (ct_J2_size_s g J (p := lr) (xs := ps_2) (md := md_2) (cap := rcap) (W0 := v4)  (hli_2)) dX3_renew_39 rfl (rc_in B (ci := 21) rfl (k := 7) rfl (LhP.hm hv4)) rfl q3102 q321 q3665 q81 q323 rfl rfl moJ2_size rfl rfl (by decide) (by decide) (Nat.le_of_ble_eq_true rfl) (Nat.le_of_ble_eq_true rfl) (Nat.le_of_ble_eq_true rfl) (fun _ _ hx => noX_x hx) (fun v39 L1 hp39 => ?_)
        obtain ⟨rfl, rfl⟩ := hp39
        refine (show Go g κ 42 [some (.ref m), some (.int (nI i))] [.int (nI ps_2.length), .ref m] [v0, v1, v6, v7, v3, v5, [(m, .inr (12, [.ref ls, .ref lb, .ref lk, .ref lp, .ref lr, .ref le, .ref lm, .ref lo, .int (nI (dTh D)), .int (dZz D), .int (nI (dBn D)), .int (nI (dCm D))]))], v2, v4] 9 96 from ?_)
        rw [hln_2.1]
        refine (show Go g κ 42 [some (.ref m), some (.int (nI i))] [.int (nI ((dRs D).length)), .ref m] [v0, v1, v6, v7, v3, v5, [(m, .inr (12, [.ref ls, .ref lb, .ref lk, .ref lp, .ref lr, .ref le, .ref lm, .ref lo, .int (nI (dTh D)), .int (dZz D), .int (nI (dBn D)), .int (nI (dCm D))]))], v2, v4] 9 96 from ?_)
        refine g_bipush (v := nI 8) (q := 44) B dX3_renew_42 rfl (by decide) ?_
        refine g_icmp_ne (tgt := 51) (q := 47) B dX3_renew_44 rfl (by decide) (not_congr (nI_eq (by omega) (by omega))) (fun c44 => ?_) (fun c44 => ?_)
        · skip
          refine g_iconst (v := nI 0) (q := 52) B dX3_renew_51 rfl (by decide) ?_
          refine g_callV (q := 55) (is := [6]) (kc2 := 9) (ks2 := 96) B [.int (nI 0)] (ct_X3_isWrong g J (m := m) (ls := ls) (lb := lb) (lk := lk) (lp := lp) (lr := lr) (le := le) (lm := lm) (lo := lo) (th := (dTh D)) (z := (dZz D)) (bo := (dBn D)) (cm := (dCm D)) (k := 0)  (by decide)) dX3_renew_52 rfl (rc_at B (ci := 12) rfl (k := 6) rfl) rfl q3103 q3105 qs49 q85 q3106 rfl rfl moX3_isWrong rfl rfl (by decide) (by decide) (Nat.le_of_ble_eq_true rfl) (Nat.le_of_ble_eq_true rfl) (Nat.le_of_ble_eq_true rfl) (fun _ _ hx => noX_x hx) (fun v52 L1 hp52 => ?_)
          obtain ⟨rfl, rfl⟩ := hp52
          refine (show Go g κ 55 [some (.ref m), some (.int (nI i))] [.int (nI (if ¬ 0 = 0 then 1 else 0))] [v0, v1, v6, v7, v3, v5, v2, v4, [(m, .inr (12, [.ref ls, .ref lb, .ref lk, .ref lp, .ref lr, .ref le, .ref lm, .ref lo, .int (nI 0), .int (dZz D), .int (nI (dBn D)), .int (nI (dCm D))]))]] 9 96 from ?_)
          refine g_if_eq (tgt := 60) (q := 58) B dX3_renew_55 rfl (by decide) (iff_true_intro (by decide)) (fun _ => ?_) (fun z => absurd trivial z)
          exact absurd ⟨i, r, rfl, hr, ⟨c18, c28⟩, by omega⟩ hx
        · skip
          refine g_iconst (v := nI 3) (q := 48) B dX3_renew_47 rfl (by decide) ?_
          refine g_goto (tgt := 52) B dX3_renew_48 (by decide) ?_
          refine g_callV (q := 55) (is := [6]) (kc2 := 9) (ks2 := 96) B [.int (nI 3)] (ct_X3_isWrong g J (m := m) (ls := ls) (lb := lb) (lk := lk) (lp := lp) (lr := lr) (le := le) (lm := lm) (lo := lo) (th := (dTh D)) (z := (dZz D)) (bo := (dBn D)) (cm := (dCm D)) (k := 3)  (by decide)) dX3_renew_52 rfl (rc_at B (ci := 12) rfl (k := 6) rfl) rfl q3103 q3105 qs49 q85 q3106 rfl rfl moX3_isWrong rfl rfl (by decide) (by decide) (Nat.le_of_ble_eq_true rfl) (Nat.le_of_ble_eq_true rfl) (Nat.le_of_ble_eq_true rfl) (fun _ _ hx => noX_x hx) (fun v52 L1 hp52 => ?_)
          obtain ⟨rfl, rfl⟩ := hp52
          refine (show Go g κ 55 [some (.ref m), some (.int (nI i))] [.int (nI (if ¬ 3 = 0 then 1 else 0))] [v0, v1, v6, v7, v3, v5, v2, v4, [(m, .inr (12, [.ref ls, .ref lb, .ref lk, .ref lp, .ref lr, .ref le, .ref lm, .ref lo, .int (nI 3), .int (dZz D), .int (nI (dBn D)), .int (nI (dCm D))]))]] 9 96 from ?_)
          refine g_if_eq (tgt := 60) (q := 58) B dX3_renew_55 rfl (by decide) (iff_false_intro (by decide)) (fun z => z.elim) (fun _ => ?_)
          refine g_iconst (v := nI 0) (q := 59) B dX3_renew_58 rfl (by decide) ?_
          obtain ⟨wc_3, ewc_3⟩ : ∃ w : va_W, w = ([[(m, .inr (12, [.ref ls, .ref lb, .ref lk, .ref lp, .ref lr, .ref le, .ref lm, .ref lo, .int (nI 3), .int (dZz D), .int (nI (dBn D)), .int (nI (dCm D))]))], v0, v1, v2, v3, v4, v5, v6, v7] : List va_W).flatten := ⟨_, rfl⟩
          have hwc_3 : KdP g m (dT D 3) wc_3 := by
            rw [ewc_3]
            exact ⟨ls, lb, lk, lp, lr, le, lm, lo, kcap, pcap, rcap, ecap, mcap, mks, mps, _, _, _, _, _, _, _, _, hcap, hv0, hv1, hv2, hv3, hv4, hv5, hv6, hv7, rfl⟩
          refine g_close (w := wc_3) [8, 0, 0, 4, 2, 3, 2, 0, 0] rfl ewc_3 rfl ?_
          refine (show Go g κ 59 [some (.ref m), some (.int (nI i))] [.int (nI 0)] [wc_3] 9 96 from ?_)
          exact g_iret B E dX3_renew_59 (⟨3, nI 0, _, rfl, rfl, hwc_3, Or.inr ⟨i, r, rfl, hr, Or.inr ⟨rfl, ⟨c18, c28⟩, Classical.not_not.mp c44⟩⟩⟩)
      · skip
        have c28 := Classical.not_not.mp c28
        refine g_iconst (v := nI 2) (q := 32) B dX3_renew_31 rfl (by decide) ?_
        refine g_goto (tgt := 52) B dX3_renew_32 (by decide) ?_
        refine g_callV (q := 55) (is := [6]) (kc2 := 9) (ks2 := 96) B [.int (nI 2)] (ct_X3_isWrong g J (m := m) (ls := ls) (lb := lb) (lk := lk) (lp := lp) (lr := lr) (le := le) (lm := lm) (lo := lo) (th := (dTh D)) (z := (dZz D)) (bo := (dBn D)) (cm := (dCm D)) (k := 2)  (by decide)) dX3_renew_52 rfl (rc_at B (ci := 12) rfl (k := 6) rfl) rfl q3103 q3105 qs49 q85 q3106 rfl rfl moX3_isWrong rfl rfl (by decide) (by decide) (Nat.le_of_ble_eq_true rfl) (Nat.le_of_ble_eq_true rfl) (Nat.le_of_ble_eq_true rfl) (fun _ _ hx => noX_x hx) (fun v52 L1 hp52 => ?_)
        obtain ⟨rfl, rfl⟩ := hp52
        refine (show Go g κ 55 [some (.ref m), some (.int (nI i))] [.int (nI (if ¬ 2 = 0 then 1 else 0))] [v0, v1, v6, v7, v3, v5, v4, v2, [(m, .inr (12, [.ref ls, .ref lb, .ref lk, .ref lp, .ref lr, .ref le, .ref lm, .ref lo, .int (nI 2), .int (dZz D), .int (nI (dBn D)), .int (nI (dCm D))]))]] 9 96 from ?_)
        refine g_if_eq (tgt := 60) (q := 58) B dX3_renew_55 rfl (by decide) (iff_false_intro (by decide)) (fun z => z.elim) (fun _ => ?_)
        refine g_iconst (v := nI 0) (q := 59) B dX3_renew_58 rfl (by decide) ?_
        obtain ⟨wc_4, ewc_4⟩ : ∃ w : va_W, w = ([[(m, .inr (12, [.ref ls, .ref lb, .ref lk, .ref lp, .ref lr, .ref le, .ref lm, .ref lo, .int (nI 2), .int (dZz D), .int (nI (dBn D)), .int (nI (dCm D))]))], v0, v1, v2, v3, v4, v5, v6, v7] : List va_W).flatten := ⟨_, rfl⟩
        have hwc_4 : KdP g m (dT D 2) wc_4 := by
          rw [ewc_4]
          exact ⟨ls, lb, lk, lp, lr, le, lm, lo, kcap, pcap, rcap, ecap, mcap, mks, mps, _, _, _, _, _, _, _, _, hcap, hv0, hv1, hv2, hv3, hv4, hv5, hv6, hv7, rfl⟩
        refine g_close (w := wc_4) [8, 0, 0, 5, 2, 3, 2, 0, 0] rfl ewc_4 rfl ?_
        refine (show Go g κ 59 [some (.ref m), some (.int (nI i))] [.int (nI 0)] [wc_4] 9 96 from ?_)
        exact g_iret B E dX3_renew_59 (⟨2, nI 0, _, rfl, rfl, hwc_4, Or.inr ⟨i, r, rfl, hr, Or.inl ⟨rfl, by rintro ⟨z1, z2⟩; first | exact c18 z1 | exact z2 c28⟩⟩⟩)
  · skip
    refine g_iconst (v := nI 1) (q := 10) B dX3_renew_9 rfl (by decide) ?_
    refine g_goto (tgt := 52) B dX3_renew_10 (by decide) ?_
    refine g_callV (q := 55) (is := [7]) (kc2 := 10) (ks2 := 100) B [.int (nI 1)] (ct_X3_isWrong g J (m := m) (ls := ls) (lb := lb) (lk := lk) (lp := lp) (lr := lr) (le := le) (lm := lm) (lo := lo) (th := (dTh D)) (z := (dZz D)) (bo := (dBn D)) (cm := (dCm D)) (k := 1)  (by decide)) dX3_renew_52 rfl (rc_at B (ci := 12) rfl (k := 7) rfl) rfl q3103 q3105 qs49 q85 q3106 rfl rfl moX3_isWrong rfl rfl (by decide) (by decide) (Nat.le_of_ble_eq_true rfl) (Nat.le_of_ble_eq_true rfl) (Nat.le_of_ble_eq_true rfl) (fun _ _ hx => noX_x hx) (fun v52 L1 hp52 => ?_)
    obtain ⟨rfl, rfl⟩ := hp52
    refine (show Go g κ 55 [some (.ref m), some (.int v)] [.int (nI (if ¬ 1 = 0 then 1 else 0))] [v0, v1, v2, v4, v5, v6, v7, v3, [(m, .inr (12, [.ref ls, .ref lb, .ref lk, .ref lp, .ref lr, .ref le, .ref lm, .ref lo, .int (nI 1), .int (dZz D), .int (nI (dBn D)), .int (nI (dCm D))]))]] 10 100 from ?_)
    refine g_if_eq (tgt := 60) (q := 58) B dX3_renew_55 rfl (by decide) (iff_false_intro (by decide)) (fun z => z.elim) (fun _ => ?_)
    refine g_iconst (v := nI 0) (q := 59) B dX3_renew_58 rfl (by decide) ?_
    obtain ⟨wc_5, ewc_5⟩ : ∃ w : va_W, w = ([[(m, .inr (12, [.ref ls, .ref lb, .ref lk, .ref lp, .ref lr, .ref le, .ref lm, .ref lo, .int (nI 1), .int (dZz D), .int (nI (dBn D)), .int (nI (dCm D))]))], v0, v1, v2, v3, v4, v5, v6, v7] : List va_W).flatten := ⟨_, rfl⟩
    have hwc_5 : KdP g m (dT D 1) wc_5 := by
      rw [ewc_5]
      exact ⟨ls, lb, lk, lp, lr, le, lm, lo, kcap, pcap, rcap, ecap, mcap, mks, mps, _, _, _, _, _, _, _, _, hcap, hv0, hv1, hv2, hv3, hv4, hv5, hv6, hv7, rfl⟩
    refine g_close (w := wc_5) [8, 0, 0, 0, 4, 0, 0, 0, 0] rfl ewc_5 rfl ?_
    refine (show Go g κ 59 [some (.ref m), some (.int v)] [.int (nI 0)] [wc_5] 10 100 from ?_)
    exact g_iret B E dX3_renew_59 (⟨1, nI 0, _, rfl, rfl, hwc_5, Or.inl ⟨rfl, c6⟩⟩)
theorem ct_X3_renew_y (g : Gv) (J : Jd g) {m : Nat} {D : MdS} {i : Nat} {r : MpS} {w0 : va_W} (hw0 : KdP g m D w0) (hD : MdB D) (hRs : RsB D) (hr : (dPs D)[i]? = some r) (hcan : rnCanM D i r) (hl8 : (dRs D).length < 8) (hN : NtB (dKs D) (dEs D) ((dPs D).set i ((mEp r, mLf r, mLs r, some (dSs D).length, mNd r, mCh r, mEv r) : MpS)) ((dSs D).length + 1) (dMs D).length) : Ct g yX3_renew (ws_ yX3_renew cX3_renew 2 (some .int)) 10 (20 + 10070 + 640 * (dMs D).length) (6000 + 130200 + 1600 * (dMs D).length) [.ref m, .int (nI i)] [w0] (fun (rv_ : Option Value) (rL_ : List va_W) => ∃ (Qs : List MpS) (u0 : va_W), rv_ = some (.int (nI ((dRs D).length + 1))) ∧ rL_ = [u0] ∧ KdP g m (((dSs D ++ [drw (dZz D)]), dBx D, dKs D, Qs, dRs D ++ [(110, i, (dSs D).length)], dEs D, dMs D, dSo D, 0, lcg (dZz D), dBn D, dCm D) : MdS) u0 ∧ (NtR (dKs D) (dEs D) ((dPs D).set i ((mEp r, mLf r, mLs r, some (dSs D).length, mNd r, mCh r, mEv r) : MpS)) Qs ((dPs D).set i ((mEp r, mLf r, mLs r, some (dSs D).length, mNd r, mCh r, mEv r) : MpS)).length)) noX := by
  refine Ct.of "KeygroveModel" [some (.ref m), some (.int (nI i))] rfl (by decide) rfl (Nat.le_of_ble_eq_true rfl) rfl ?_
  intro κ B E tb
  have hD0 := hD
  obtain ⟨hd1, hd2, hd3, hd4, hd5, hd6, hd7, hd8, hd9⟩ := hD0
  obtain ⟨ls, lb, lk, lp, lr, le, lm, lo, kcap, pcap, rcap, ecap, mcap, mks, mps, v0, v1, v2, v3, v4, v5, v6, v7, hcap, hv0, hv1, hv2, hv3, hv4, hv5, hv6, hv7, rfl⟩ := hw0
  refine g_open 0 rfl rfl rfl ?_
  refine (show Go g κ 0 [some (.ref m), some (.int (nI i))] [] [[(m, .inr (12, [.ref ls, .ref lb, .ref lk, .ref lp, .ref lr, .ref le, .ref lm, .ref lo, .int (nI (dTh D)), .int (dZz D), .int (nI (dBn D)), .int (nI (dCm D))]))], v0, v1, v2, v3, v4, v5, v6, v7] (20 + 10070 + 640 * (dMs D).length) (6000 + 130200 + 1600 * (dMs D).length) from ?_)
  obtain ⟨kc1, kc2, kc3, kc4, kc5⟩ := (show capM kcap pcap rcap ecap mcap from hcap)
  have hrs9 := hRs
  obtain ⟨hrs1, hrs2⟩ := hrs9
  obtain ⟨hcan1, hcan2⟩ := hcan
  have hi := get_lt2 hr
  refine g_aload_n (q := 1) B dX3_renew_0 rfl rfl (rv_r _) ?_
  refine g_aload_n (q := 2) B dX3_renew_1 rfl rfl (rv_r _) ?_
  refine g_iload_n (q := 3) B dX3_renew_2 rfl rfl ?_
  refine g_callV (q := 6) (is := [0, 3]) (kc2 := 20 + 10070 + 640 * (dMs D).length) (ks2 := 6000 + 130200 + 1600 * (dMs D).length) B [.int (nI i)] (ct_X3_isPerson g J (m := m) (ls := ls) (lb := lb) (lk := lk) (lp := lp) (lr := lr) (le := le) (lm := lm) (lo := lo) (th := dTh D) (z := dZz D) (bo := dBn D) (cm := dCm D) (mps := mps) (Ps := (dPs D)) (pcap := pcap) (v := nI i) hv3 (by omega)) dX3_renew_3 rfl (rc_at B (ci := 12) rfl (k := 0) rfl) rfl q3153 q3155 qs51 q85 q3156 rfl rfl moX3_isPerson rfl rfl (by decide) (by decide) (Nat.le_of_ble_eq_true rfl) (by omega) (by omega) (fun _ _ hx => noX_x hx) (fun v3 L1 hp3 => ?_)
  obtain ⟨rfl, rfl⟩ := hp3
  refine (show Go g κ 6 [some (.ref m), some (.int (nI i))] [.int (nI (if inR (nI i) (dPs D).length = true then 1 else 0)), .ref m] [v0, v1, v2, v4, v5, v6, v7, [(m, .inr (12, [.ref ls, .ref lb, .ref lk, .ref lp, .ref lr, .ref le, .ref lm, .ref lo, .int (nI (dTh D)), .int (dZz D), .int (nI (dBn D)), .int (nI (dCm D))]))], v3] (20 + 10070 + 640 * (dMs D).length) (6000 + 130200 + 1600 * (dMs D).length) from ?_)
  refine g_if_ne (tgt := 13) (q := 9) B dX3_renew_6 rfl (by decide) (iff_true_intro (bo_ne.mpr (by rw [inR_k (by omega)]; simpa using (get_lt2 hr)))) (fun _ => ?_) (fun z => absurd trivial z)
  refine g_aload_n (q := 14) B dX3_renew_13 rfl rfl (rv_r _) ?_
  refine g_iload_n (q := 15) B dX3_renew_14 rfl rfl ?_
  refine g_callV (q := 18) (is := [7, 7, 4]) (kc2 := 20 + 10070 + 640 * (dMs D).length) (ks2 := 6000 + 130200 + 1600 * (dMs D).length) B [.int (nI i)] (ct_X3_isNew g J (m := m) (ls := ls) (lb := lb) (lk := lk) (lp := lp) (lr := lr) (le := le) (lm := lm) (lo := lo) (th := (dTh D)) (z := (dZz D)) (bo := (dBn D)) (cm := (dCm D)) (mps := mps) (Ps := (dPs D)) (pcap := pcap) (Es := (dEs D)) (ecap := ecap) (i := i) (r := r) hv3 hv5 (hr) (by omega) (by omega)) dX3_renew_15 rfl (rc_at B (ci := 12) rfl (k := 7) rfl) rfl q3370 q3372 qs62 q85 q3373 rfl rfl moX3_isNew rfl rfl (by decide) (by decide) (Nat.le_of_ble_eq_true rfl) (by omega) (by omega) (fun _ _ hx => noX_x hx) (fun v15 L1 hp15 => ?_)
  obtain ⟨rfl, rfl⟩ := hp15
  refine (show Go g κ 18 [some (.ref m), some (.int (nI i))] [.int (nI (if isF (dEs D).length (mEp r) = true then 1 else 0)), .ref m] [v0, v1, v2, v4, v6, v7, [(m, .inr (12, [.ref ls, .ref lb, .ref lk, .ref lp, .ref lr, .ref le, .ref lm, .ref lo, .int (nI (dTh D)), .int (dZz D), .int (nI (dBn D)), .int (nI (dCm D))]))], v3, v5] (20 + 10070 + 640 * (dMs D).length) (6000 + 130200 + 1600 * (dMs D).length) from ?_)
  refine g_if_eq (tgt := 31) (q := 21) B dX3_renew_18 rfl (by decide) (iff_false_intro (fun z_ => absurd hcan1 (bo_eq.mp z_))) (fun z => z.elim) (fun _ => ?_)
  refine g_aload_n (q := 22) B dX3_renew_21 rfl rfl (rv_r _) ?_
  refine g_bipush (v := nI 110) (q := 24) B dX3_renew_22 rfl (by decide) ?_
  refine g_iload_n (q := 25) B dX3_renew_24 rfl rfl ?_
  refine g_callV (q := 28) (is := [6, 3, 2]) (kc2 := (20 + 10070 + 640 * (dMs D).length) - 1) (ks2 := (6000 + 130200 + 1600 * (dMs D).length) - 4) B [.int (nI 110), .int (nI i)] (ct_X3_isProposed_110 g J (m := m) (ls := ls) (lb := lb) (lk := lk) (lp := lp) (lr := lr) (le := le) (lm := lm) (lo := lo) (th := (dTh D)) (z := (dZz D)) (bo := (dBn D)) (cm := (dCm D)) (w := i) (Rs := (dRs D)) (rcap := rcap) (mks := mks) (Ks := (dKs D)) (kcap := kcap) hv4 hv2 (hrs1) (by omega)) dX3_renew_25 rfl (rc_at B (ci := 12) rfl (k := 6) rfl) rfl q3378 q3380 qs64 q85 q3381 rfl rfl moX3_isProposed rfl rfl (by decide) (by decide) (Nat.le_of_ble_eq_true rfl) (by omega) (by omega) (fun _ _ hx => noX_x hx) (fun v25 L1 hp25 => ?_)
  obtain ⟨rfl, rfl⟩ := hp25
  refine (show Go g κ 28 [some (.ref m), some (.int (nI i))] [.int (nI (if prN (dRs D) i = true then 1 else 0)), .ref m] [v0, v1, v6, v7, v3, v5, [(m, .inr (12, [.ref ls, .ref lb, .ref lk, .ref lp, .ref lr, .ref le, .ref lm, .ref lo, .int (nI (dTh D)), .int (dZz D), .int (nI (dBn D)), .int (nI (dCm D))]))], v4, v2] ((20 + 10070 + 640 * (dMs D).length) - 1) ((6000 + 130200 + 1600 * (dMs D).length) - 4) from ?_)
  refine g_if_eq (tgt := 35) (q := 31) B dX3_renew_28 rfl (by decide) (iff_true_intro (bo_eq.mpr hcan2)) (fun _ => ?_) (fun z => absurd trivial z)
  refine g_aload_n (q := 36) B dX3_renew_35 rfl rfl (rv_r _) ?_
  refine g_get (q := 39) B (ci := 12) (k := 6) (j := 4) in_X3 rfl dX3_renew_36 rfl rfl (Nat.le_of_ble_eq_true rfl) q3061 rfl rfl ?_
  obtain ⟨ps_1, md_1, hli_1, hln_1, hel_1⟩ := LhP.at (Sub.self hv4)
  refine g_callV (q := 42) (is := [7]) (kc2 := (20 + 10070 + 640 * (dMs D).length) - 1) (ks2 := (6000 + 130200 + 1600 * (dMs D).length) - 4) B [] (ct_J2_size_s g J (p := lr) (xs := ps_1) (md := md_1) (cap := rcap) (W0 := v4)  (hli_1)) dX3_renew_39 rfl (rc_in B (ci := 21) rfl (k := 7) rfl (LhP.hm hv4)) rfl q3102 q321 q3665 q81 q323 rfl rfl moJ2_size rfl rfl (by decide) (by decide) (Nat.le_of_ble_eq_true rfl) (by omega) (by omega) (fun _ _ hx => noX_x hx) (fun v39 L1 hp39 => ?_)
  obtain ⟨rfl, rfl⟩ := hp39
  refine (show Go g κ 42 [some (.ref m), some (.int (nI i))] [.int (nI ps_1.length), .ref m] [v0, v1, v6, v7, v3, v5, [(m, .inr (12, [.ref ls, .ref lb, .ref lk, .ref lp, .ref lr, .ref le, .ref lm, .ref lo, .int (nI (dTh D)), .int (dZz D), .int (nI (dBn D)), .int (nI (dCm D))]))], v2, v4] ((20 + 10070 + 640 * (dMs D).length) - 1) ((6000 + 130200 + 1600 * (dMs D).length) - 4) from ?_)
  rw [hln_1.1]
  refine (show Go g κ 42 [some (.ref m), some (.int (nI i))] [.int (nI ((dRs D).length)), .ref m] [v0, v1, v6, v7, v3, v5, [(m, .inr (12, [.ref ls, .ref lb, .ref lk, .ref lp, .ref lr, .ref le, .ref lm, .ref lo, .int (nI (dTh D)), .int (dZz D), .int (nI (dBn D)), .int (nI (dCm D))]))], v2, v4] ((20 + 10070 + 640 * (dMs D).length) - 1) ((6000 + 130200 + 1600 * (dMs D).length) - 4) from ?_)
  refine g_bipush (v := nI 8) (q := 44) B dX3_renew_42 rfl (by decide) ?_
  refine g_icmp_ne (tgt := 51) (q := 47) B dX3_renew_44 rfl (by decide) (iff_true_intro ((not_congr (nI_eq (by omega) (by omega))).mpr (by omega))) (fun _ => ?_) (fun z => absurd trivial z)
  refine g_iconst (v := nI 0) (q := 52) B dX3_renew_51 rfl (by decide) ?_
  refine g_callV (q := 55) (is := [6]) (kc2 := (20 + 10070 + 640 * (dMs D).length) - 1) (ks2 := (6000 + 130200 + 1600 * (dMs D).length) - 4) B [.int (nI 0)] (ct_X3_isWrong g J (m := m) (ls := ls) (lb := lb) (lk := lk) (lp := lp) (lr := lr) (le := le) (lm := lm) (lo := lo) (th := (dTh D)) (z := (dZz D)) (bo := (dBn D)) (cm := (dCm D)) (k := 0)  (by decide)) dX3_renew_52 rfl (rc_at B (ci := 12) rfl (k := 6) rfl) rfl q3103 q3105 qs49 q85 q3106 rfl rfl moX3_isWrong rfl rfl (by decide) (by decide) (Nat.le_of_ble_eq_true rfl) (by omega) (by omega) (fun _ _ hx => noX_x hx) (fun v52 L1 hp52 => ?_)
  obtain ⟨rfl, rfl⟩ := hp52
  refine (show Go g κ 55 [some (.ref m), some (.int (nI i))] [.int (nI (if ¬ 0 = 0 then 1 else 0))] [v0, v1, v6, v7, v3, v5, v2, v4, [(m, .inr (12, [.ref ls, .ref lb, .ref lk, .ref lp, .ref lr, .ref le, .ref lm, .ref lo, .int (nI 0), .int (dZz D), .int (nI (dBn D)), .int (nI (dCm D))]))]] ((20 + 10070 + 640 * (dMs D).length) - 1) ((6000 + 130200 + 1600 * (dMs D).length) - 4) from ?_)
  refine g_if_eq (tgt := 60) (q := 58) B dX3_renew_55 rfl (by decide) (iff_true_intro (by decide)) (fun _ => ?_) (fun z => absurd trivial z)
  have hsl1 : (dSs D ++ [drw (dZz D)]).length = (dSs D).length + 1 := by simp
  have hsl2 : (dSs D ++ [drw (dZz D)] ++ [drw (lcg (dZz D))]).length = (dSs D).length + 2 := by simp
  have hcf0 := capF_le (dSs D).length
  have hcf1 := capF_le ((dSs D).length + 1)
  have hcf2 := capF_le ((dSs D ++ [drw (dZz D)]).length + 1)
  have hcf3 := capF_le (dSs D ++ [drw (dZz D)] ++ [drw (lcg (dZz D))]).length
  have hcf4 := capF_le (dSs D ++ [drw (dZz D)]).length
  have hpl9 : ((dPs D).set i ((mEp r, mLf r, mLs r, some (dSs D).length, mNd r, mCh r, mEv r) : MpS)).length = (dPs D).length := List.length_set
  refine g_aload_n (q := 61) B dX3_renew_60 rfl rfl (rv_r _) ?_
  refine g_get (q := 64) B (ci := 12) (k := 8) (j := 3) in_X3 rfl dX3_renew_61 rfl rfl (Nat.le_of_ble_eq_true rfl) q3060 rfl rfl ?_
  refine g_iload_n (q := 65) B dX3_renew_64 rfl rfl ?_
  obtain ⟨md_2, hli_2, hln_2, hel_2⟩ := LoP.at (Sub.self hv3)
  obtain ⟨x65, hx65⟩ := get_ex (xs := mps) (i := i) (by have := get_lt2 (show (dPs D)[i]? = some r from hr); have := hln_2.1; omega)
  have hE_3 := hel_2 _ _ _ hx65 (show (dPs D)[i]? = some r from hr)
  refine g_callV (q := 68) (is := [4]) (kc2 := (20 + 10070 + 640 * (dMs D).length) - 1) (ks2 := (6000 + 130200 + 1600 * (dMs D).length) - 4) B [.int (nI i)] (ct_J2_get_s g J (p := lp) (xs := mps) (md := md_2) (cap := pcap) (i := i) (x := x65) (W0 := v3)  (hli_2) (hx65)) dX3_renew_65 rfl (rc_in B (ci := 21) rfl (k := 4) rfl (LoP.hm hv3)) rfl q3231 q1095 q3667 q81 q1097 rfl rfl moJ2_get rfl rfl (by decide) (by decide) (Nat.le_of_ble_eq_true rfl) (by omega) (by omega) (fun _ _ hx => noX_x hx) (fun v65 L1 hp65 => ?_)
  obtain ⟨rfl, rfl⟩ := hp65
  refine (show Go g κ 68 [some (.ref m), some (.int (nI i))] [.ref x65] [v0, v1, v6, v7, v5, v2, v4, [(m, .inr (12, [.ref ls, .ref lb, .ref lk, .ref lp, .ref lr, .ref le, .ref lm, .ref lo, .int (nI 0), .int (dZz D), .int (nI (dBn D)), .int (nI (dCm D))]))], v3] ((20 + 10070 + 640 * (dMs D).length) - 1) ((6000 + 130200 + 1600 * (dMs D).length) - 4) from ?_)
  refine g_castRS (ci := 13) (q := 71) B rfl (rc_in B (ci := 13) rfl (k := 8) rfl (Sub.hm (hE_3) fun _ z => MpP.hm z)) dX3_renew_68 rfl q3107 ?_
  refine g_aload_n (q := 72) B dX3_renew_71 rfl rfl (rv_r _) ?_
  refine g_callV (q := 75) (is := [7, 0]) (kc2 := 15 + 10070 + 640 * (dMs D).length) (ks2 := 100 + 130200 + 1600 * (dMs D).length) B [] (ct_X3_drawn g J (m := m) (ls := ls) (lb := lb) (lk := lk) (lp := lp) (lr := lr) (le := le) (lm := lm) (lo := lo) (th := 0) (z := (dZz D)) (bo := (dBn D)) (cm := (dCm D)) (ss := (dSs D)) hv0 (by omega)) dX3_renew_72 rfl (rc_at B (ci := 12) rfl (k := 7) rfl) rfl q3160 q3162 qs52 q85 q3163 rfl rfl moX3_drawn rfl rfl (by decide) (by decide) (Nat.le_of_ble_eq_true rfl) (by omega) (by omega) (fun _ _ hx => noX_x hx) (fun v72 L1 hp72 => ?_)
  obtain ⟨u1_72, rfl, rfl, hu1_72⟩ := hp72
  refine (show Go g κ 75 [some (.ref m), some (.int (nI i))] [.int (nI ((dSs D).length)), .ref x65] [v1, v6, v7, v5, v2, v4, v3, [(m, .inr (12, [.ref ls, .ref lb, .ref lk, .ref lp, .ref lr, .ref le, .ref lm, .ref lo, .int (nI 0), .int (lcg (dZz D)), .int (nI (dBn D)), .int (nI (dCm D))]))], u1_72] (15 + 10070 + 640 * (dMs D).length) (100 + 130200 + 1600 * (dMs D).length) from ?_)
  obtain ⟨lu1_o, lwi_o, lu2_o, hlwi_o, hlcl_o, hle_o⟩ := LoP.opn hv3 hx65 hr
  refine g_open 6 rfl hle_o rfl ?_
  refine (show Go g κ 75 [some (.ref m), some (.int (nI i))] [.int (nI ((dSs D).length)), .ref x65] [v1, v6, v7, v5, v2, v4, [(m, .inr (12, [.ref ls, .ref lb, .ref lk, .ref lp, .ref lr, .ref le, .ref lm, .ref lo, .int (nI 0), .int (lcg (dZz D)), .int (nI (dBn D)), .int (nI (dCm D))]))], u1_72, lu1_o, lwi_o, lu2_o] (15 + 10070 + 640 * (dMs D).length) (100 + 130200 + 1600 * (dMs D).length) from ?_)
  obtain ⟨nd_o, ch_o, ev_o, cv_o, fn_o, fc_o, v0_o, v1_o, hM_o, hfn_o, hoc_o, hcv_o, hv0_o, hv1_o, rfl⟩ := hlwi_o
  refine g_open 9 rfl rfl rfl ?_
  refine (show Go g κ 75 [some (.ref m), some (.int (nI i))] [.int (nI ((dSs D).length)), .ref x65] [v1, v6, v7, v5, v2, v4, [(m, .inr (12, [.ref ls, .ref lb, .ref lk, .ref lp, .ref lr, .ref le, .ref lm, .ref lo, .int (nI 0), .int (lcg (dZz D)), .int (nI (dBn D)), .int (nI (dCm D))]))], u1_72, lu1_o, lu2_o, [(x65, .inr (13, [.int (oI (mEp r)), .int (nI (mLf r)), .int (nI (mLs r)), .int (oI (mRn r)), .ref nd_o, .ref ch_o, .ref ev_o]))], [(nd_o, .inl (g.2.1 0, 31, .inl fn_o))], [(ch_o, .inl (g.2.1 5, 16, .inr (.inr (.inr (.inr fc_o)))))], v0_o, v1_o] (15 + 10070 + 640 * (dMs D).length) (100 + 130200 + 1600 * (dMs D).length) from ?_)
  refine g_putN (q := 78) (L2 := [v1, v6, v7, v5, v2, v4, [(m, .inr (12, [.ref ls, .ref lb, .ref lk, .ref lp, .ref lr, .ref le, .ref lm, .ref lo, .int (nI 0), .int (lcg (dZz D)), .int (nI (dBn D)), .int (nI (dCm D))]))], u1_72, lu1_o, lu2_o, [(x65, .inr (13, [.int (oI (mEp r)), .int (nI (mLf r)), .int (nI (mLs r)), .int (nI ((dSs D).length)), .ref nd_o, .ref ch_o, .ref ev_o]))], [(nd_o, .inl (g.2.1 0, 31, .inl fn_o))], [(ch_o, .inl (g.2.1 5, 16, .inr (.inr (.inr (.inr fc_o)))))], v0_o, v1_o]) B (ci := 13) (k := 10) (j := 3) in_X5 tyX5 tyX5_ok nmX5 rfl dX3_renew_75 rfl rfl (Nat.le_of_ble_eq_true rfl) q3122 rfl rfl rfl rfl (Nat.le_of_ble_eq_true rfl) rfl ?_
  obtain ⟨wc_4, ewc_4⟩ : ∃ w : va_W, w = ([[(x65, .inr (13, [.int (oI (mEp r)), .int (nI (mLf r)), .int (nI (mLs r)), .int (nI ((dSs D).length)), .ref nd_o, .ref ch_o, .ref ev_o]))], [(nd_o, .inl (g.2.1 0, 31, .inl fn_o))], [(ch_o, .inl (g.2.1 5, 16, .inr (.inr (.inr (.inr fc_o)))))], v0_o, v1_o] : List va_W).flatten := ⟨_, rfl⟩
  have hwc_4 : MpP g x65 ((mEp r, mLf r, mLs r, some (dSs D).length, mNd r, mCh r, mEv r) : MpS) wc_4 := by
    rw [ewc_4]
    exact ⟨nd_o, ch_o, ev_o, cv_o, fn_o, fc_o, _, _, (by obtain ⟨m1, m2, m3, m4, m5, m6, m7, m8⟩ := hM_o; exact ⟨m1, m2, m3, (fun n h => by cases h; omega), m5, m6, m7, m8⟩), hfn_o, hoc_o, hcv_o, hv0_o, hv1_o, rfl⟩
  refine g_close (w := wc_4) [10, 10, 10, 10, 10] rfl ewc_4 rfl ?_
  refine (show Go g κ 78 [some (.ref m), some (.int (nI i))] [] [v1, v6, v7, v5, v2, v4, [(m, .inr (12, [.ref ls, .ref lb, .ref lk, .ref lp, .ref lr, .ref le, .ref lm, .ref lo, .int (nI 0), .int (lcg (dZz D)), .int (nI (dBn D)), .int (nI (dCm D))]))], u1_72, lu1_o, lu2_o, wc_4] (15 + 10070 + 640 * (dMs D).length) (100 + 130200 + 1600 * (dMs D).length) from ?_)
  obtain ⟨wc_5, ewc_5⟩ : ∃ w : va_W, w = ([lu1_o, wc_4, lu2_o] : List va_W).flatten := ⟨_, rfl⟩
  have hwc_5 : LoP g (MpP g) lp mps ((dPs D).set i ((mEp r, mLf r, mLs r, some (dSs D).length, mNd r, mCh r, mEv r) : MpS)) pcap wc_5 := by
    rw [ewc_5]
    exact hlcl_o _ _ hwc_4
  refine g_close (w := wc_5) [8, 9, 8] rfl ewc_5 rfl ?_
  refine (show Go g κ 78 [some (.ref m), some (.int (nI i))] [] [v1, v6, v7, v5, v2, v4, [(m, .inr (12, [.ref ls, .ref lb, .ref lk, .ref lp, .ref lr, .ref le, .ref lm, .ref lo, .int (nI 0), .int (lcg (dZz D)), .int (nI (dBn D)), .int (nI (dCm D))]))], u1_72, wc_5] (15 + 10070 + 640 * (dMs D).length) (100 + 130200 + 1600 * (dMs D).length) from ?_)
  refine g_aload_n (q := 79) B dX3_renew_78 rfl rfl (rv_r _) ?_
  have hnt := nt_r (Q := (dMs D).length) (show ((dPs D).set i ((mEp r, mLf r, mLs r, some (dSs D).length, mNd r, mCh r, mEv r) : MpS)).length ≤ 10 from by omega) (show (dKs D).length ≤ 24 from by omega) (show ((dSs D).length + 1) ≤ 980 from by omega)
  obtain ⟨hnr1, hnr2⟩ := hnt
  refine g_callV (q := 82) (is := [6, 4, 6, 3]) (kc2 := 10) (ks2 := 80) B [] (ct_X3_notes g J (m := m) (ls := ls) (lb := lb) (lk := lk) (lp := lp) (lr := lr) (le := le) (lm := lm) (lo := lo) (th := 0) (z := (lcg (dZz D))) (bo := (dBn D)) (cm := (dCm D)) (mks := mks) (Ks := (dKs D)) (kcap := kcap) (mps := mps) (Ps := ((dPs D).set i ((mEp r, mLf r, mLs r, some (dSs D).length, mNd r, mCh r, mEv r) : MpS))) (pcap := pcap) (Es := (dEs D)) (ecap := ecap) (n := ((dSs D).length + 1)) (Q := (dMs D).length) hv2 hwc_5 hv5 (by omega) (fun i_ r_ e_ h1_ h2_ => (hN i_ r_ h1_).1 e_ h2_) (fun i_ r_ k_ c_ h1_ h2_ => (hN i_ r_ h1_).2.1 k_ c_ h2_) (fun i_ r_ x_ h1_ h2_ => (hN i_ r_ h1_).2.2.1 x_ h2_) (fun i_ r_ h1_ => (hN i_ r_ h1_).2.2.2) (Nat.le_trans (by omega) (by decide : 980 ≤ 1000))) dX3_renew_79 rfl (rc_at B (ci := 12) rfl (k := 6) rfl) rfl q3223 q3225 qs54 q85 q3226 rfl rfl moX3_notes rfl rfl (by decide) (by decide) (Nat.le_of_ble_eq_true rfl) (by omega) (by omega) (fun _ _ hx => noX_x hx) (fun v79 L1 hp79 => ?_)
  obtain ⟨Qs79, u2_79, rfl, rfl, hu2_79, hN_79⟩ := hp79
  refine (show Go g κ 82 [some (.ref m), some (.int (nI i))] [] [v1, v6, v7, v4, u1_72, [(m, .inr (12, [.ref ls, .ref lb, .ref lk, .ref lp, .ref lr, .ref le, .ref lm, .ref lo, .int (nI 0), .int (lcg (dZz D)), .int (nI (dBn D)), .int (nI (dCm D))]))], v2, u2_79, v5] 10 80 from ?_)
  obtain ⟨E9, hE9, -, -⟩ := hN_79.2 i ((mEp r, mLf r, mLs r, some (dSs D).length, mNd r, mCh r, mEv r) : MpS) (set_at hr)
  refine g_aload_n (q := 83) B dX3_renew_82 rfl rfl (rv_r _) ?_
  refine g_bipush (v := nI 110) (q := 85) B dX3_renew_83 rfl (by decide) ?_
  refine g_iload_n (q := 86) B dX3_renew_85 rfl rfl ?_
  refine g_aload_n (q := 87) B dX3_renew_86 rfl rfl (rv_r _) ?_
  refine g_get (q := 90) B (ci := 12) (k := 5) (j := 3) in_X3 rfl dX3_renew_87 rfl rfl (Nat.le_of_ble_eq_true rfl) q3060 rfl rfl ?_
  refine g_iload_n (q := 91) B dX3_renew_90 rfl rfl ?_
  obtain ⟨md_6, hli_6, hln_6, hel_6⟩ := LoP.at (Sub.self hu2_79)
  have hE_7 := hel_6 _ _ _ hx65 (show Qs79[i]? = some (evS ((mEp r, mLf r, mLs r, some (dSs D).length, mNd r, mCh r, mEv r) : MpS) E9) from hE9)
  refine g_callV (q := 94) (is := [7]) (kc2 := 10) (ks2 := 80) B [.int (nI i)] (ct_J2_get_s g J (p := lp) (xs := mps) (md := md_6) (cap := pcap) (i := i) (x := x65) (W0 := u2_79)  (hli_6) (hx65)) dX3_renew_91 rfl (rc_in B (ci := 21) rfl (k := 7) rfl (LoP.hm hu2_79)) rfl q3231 q1095 q3667 q81 q1097 rfl rfl moJ2_get rfl rfl (by decide) (by decide) (Nat.le_of_ble_eq_true rfl) (Nat.le_of_ble_eq_true rfl) (Nat.le_of_ble_eq_true rfl) (fun _ _ hx => noX_x hx) (fun v91 L1 hp91 => ?_)
  obtain ⟨rfl, rfl⟩ := hp91
  refine (show Go g κ 94 [some (.ref m), some (.int (nI i))] [.ref x65, .int (nI i), .int (nI 110), .ref m] [v1, v6, v7, v4, u1_72, [(m, .inr (12, [.ref ls, .ref lb, .ref lk, .ref lp, .ref lr, .ref le, .ref lm, .ref lo, .int (nI 0), .int (lcg (dZz D)), .int (nI (dBn D)), .int (nI (dCm D))]))], v2, v5, u2_79] 10 80 from ?_)
  refine g_castRS (ci := 13) (q := 97) B rfl (rc_in B (ci := 13) rfl (k := 8) rfl (Sub.hm (hE_7) fun _ z => MpP.hm z)) dX3_renew_94 rfl q3107 ?_
  obtain ⟨nd_8, ch_8, ev_8, cv_8, fn_8, fc_8, hM_8, hfn_8, hoc_8, hcv_8, hc_8_0, hc_8_1, hc_8_2, hs_8_0, hs_8_1⟩ := MpP.at (hE_7)
  refine g_getNM (q := 100) B (ci := 13) (k := 8) (j := 3) in_X5 rfl dX3_renew_97 rfl rfl (hc_8_0) (Nat.le_of_ble_eq_true rfl) q3122 rfl rfl ?_
  refine g_stk (y := .int (nI ((dSs D).length))) (by rw [(show mRn (evS ((mEp r, mLf r, mLs r, some (dSs D).length, mNd r, mCh r, mEv r) : MpS) E9) = _ from rfl)]; rfl) ?_
  refine g_callV (q := 103) (is := [5, 3]) (kc2 := 8) (ks2 := 17) B [.int (nI 110), .int (nI i), .int (nI ((dSs D).length))] (ct_X3_proposed g J (m := m) (ls := ls) (lb := lb) (lk := lk) (lp := lp) (lr := lr) (le := le) (lm := lm) (lo := lo) (th := 0) (z := (lcg (dZz D))) (bo := (dBn D)) (cm := (dCm D)) (Rs := (dRs D)) (rcap := rcap) (k := 110) (p := i) (wv := (dSs D).length) hv4 (by first | assumption | omega | rfl) (by omega) (by omega)) dX3_renew_100 rfl (rc_at B (ci := 12) rfl (k := 5) rfl) rfl q3383 q3385 qs65 q85 q3386 rfl rfl moX3_proposed rfl rfl (by decide) (by decide) (Nat.le_of_ble_eq_true rfl) (Nat.le_of_ble_eq_true rfl) (Nat.le_of_ble_eq_true rfl) (fun _ _ hx => noX_x hx) (fun v100 L1 hp100 => ?_)
  obtain ⟨u1_100, rfl, rfl, hu1_100⟩ := hp100
  refine (show Go g κ 103 [some (.ref m), some (.int (nI i))] [.int (nI ((dRs D).length + 1))] [v1, v6, v7, u1_72, v2, v5, u2_79, [(m, .inr (12, [.ref ls, .ref lb, .ref lk, .ref lp, .ref lr, .ref le, .ref lm, .ref lo, .int (nI 0), .int (lcg (dZz D)), .int (nI (dBn D)), .int (nI (dCm D))]))], u1_100] 8 17 from ?_)
  obtain ⟨wc_9, ewc_9⟩ : ∃ w : va_W, w = ([[(m, .inr (12, [.ref ls, .ref lb, .ref lk, .ref lp, .ref lr, .ref le, .ref lm, .ref lo, .int (nI 0), .int (lcg (dZz D)), .int (nI (dBn D)), .int (nI (dCm D))]))], u1_72, v1, v2, u2_79, u1_100, v5, v6, v7] : List va_W).flatten := ⟨_, rfl⟩
  have hwc_9 : KdP g m (((dSs D ++ [drw (dZz D)]), dBx D, dKs D, Qs79, dRs D ++ [(110, i, (dSs D).length)], dEs D, dMs D, dSo D, 0, lcg (dZz D), dBn D, dCm D) : MdS) wc_9 := by
    rw [ewc_9]
    exact ⟨ls, lb, lk, lp, lr, le, lm, lo, kcap, pcap, (if (dRs D).length = rcap then growN rcap else rcap), ecap, mcap, mks, mps, _, _, _, _, _, _, _, _, (by first | exact hcap | exact ⟨by first | exact kc1 | exact grow_b (by omega) kc1, by first | exact kc2 | exact grow_b (by omega) kc2, by first | exact kc3 | exact grow_b (by omega) kc3, by first | exact kc4 | exact grow_b (by omega) kc4, by first | exact kc5 | (have := grow_b (n := (dMs D).length) (cap := mcap) (by omega); first | omega | (unfold growN; split <;> (try split) <;> omega))⟩), hu1_72, hv1, hv2, hu2_79, hu1_100, hv5, hv6, hv7, rfl⟩
  refine g_close (w := wc_9) [7, 3, 0, 2, 3, 3, 2, 0, 0] rfl ewc_9 rfl ?_
  refine (show Go g κ 103 [some (.ref m), some (.int (nI i))] [.int (nI ((dRs D).length + 1))] [wc_9] 8 17 from ?_)
  exact g_iret B E dX3_renew_103 (⟨Qs79, _, rfl, rfl, hwc_9, hN_79⟩)
