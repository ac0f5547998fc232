set_option maxRecDepth 100000
/-- what notes wants of the persons -/
def NtB (Ks : List MkS) (Es : List MeS) (Ps : List MpS) (n Q : Nat) : Prop := ∀ (i : Nat) (r : MpS), Ps[i]? = some r → (∀ e, mEp r = some e → e < Es.length) ∧ (∀ k c, mCh r k = some c → c.2.2.length ≤ Q) ∧ (∀ x, helM Ks Es i r x → x < n) ∧ (mEv r).Nodup ∧ ∀ x ∈ mEv r, x < n
/-- what holds of KeygroveModel between calls -/
def MdI (D : MdS) : Prop := SsOk (dSs D) ∧ BxOk (dSs D).length (dBx D) ∧ (∀ x ∈ dSo D, x < (dSs D).length) ∧ (dSo D).Nodup ∧ NtB (dKs D) (dEs D) (dPs D) (dSs D).length (dMs D).length
theorem moX3_all : Mo yX3_all 1 := by
  refine ⟨by decide, by decide, by decide +kernel⟩
theorem ct_X3_found (g : Gv) (J : Jd g) {m : Nat} {D : MdS} {w0 : va_W} (hw0 : KdP g m D w0) (hD : MdB D) (hI : MdI D) : Ct g yX3_found (ws_ yX3_found cX3_found 6 (some .int)) 10 903 4508 [.ref m] [w0] (fun (rv_ : Option Value) (rL_ : List va_W) => ∃ (K : Nat → Bool) (u0 : va_W), rv_ = some (.int (nI (fb_ct K (dSs D).length))) ∧ rL_ = [u0] ∧ KdP g m (dT D 0) u0 ∧ (∀ x, K x = true ↔ ClK (dSs D) (dBx D) (dSo D) x) ∧ (∀ x, K x = true → x < (dSs D).length)) noX := by
  refine Ct.of "KeygroveModel" [some (.ref m), none, none, none, none, none] rfl (by decide) rfl (Nat.le_of_ble_eq_true rfl) rfl ?_
  intro κ B E tb
  have hD0 := hD
  obtain ⟨hd1, hd2, hd3, hd4, hd5, hd6, hd7, hd8, hd9⟩ := hD0
  obtain ⟨ls, lb, lk, lp, lr, le, lm, lo, kcap, pcap, rcap, ecap, mcap, mks, mps, v0, v1, v2, v3, v4, v5, v6, v7, hcap, hv0, hv1, hv2, hv3, hv4, hv5, hv6, hv7, rfl⟩ := hw0
  refine g_open 0 rfl rfl rfl ?_
  refine (show Go g κ 0 [some (.ref m), none, none, none, none, none] [] [[(m, .inr (12, [.ref ls, .ref lb, .ref lk, .ref lp, .ref lr, .ref le, .ref lm, .ref lo, .int (nI (dTh D)), .int (dZz D), .int (nI (dBn D)), .int (nI (dCm D))]))], v0, v1, v2, v3, v4, v5, v6, v7] 903 4508 from ?_)
  obtain ⟨kc1, kc2, kc3, kc4, kc5⟩ := (show capM kcap pcap rcap ecap mcap from hcap)
  obtain ⟨hi1, hi2, hi3, hi4, hi5⟩ := hI
  have hcf := capF_le (dSs D).length
  refine g_aload_n (q := 1) B dX3_found_0 rfl rfl (rv_r _) ?_
  refine g_iconst (v := nI 0) (q := 2) B dX3_found_1 rfl (by decide) ?_
  refine g_put (q := 5) (L2 := [[(m, .inr (12, [.ref ls, .ref lb, .ref lk, .ref lp, .ref lr, .ref le, .ref lm, .ref lo, .int (nI 0), .int (dZz D), .int (nI (dBn D)), .int (nI (dCm D))]))], v0, v1, v2, v3, v4, v5, v6, v7]) B (ci := 12) (k := 0) (j := 8) in_X3 tyX3 tyX3_ok nmX3 rfl dX3_found_2 rfl rfl (Nat.le_of_ble_eq_true rfl) q3065 rfl rfl rfl rfl (Nat.le_of_ble_eq_true rfl) rfl ?_
  refine g_iconst (v := nI 0) (q := 6) B dX3_found_5 rfl (by decide) ?_
  refine g_istore_n (q := 7) (lv2 := [some (.ref m), some (.int (nI 0)), none, none, none, none]) B dX3_found_6 rfl (Nat.le_of_ble_eq_true rfl) rfl ?_
  refine g_aload_n (q := 8) B dX3_found_7 rfl rfl (rv_r _) ?_
  refine g_aload_n (q := 9) B dX3_found_8 rfl rfl (rv_r _) ?_
  refine g_get (q := 12) B (ci := 12) (k := 0) (j := 7) in_X3 rfl dX3_found_9 rfl rfl (Nat.le_of_ble_eq_true rfl) q3064 rfl rfl ?_
  refine g_callV (q := 15) (is := [0, 0, 0, 5]) (kc2 := 0) (ks2 := 0) B [.ref lo] (ct_X3_all g J (m := m) (ls := ls) (lb := lb) (lk := lk) (lp := lp) (lr := lr) (le := le) (lm := lm) (lo := lo) (th := 0) (z := dZz D) (bo := dBn D) (cm := dCm D) (ss := (dSs D)) (bx := (dBx D)) (p := lo) (vs := (dSo D)) (capv := (capF (dSo D).length)) hv0 hv1 hv7 (hi1) (hi2) (by omega) (hi3)) dX3_found_12 rfl (rc_at B (ci := 12) rfl (k := 0) rfl) rfl q3607 q3609 qs74 q85 q3610 rfl rfl moX3_all rfl rfl (by decide) (by decide) (Nat.le_of_ble_eq_true rfl) (by omega) (by omega) (fun _ _ hx => noX_x hx) (fun v12 L1 hp12 => ?_)
  obtain ⟨a12, fa12, K12, rfl, rfl, hfa_12, hK_12, hlt_12⟩ := hp12
  refine (show Go g κ 15 [some (.ref m), some (.int (nI 0)), none, none, none, none] [.ref a12] [v2, v3, v4, v5, v6, [(m, .inr (12, [.ref ls, .ref lb, .ref lk, .ref lp, .ref lr, .ref le, .ref lm, .ref lo, .int (nI 0), .int (dZz D), .int (nI (dBn D)), .int (nI (dCm D))]))], v0, v1, v7, [(a12, .inl (g.2.1 4, (dSs D).length, .inl fa12))]] 0 0 from ?_)
  refine g_astore_n (q := 16) (lv2 := [some (.ref m), some (.int (nI 0)), some (.ref a12), none, none, none]) B dX3_found_15 rfl (Nat.le_of_ble_eq_true rfl) (rv_r _) rfl ?_
  refine g_aload_n (q := 17) B dX3_found_16 rfl rfl (rv_r _) ?_
  refine g_alen (v := nI ((dSs D).length)) (q := 18) B (k := 9) (t := 4) dX3_found_17 rfl rfl rfl rfl ?_
  refine g_istore_n (q := 19) (lv2 := [some (.ref m), some (.int (nI 0)), some (.ref a12), some (.int (nI ((dSs D).length))), none, none]) B dX3_found_18 rfl (Nat.le_of_ble_eq_true rfl) rfl ?_
  refine g_iconst (v := nI 0) (q := 20) B dX3_found_19 rfl (by decide) ?_
  refine g_istore (q := 22) (lv2 := [some (.ref m), some (.int (nI 0)), some (.ref a12), some (.int (nI ((dSs D).length))), some (.int (nI 0)), none]) B dX3_found_20 rfl (Nat.le_of_ble_eq_true rfl) rfl ?_
  have lp22 : ∀ (n22 : Nat) (k : Nat) (c : Nat) , (k ≤ (dSs D).length) → (c = fb_ct K12 k) → (dSs D).length - k = n22 → Go g κ 22 [some (.ref m), some (.int (nI c)), some (.ref a12), some (.int (nI ((dSs D).length))), some (.int (nI k)), none] [] [v2, v3, v4, v5, v6, [(m, .inr (12, [.ref ls, .ref lb, .ref lk, .ref lp, .ref lr, .ref le, .ref lm, .ref lo, .int (nI 0), .int (dZz D), .int (nI (dBn D)), .int (nI (dCm D))]))], v0, v1, v7, [(a12, .inl (g.2.1 4, (dSs D).length, .inl fa12))]] 0 0 := by
    intro n22
    induction n22 using Nat.strongRecOn with
    | _ n22 ih22 =>
    intro k c  hk hc hmu22
    refine g_iload (q := 24) B dX3_found_22 rfl rfl ?_
    refine g_iload_n (q := 25) B dX3_found_24 rfl rfl ?_
    refine g_icmp_ge (tgt := 53) (q := 28) B dX3_found_25 rfl (by decide) (nI_leI (by omega) (by omega)) (fun c25 => ?_) (fun c25 => ?_)
    · skip
      refine g_iload_n (q := 54) B dX3_found_53 rfl rfl ?_
      obtain ⟨wc_1, ewc_1⟩ : ∃ w : va_W, w = ([[(m, .inr (12, [.ref ls, .ref lb, .ref lk, .ref lp, .ref lr, .ref le, .ref lm, .ref lo, .int (nI 0), .int (dZz D), .int (nI (dBn D)), .int (nI (dCm D))]))], v0, v1, v2, v3, v4, v5, v6, v7] : List va_W).flatten := ⟨_, rfl⟩
      have hwc_1 : KdP g m (dT D 0) wc_1 := by
        rw [ewc_1]
        exact ⟨ls, lb, lk, lp, lr, le, lm, lo, kcap, pcap, rcap, ecap, mcap, mks, mps, _, _, _, _, _, _, _, _, hcap, hv0, hv1, hv2, hv3, hv4, hv5, hv6, hv7, rfl⟩
      refine g_close (w := wc_1) [5, 5, 5, 0, 0, 0, 0, 0, 0] rfl ewc_1 rfl ?_
      refine (show Go g κ 54 [some (.ref m), some (.int (nI c)), some (.ref a12), some (.int (nI ((dSs D).length))), some (.int (nI k)), none] [.int (nI c)] [[(a12, .inl (g.2.1 4, (dSs D).length, .inl fa12))], wc_1] 0 0 from ?_)
      refine g_pk [1] rfl rfl ?_
      refine (show Go g κ 54 [some (.ref m), some (.int (nI c)), some (.ref a12), some (.int (nI ((dSs D).length))), some (.int (nI k)), none] [.int (nI c)] [wc_1] 0 0 from ?_)
      exact g_iret B E dX3_found_54 (⟨K12, _, by rw [hc, show k = (dSs D).length by omega], rfl, hwc_1, hK_12, hlt_12⟩)
    · skip
      refine g_aload_n (q := 29) B dX3_found_28 rfl rfl (rv_r _) ?_
      refine g_iload (q := 31) B dX3_found_29 rfl rfl ?_
      refine g_zald (v := nI (if K12 k = true then 1 else 0)) (q := 32) B (k := 9) dX3_found_31 rfl rfl (vp_in_nI (by omega) (by omega)) (by rw [nI_clamp (by omega)]; exact hfa_12 _ (by omega)) ?_
      refine g_istore (q := 34) (lv2 := [some (.ref m), some (.int (nI c)), some (.ref a12), some (.int (nI ((dSs D).length))), some (.int (nI k)), some (.int (nI (if K12 k = true then 1 else 0)))]) B dX3_found_32 rfl (Nat.le_of_ble_eq_true rfl) rfl ?_
      refine g_iload_n (q := 35) B dX3_found_34 rfl rfl ?_
      refine g_iload (q := 37) B dX3_found_35 rfl rfl ?_
      refine g_if_eq (tgt := 44) (q := 40) B dX3_found_37 rfl (by decide) (bo_eq) (fun c37 => ?_) (fun c37 => ?_)
      · skip
        refine g_iconst (v := nI 0) (q := 45) B dX3_found_44 rfl (by decide) ?_
        refine g_iadd (v := nI (c + 0)) (q := 46) B dX3_found_45 rfl (nI_add _ _) ?_
        refine g_istore_n (q := 47) (lv2 := [some (.ref m), some (.int (nI (c + 0))), some (.ref a12), some (.int (nI ((dSs D).length))), some (.int (nI k)), some (.int (nI (if K12 k = true then 1 else 0)))]) B dX3_found_46 rfl (Nat.le_of_ble_eq_true rfl) rfl ?_
        refine g_iinc (v := nI (k + 1)) (q := 50) (lv2 := [some (.ref m), some (.int (nI (c + 0))), some (.ref a12), some (.int (nI ((dSs D).length))), some (.int (nI (k + 1))), some (.int (nI (if K12 k = true then 1 else 0)))]) B dX3_found_47 rfl rfl (nI_add _ 1) (Nat.le_of_ble_eq_true rfl) rfl ?_
        refine g_goto (tgt := 22) B dX3_found_50 (by decide) ?_
        refine g_fg 5 rfl ?_
        exact ih22 _ (by omega) (k + 1) (c + 0) (by omega) (by rw [fb_ct_succ, if_neg c37, hc]) rfl
      · skip
        have c37 := Classical.not_not.mp c37
        refine g_iconst (v := nI 1) (q := 41) B dX3_found_40 rfl (by decide) ?_
        refine g_goto (tgt := 45) B dX3_found_41 (by decide) ?_
        refine g_iadd (v := nI (c + 1)) (q := 46) B dX3_found_45 rfl (nI_add _ _) ?_
        refine g_istore_n (q := 47) (lv2 := [some (.ref m), some (.int (nI (c + 1))), some (.ref a12), some (.int (nI ((dSs D).length))), some (.int (nI k)), some (.int (nI (if K12 k = true then 1 else 0)))]) B dX3_found_46 rfl (Nat.le_of_ble_eq_true rfl) rfl ?_
        refine g_iinc (v := nI (k + 1)) (q := 50) (lv2 := [some (.ref m), some (.int (nI (c + 1))), some (.ref a12), some (.int (nI ((dSs D).length))), some (.int (nI (k + 1))), some (.int (nI (if K12 k = true then 1 else 0)))]) B dX3_found_47 rfl rfl (nI_add _ 1) (Nat.le_of_ble_eq_true rfl) rfl ?_
        refine g_goto (tgt := 22) B dX3_found_50 (by decide) ?_
        refine g_fg 5 rfl ?_
        exact ih22 _ (by omega) (k + 1) (c + 1) (by omega) (by rw [fb_ct_succ, if_pos c37, hc]) rfl
  exact lp22 _ 0 0 (Nat.zero_le _) (rfl) rfl
theorem ct_X3_finds (g : Gv) (J : Jd g) {m : Nat} {D : MdS} {v : Int32} {w0 : va_W} (hw0 : KdP g m D w0) (hD : MdB D) (hI : MdI D) (hekl : ∀ Ep ∈ dEs D, eKy Ep < (dSs D).length) : Ct g yX3_finds (ws_ yX3_finds cX3_finds 2 (some .boolean)) 10 903 4508 [.ref m, .int v] [w0] (fun (rv_ : Option Value) (rL_ : List va_W) => ∃ (k : Nat) (b : Bool) (u0 : va_W), rv_ = some (.int (nI (if b = true then 1 else 0))) ∧ rL_ = [u0] ∧ KdP g m (dT D k) u0 ∧ ((k = 1 ∧ ¬ inR v (dEs D).length = true) ∨ (k = 0 ∧ ∃ (i : Nat) (Ep : MeS) (K : Nat → Bool), v = nI i ∧ (dEs D)[i]? = some Ep ∧ (∀ x, K x = true ↔ ClK (dSs D) (dBx D) (dSo D) x) ∧ b = K (eKy Ep)))) noX := by
  refine Ct.of "KeygroveModel" [some (.ref m), some (.int v)] rfl (by decide) rfl (Nat.le_of_ble_eq_true rfl) rfl ?_
  intro κ B E tb
  have hD0 := hD
  obtain ⟨hd1, hd2, hd3, hd4, hd5, hd6, hd7, hd8, hd9⟩ := hD0
  obtain ⟨ls, lb, lk, lp, lr, le, lm, lo, kcap, pcap, rcap, ecap, mcap, mks, mps, v0, v1, v2, v3, v4, v5, v6, v7, hcap, hv0, hv1, hv2, hv3, hv4, hv5, hv6, hv7, rfl⟩ := hw0
  refine g_open 0 rfl rfl rfl ?_
  refine (show Go g κ 0 [some (.ref m), some (.int v)] [] [[(m, .inr (12, [.ref ls, .ref lb, .ref lk, .ref lp, .ref lr, .ref le, .ref lm, .ref lo, .int (nI (dTh D)), .int (dZz D), .int (nI (dBn D)), .int (nI (dCm D))]))], v0, v1, v2, v3, v4, v5, v6, v7] 903 4508 from ?_)
  obtain ⟨kc1, kc2, kc3, kc4, kc5⟩ := (show capM kcap pcap rcap ecap mcap from hcap)
  obtain ⟨hi1, hi2, hi3, hi4, hi5⟩ := hI
  have hcf := capF_le (dSs D).length
  refine g_aload_n (q := 1) B dX3_finds_0 rfl rfl (rv_r _) ?_
  refine g_aload_n (q := 2) B dX3_finds_1 rfl rfl (rv_r _) ?_
  refine g_iload_n (q := 3) B dX3_finds_2 rfl rfl ?_
  refine g_callV (q := 6) (is := [0, 5]) (kc2 := 903) (ks2 := 4508) B [.int v] (ct_X3_isEpoch g J (m := m) (ls := ls) (lb := lb) (lk := lk) (lp := lp) (lr := lr) (le := le) (lm := lm) (lo := lo) (th := dTh D) (z := dZz D) (bo := dBn D) (cm := dCm D) (Es := (dEs D)) (ecap := ecap) (v := v) hv5 (by omega)) dX3_finds_3 rfl (rc_at B (ci := 12) rfl (k := 0) rfl) rfl q3358 q3360 qs60 q85 q3361 rfl rfl moX3_isEpoch rfl rfl (by decide) (by decide) (Nat.le_of_ble_eq_true rfl) (Nat.le_of_ble_eq_true rfl) (Nat.le_of_ble_eq_true rfl) (fun _ _ hx => noX_x hx) (fun v3 L1 hp3 => ?_)
  obtain ⟨rfl, rfl⟩ := hp3
  refine (show Go g κ 6 [some (.ref m), some (.int v)] [.int (nI (if inR v (dEs D).length = true then 1 else 0)), .ref m] [v0, v1, v2, v3, v4, v6, v7, [(m, .inr (12, [.ref ls, .ref lb, .ref lk, .ref lp, .ref lr, .ref le, .ref lm, .ref lo, .int (nI (dTh D)), .int (dZz D), .int (nI (dBn D)), .int (nI (dCm D))]))], v5] 903 4508 from ?_)
  refine g_if_eq (tgt := 13) (q := 9) B dX3_finds_6 rfl (by decide) (bo_eq) (fun c6 => ?_) (fun c6 => ?_)
  · skip
    refine g_iconst (v := nI 1) (q := 14) B dX3_finds_13 rfl (by decide) ?_
    refine g_callV (q := 17) (is := [7]) (kc2 := 903) (ks2 := 4508) B [.int (nI 1)] (ct_X3_isWrong g J (m := m) (ls := ls) (lb := lb) (lk := lk) (lp := lp) (lr := lr) (le := le) (lm := lm) (lo := lo) (th := (dTh D)) (z := (dZz D)) (bo := (dBn D)) (cm := (dCm D)) (k := 1)  (by decide)) dX3_finds_14 rfl (rc_at B (ci := 12) rfl (k := 7) rfl) rfl q3103 q3105 qs49 q85 q3106 rfl rfl moX3_isWrong rfl rfl (by decide) (by decide) (Nat.le_of_ble_eq_true rfl) (Nat.le_of_ble_eq_true rfl) (Nat.le_of_ble_eq_true rfl) (fun _ _ hx => noX_x hx) (fun v14 L1 hp14 => ?_)
    obtain ⟨rfl, rfl⟩ := hp14
    refine (show Go g κ 17 [some (.ref m), some (.int v)] [.int (nI (if ¬ 1 = 0 then 1 else 0))] [v0, v1, v2, v3, v4, v6, v7, v5, [(m, .inr (12, [.ref ls, .ref lb, .ref lk, .ref lp, .ref lr, .ref le, .ref lm, .ref lo, .int (nI 1), .int (dZz D), .int (nI (dBn D)), .int (nI (dCm D))]))]] 903 4508 from ?_)
    refine g_if_ne (tgt := 50) (q := 20) B dX3_finds_17 rfl (by decide) (iff_true_intro (by decide)) (fun _ => ?_) (fun z => absurd trivial z)
    refine g_iconst (v := nI 0) (q := 51) B dX3_finds_50 rfl (by decide) ?_
    obtain ⟨wc_1, ewc_1⟩ : ∃ w : va_W, w = ([[(m, .inr (12, [.ref ls, .ref lb, .ref lk, .ref lp, .ref lr, .ref le, .ref lm, .ref lo, .int (nI 1), .int (dZz D), .int (nI (dBn D)), .int (nI (dCm D))]))], v0, v1, v2, v3, v4, v5, v6, v7] : List va_W).flatten := ⟨_, rfl⟩
    have hwc_1 : KdP g m (dT D 1) wc_1 := by
      rw [ewc_1]
      exact ⟨ls, lb, lk, lp, lr, le, lm, lo, kcap, pcap, rcap, ecap, mcap, mks, mps, _, _, _, _, _, _, _, _, hcap, hv0, hv1, hv2, hv3, hv4, hv5, hv6, hv7, rfl⟩
    refine g_close (w := wc_1) [8, 0, 0, 0, 0, 0, 2, 0, 0] rfl ewc_1 rfl ?_
    refine (show Go g κ 51 [some (.ref m), some (.int v)] [.int (nI 0)] [wc_1] 903 4508 from ?_)
    exact g_zret B E dX3_finds_51 (by decide) (⟨1, false, _, rfl, rfl, hwc_1, Or.inl ⟨rfl, c6⟩⟩)
  · skip
    have c6 := Classical.not_not.mp c6
    refine g_iconst (v := nI 0) (q := 10) B dX3_finds_9 rfl (by decide) ?_
    refine g_goto (tgt := 14) B dX3_finds_10 (by decide) ?_
    refine g_callV (q := 17) (is := [7]) (kc2 := 903) (ks2 := 4508) B [.int (nI 0)] (ct_X3_isWrong g J (m := m) (ls := ls) (lb := lb) (lk := lk) (lp := lp) (lr := lr) (le := le) (lm := lm) (lo := lo) (th := (dTh D)) (z := (dZz D)) (bo := (dBn D)) (cm := (dCm D)) (k := 0)  (by decide)) dX3_finds_14 rfl (rc_at B (ci := 12) rfl (k := 7) rfl) rfl q3103 q3105 qs49 q85 q3106 rfl rfl moX3_isWrong rfl rfl (by decide) (by decide) (Nat.le_of_ble_eq_true rfl) (Nat.le_of_ble_eq_true rfl) (Nat.le_of_ble_eq_true rfl) (fun _ _ hx => noX_x hx) (fun v14 L1 hp14 => ?_)
    obtain ⟨rfl, rfl⟩ := hp14
    refine (show Go g κ 17 [some (.ref m), some (.int v)] [.int (nI (if ¬ 0 = 0 then 1 else 0))] [v0, v1, v2, v3, v4, v6, v7, v5, [(m, .inr (12, [.ref ls, .ref lb, .ref lk, .ref lp, .ref lr, .ref le, .ref lm, .ref lo, .int (nI 0), .int (dZz D), .int (nI (dBn D)), .int (nI (dCm D))]))]] 903 4508 from ?_)
    refine g_if_ne (tgt := 50) (q := 20) B dX3_finds_17 rfl (by decide) (iff_false_intro (by decide)) (fun z => z.elim) (fun _ => ?_)
    obtain ⟨i, hii, rfl⟩ := inR_t c6
    refine (show Go g κ 20 [some (.ref m), some (.int (nI i))] [] [v0, v1, v2, v3, v4, v6, v7, v5, [(m, .inr (12, [.ref ls, .ref lb, .ref lk, .ref lp, .ref lr, .ref le, .ref lm, .ref lo, .int (nI 0), .int (dZz D), .int (nI (dBn D)), .int (nI (dCm D))]))]] 903 4508 from ?_)
    refine g_aload_n (q := 21) B dX3_finds_20 rfl rfl (rv_r _) ?_
    refine g_aload_n (q := 22) B dX3_finds_21 rfl rfl (rv_r _) ?_
    refine g_get (q := 25) B (ci := 12) (k := 8) (j := 7) in_X3 rfl dX3_finds_22 rfl rfl (Nat.le_of_ble_eq_true rfl) q3064 rfl rfl ?_
    refine g_callV (q := 28) (is := [8, 0, 0, 4]) (kc2 := 0) (ks2 := 0) B [.ref lo] (ct_X3_all g J (m := m) (ls := ls) (lb := lb) (lk := lk) (lp := lp) (lr := lr) (le := le) (lm := lm) (lo := lo) (th := 0) (z := (dZz D)) (bo := (dBn D)) (cm := (dCm D)) (ss := (dSs D)) (bx := (dBx D)) (p := lo) (vs := (dSo D)) (capv := (capF (dSo D).length)) hv0 hv1 hv7 (hi1) (hi2) (by omega) (hi3)) dX3_finds_25 rfl (rc_at B (ci := 12) rfl (k := 8) rfl) rfl q3607 q3609 qs74 q85 q3610 rfl rfl moX3_all rfl rfl (by decide) (by decide) (Nat.le_of_ble_eq_true rfl) (by omega) (by omega) (fun _ _ hx => noX_x hx) (fun v25 L1 hp25 => ?_)
    obtain ⟨a25, fa25, K25, rfl, rfl, hfa_25, hK_25, hlt_25⟩ := hp25
    refine (show Go g κ 28 [some (.ref m), some (.int (nI i))] [.ref a25] [v2, v3, v4, v6, v5, [(m, .inr (12, [.ref ls, .ref lb, .ref lk, .ref lp, .ref lr, .ref le, .ref lm, .ref lo, .int (nI 0), .int (dZz D), .int (nI (dBn D)), .int (nI (dCm D))]))], v0, v1, v7, [(a25, .inl (g.2.1 4, (dSs D).length, .inl fa25))]] 0 0 from ?_)
    refine g_aload_n (q := 29) B dX3_finds_28 rfl rfl (rv_r _) ?_
    refine g_get (q := 32) B (ci := 12) (k := 5) (j := 5) in_X3 rfl dX3_finds_29 rfl rfl (Nat.le_of_ble_eq_true rfl) q3062 rfl rfl ?_
    refine g_iload_n (q := 33) B dX3_finds_32 rfl rfl ?_
    obtain ⟨ps_2, md_2, hli_2, hln_2, hel_2⟩ := LhP.at (Sub.self hv5)
    obtain ⟨r33, hr33⟩ := get_ex (xs := (dEs D)) (i := i) (by omega)
    obtain ⟨x33, hx33⟩ := get_ex (xs := ps_2) (i := i) (by have := get_lt2 hr33; have := hln_2.1; omega)
    have hE_3 := hel_2 _ _ _ hx33 hr33
    refine g_callV (q := 36) (is := [4]) (kc2 := 0) (ks2 := 0) B [.int (nI i)] (ct_J2_get_s g J (p := le) (xs := ps_2) (md := md_2) (cap := ecap) (i := i) (x := x33) (W0 := v5)  (hli_2) (hx33)) dX3_finds_33 rfl (rc_in B (ci := 21) rfl (k := 4) rfl (LhP.hm hv5)) rfl q3231 q1095 q3667 q81 q1097 rfl rfl moJ2_get rfl rfl (by decide) (by decide) (Nat.le_of_ble_eq_true rfl) (Nat.le_of_ble_eq_true rfl) (Nat.le_of_ble_eq_true rfl) (fun _ _ hx => noX_x hx) (fun v33 L1 hp33 => ?_)
    obtain ⟨rfl, rfl⟩ := hp33
    refine (show Go g κ 36 [some (.ref m), some (.int (nI i))] [.ref x33, .ref a25] [v2, v3, v4, v6, [(m, .inr (12, [.ref ls, .ref lb, .ref lk, .ref lp, .ref lr, .ref le, .ref lm, .ref lo, .int (nI 0), .int (dZz D), .int (nI (dBn D)), .int (nI (dCm D))]))], v0, v1, v7, [(a25, .inl (g.2.1 4, (dSs D).length, .inl fa25))], v5] 0 0 from ?_)
    refine g_castRS (ci := 16) (q := 39) B rfl (rc_in B (ci := 16) rfl (k := 9) rfl (Sub.hm (hE_3) fun _ z => EpP.hm z)) dX3_finds_36 rfl q3243 ?_
    obtain ⟨ap_4, an_4, al_4, ac_4, aw_4, am_4, ak_4, fp_4, fn_4, fl_4, fc_4, fw_4, fm_4, fk_4, hE_4, hfp_4, hfn_4, hfl_4, hfc_4, hfw_4, hfm_4, hfk_4, hc_4_0, hc_4_1, hc_4_2, hc_4_3, hc_4_4, hc_4_5, hc_4_6, hc_4_7⟩ := EpP.at (hE_3)
    refine g_getNM (q := 42) B (ci := 16) (k := 9) (j := 3) in_X13 rfl dX3_finds_39 rfl rfl (hc_4_0) (Nat.le_of_ble_eq_true rfl) q3259 rfl rfl ?_
    have hbl9 := hekl _ (List.mem_of_getElem? hr33)
    refine g_zald (v := nI (if K25 (eKy r33) = true then 1 else 0)) (q := 43) B (k := 8) dX3_finds_42 rfl rfl (vp_in_nI (by omega) (by omega)) (by rw [nI_clamp (by omega)]; exact hfa_25 _ (by omega)) ?_
    refine g_if_eq (tgt := 50) (q := 46) B dX3_finds_43 rfl (by decide) (bo_eq) (fun c43 => ?_) (fun c43 => ?_)
    · skip
      refine g_iconst (v := nI 0) (q := 51) B dX3_finds_50 rfl (by decide) ?_
      obtain ⟨wc_5, ewc_5⟩ : ∃ w : va_W, w = ([[(m, .inr (12, [.ref ls, .ref lb, .ref lk, .ref lp, .ref lr, .ref le, .ref lm, .ref lo, .int (nI 0), .int (dZz D), .int (nI (dBn D)), .int (nI (dCm D))]))], v0, v1, v2, v3, v4, v5, v6, v7] : List va_W).flatten := ⟨_, rfl⟩
      have hwc_5 : KdP g m (dT D 0) wc_5 := by
        rw [ewc_5]
        exact ⟨ls, lb, lk, lp, lr, le, lm, lo, kcap, pcap, rcap, ecap, mcap, mks, mps, _, _, _, _, _, _, _, _, hcap, hv0, hv1, hv2, hv3, hv4, hv5, hv6, hv7, rfl⟩
      refine g_close (w := wc_5) [4, 4, 4, 0, 0, 0, 3, 0, 0] rfl ewc_5 rfl ?_
      refine (show Go g κ 51 [some (.ref m), some (.int (nI i))] [.int (nI 0)] [[(a25, .inl (g.2.1 4, (dSs D).length, .inl fa25))], wc_5] 0 0 from ?_)
      refine g_pk [1] rfl rfl ?_
      refine (show Go g κ 51 [some (.ref m), some (.int (nI i))] [.int (nI 0)] [wc_5] 0 0 from ?_)
      exact g_zret B E dX3_finds_51 (by decide) (⟨0, false, _, rfl, rfl, hwc_5, Or.inr ⟨rfl, i, r33, K25, rfl, hr33, hK_25, (by simpa using c43 : _ = false).symm⟩⟩)
    · skip
      have c43 := Classical.not_not.mp c43
      refine g_iconst (v := nI 1) (q := 47) B dX3_finds_46 rfl (by decide) ?_
      refine g_goto (tgt := 51) B dX3_finds_47 (by decide) ?_
      obtain ⟨wc_6, ewc_6⟩ : ∃ w : va_W, w = ([[(m, .inr (12, [.ref ls, .ref lb, .ref lk, .ref lp, .ref lr, .ref le, .ref lm, .ref lo, .int (nI 0), .int (dZz D), .int (nI (dBn D)), .int (nI (dCm D))]))], v0, v1, v2, v3, v4, v5, v6, v7] : List va_W).flatten := ⟨_, rfl⟩
      have hwc_6 : KdP g m (dT D 0) wc_6 := by
        rw [ewc_6]
        exact ⟨ls, lb, lk, lp, lr, le, lm, lo, kcap, pcap, rcap, ecap, mcap, mks, mps, _, _, _, _, _, _, _, _, hcap, hv0, hv1, hv2, hv3, hv4, hv5, hv6, hv7, rfl⟩
      refine g_close (w := wc_6) [4, 4, 4, 0, 0, 0, 3, 0, 0] rfl ewc_6 rfl ?_
      refine (show Go g κ 51 [some (.ref m), some (.int (nI i))] [.int (nI 1)] [[(a25, .inl (g.2.1 4, (dSs D).length, .inl fa25))], wc_6] 0 0 from ?_)
      refine g_pk [1] rfl rfl ?_
      refine (show Go g κ 51 [some (.ref m), some (.int (nI i))] [.int (nI 1)] [wc_6] 0 0 from ?_)
      exact g_zret B E dX3_finds_51 (by decide) (⟨0, true, _, rfl, rfl, hwc_6, Or.inr ⟨rfl, i, r33, K25, rfl, hr33, hK_25, c43.symm⟩⟩)
theorem ct_X3_findsText (g : Gv) (J : Jd g) {m : Nat} {D : MdS} {v : Int32} {w0 : va_W} (hw0 : KdP g m D w0) (hD : MdB D) (hI : MdI D) (hmtl : ∀ r ∈ dMs D, r.2.2.2.2 < (dSs D).length) : Ct g yX3_findsText (ws_ yX3_findsText cX3_findsText 2 (some .boolean)) 10 903 4508 [.ref m, .int v] [w0] (fun (rv_ : Option Value) (rL_ : List va_W) => ∃ (k : Nat) (b : Bool) (u0 : va_W), rv_ = some (.int (nI (if b = true then 1 else 0))) ∧ rL_ = [u0] ∧ KdP g m (dT D k) u0 ∧ ((k = 1 ∧ ¬ inR v (dMs D).length = true) ∨ (k = 0 ∧ ∃ (i : Nat) (r : MmS) (K : Nat → Bool), v = nI i ∧ (dMs D)[i]? = some r ∧ (∀ x, K x = true ↔ ClK (dSs D) (dBx D) (dSo D) x) ∧ b = K (r.2.2.2.2)))) noX := by
  refine Ct.of "KeygroveModel" [some (.ref m), some (.int v)] rfl (by decide) rfl (Nat.le_of_ble_eq_true rfl) rfl ?_
  intro κ B E tb
  have hD0 := hD
  obtain ⟨hd1, hd2, hd3, hd4, hd5, hd6, hd7, hd8, hd9⟩ := hD0
  obtain ⟨ls, lb, lk, lp, lr, le, lm, lo, kcap, pcap, rcap, ecap, mcap, mks, mps, v0, v1, v2, v3, v4, v5, v6, v7, hcap, hv0, hv1, hv2, hv3, hv4, hv5, hv6, hv7, rfl⟩ := hw0
  refine g_open 0 rfl rfl rfl ?_
  refine (show Go g κ 0 [some (.ref m), some (.int v)] [] [[(m, .inr (12, [.ref ls, .ref lb, .ref lk, .ref lp, .ref lr, .ref le, .ref lm, .ref lo, .int (nI (dTh D)), .int (dZz D), .int (nI (dBn D)), .int (nI (dCm D))]))], v0, v1, v2, v3, v4, v5, v6, v7] 903 4508 from ?_)
  obtain ⟨kc1, kc2, kc3, kc4, kc5⟩ := (show capM kcap pcap rcap ecap mcap from hcap)
  obtain ⟨hi1, hi2, hi3, hi4, hi5⟩ := hI
  have hcf := capF_le (dSs D).length
  refine g_aload_n (q := 1) B dX3_findsText_0 rfl rfl (rv_r _) ?_
  refine g_aload_n (q := 2) B dX3_findsText_1 rfl rfl (rv_r _) ?_
  refine g_iload_n (q := 3) B dX3_findsText_2 rfl rfl ?_
  refine g_callV (q := 6) (is := [0, 6]) (kc2 := 903) (ks2 := 4508) B [.int v] (ct_X3_isMessage g J (m := m) (ls := ls) (lb := lb) (lk := lk) (lp := lp) (lr := lr) (le := le) (lm := lm) (lo := lo) (th := dTh D) (z := dZz D) (bo := dBn D) (cm := dCm D) (Ms := (dMs D)) (mcap := mcap) (v := v) hv6 (by omega)) dX3_findsText_3 rfl (rc_at B (ci := 12) rfl (k := 0) rfl) rfl q3592 q3594 qs73 q85 q3595 rfl rfl moX3_isMessage rfl rfl (by decide) (by decide) (Nat.le_of_ble_eq_true rfl) (Nat.le_of_ble_eq_true rfl) (Nat.le_of_ble_eq_true rfl) (fun _ _ hx => noX_x hx) (fun v3 L1 hp3 => ?_)
  obtain ⟨rfl, rfl⟩ := hp3
  refine (show Go g κ 6 [some (.ref m), some (.int v)] [.int (nI (if inR v (dMs D).length = true then 1 else 0)), .ref m] [v0, v1, v2, v3, v4, v5, v7, [(m, .inr (12, [.ref ls, .ref lb, .ref lk, .ref lp, .ref lr, .ref le, .ref lm, .ref lo, .int (nI (dTh D)), .int (dZz D), .int (nI (dBn D)), .int (nI (dCm D))]))], v6] 903 4508 from ?_)
  refine g_if_eq (tgt := 13) (q := 9) B dX3_findsText_6 rfl (by decide) (bo_eq) (fun c6 => ?_) (fun c6 => ?_)
  · skip
    refine g_iconst (v := nI 1) (q := 14) B dX3_findsText_13 rfl (by decide) ?_
    refine g_callV (q := 17) (is := [7]) (kc2 := 903) (ks2 := 4508) B [.int (nI 1)] (ct_X3_isWrong g J (m := m) (ls := ls) (lb := lb) (lk := lk) (lp := lp) (lr := lr) (le := le) (lm := lm) (lo := lo) (th := (dTh D)) (z := (dZz D)) (bo := (dBn D)) (cm := (dCm D)) (k := 1)  (by decide)) dX3_findsText_14 rfl (rc_at B (ci := 12) rfl (k := 7) rfl) rfl q3103 q3105 qs49 q85 q3106 rfl rfl moX3_isWrong rfl rfl (by decide) (by decide) (Nat.le_of_ble_eq_true rfl) (Nat.le_of_ble_eq_true rfl) (Nat.le_of_ble_eq_true rfl) (fun _ _ hx => noX_x hx) (fun v14 L1 hp14 => ?_)
    obtain ⟨rfl, rfl⟩ := hp14
    refine (show Go g κ 17 [some (.ref m), some (.int v)] [.int (nI (if ¬ 1 = 0 then 1 else 0))] [v0, v1, v2, v3, v4, v5, v7, v6, [(m, .inr (12, [.ref ls, .ref lb, .ref lk, .ref lp, .ref lr, .ref le, .ref lm, .ref lo, .int (nI 1), .int (dZz D), .int (nI (dBn D)), .int (nI (dCm D))]))]] 903 4508 from ?_)
    refine g_if_ne (tgt := 50) (q := 20) B dX3_findsText_17 rfl (by decide) (iff_true_intro (by decide)) (fun _ => ?_) (fun z => absurd trivial z)
    refine g_iconst (v := nI 0) (q := 51) B dX3_findsText_50 rfl (by decide) ?_
    obtain ⟨wc_1, ewc_1⟩ : ∃ w : va_W, w = ([[(m, .inr (12, [.ref ls, .ref lb, .ref lk, .ref lp, .ref lr, .ref le, .ref lm, .ref lo, .int (nI 1), .int (dZz D), .int (nI (dBn D)), .int (nI (dCm D))]))], v0, v1, v2, v3, v4, v5, v6, v7] : List va_W).flatten := ⟨_, rfl⟩
    have hwc_1 : KdP g m (dT D 1) wc_1 := by
      rw [ewc_1]
      exact ⟨ls, lb, lk, lp, lr, le, lm, lo, kcap, pcap, rcap, ecap, mcap, mks, mps, _, _, _, _, _, _, _, _, hcap, hv0, hv1, hv2, hv3, hv4, hv5, hv6, hv7, rfl⟩
    refine g_close (w := wc_1) [8, 0, 0, 0, 0, 0, 0, 1, 0] rfl ewc_1 rfl ?_
    refine (show Go g κ 51 [some (.ref m), some (.int v)] [.int (nI 0)] [wc_1] 903 4508 from ?_)
    exact g_zret B E dX3_findsText_51 (by decide) (⟨1, false, _, rfl, rfl, hwc_1, Or.inl ⟨rfl, c6⟩⟩)
  · skip
    have c6 := Classical.not_not.mp c6
    refine g_iconst (v := nI 0) (q := 10) B dX3_findsText_9 rfl (by decide) ?_
    refine g_goto (tgt := 14) B dX3_findsText_10 (by decide) ?_
    refine g_callV (q := 17) (is := [7]) (kc2 := 903) (ks2 := 4508) B [.int (nI 0)] (ct_X3_isWrong g J (m := m) (ls := ls) (lb := lb) (lk := lk) (lp := lp) (lr := lr) (le := le) (lm := lm) (lo := lo) (th := (dTh D)) (z := (dZz D)) (bo := (dBn D)) (cm := (dCm D)) (k := 0)  (by decide)) dX3_findsText_14 rfl (rc_at B (ci := 12) rfl (k := 7) rfl) rfl q3103 q3105 qs49 q85 q3106 rfl rfl moX3_isWrong rfl rfl (by decide) (by decide) (Nat.le_of_ble_eq_true rfl) (Nat.le_of_ble_eq_true rfl) (Nat.le_of_ble_eq_true rfl) (fun _ _ hx => noX_x hx) (fun v14 L1 hp14 => ?_)
    obtain ⟨rfl, rfl⟩ := hp14
    refine (show Go g κ 17 [some (.ref m), some (.int v)] [.int (nI (if ¬ 0 = 0 then 1 else 0))] [v0, v1, v2, v3, v4, v5, v7, v6, [(m, .inr (12, [.ref ls, .ref lb, .ref lk, .ref lp, .ref lr, .ref le, .ref lm, .ref lo, .int (nI 0), .int (dZz D), .int (nI (dBn D)), .int (nI (dCm D))]))]] 903 4508 from ?_)
    refine g_if_ne (tgt := 50) (q := 20) B dX3_findsText_17 rfl (by decide) (iff_false_intro (by decide)) (fun z => z.elim) (fun _ => ?_)
    obtain ⟨i, hii, rfl⟩ := inR_t c6
    refine (show Go g κ 20 [some (.ref m), some (.int (nI i))] [] [v0, v1, v2, v3, v4, v5, v7, v6, [(m, .inr (12, [.ref ls, .ref lb, .ref lk, .ref lp, .ref lr, .ref le, .ref lm, .ref lo, .int (nI 0), .int (dZz D), .int (nI (dBn D)), .int (nI (dCm D))]))]] 903 4508 from ?_)
    refine g_aload_n (q := 21) B dX3_findsText_20 rfl rfl (rv_r _) ?_
    refine g_aload_n (q := 22) B dX3_findsText_21 rfl rfl (rv_r _) ?_
    refine g_get (q := 25) B (ci := 12) (k := 8) (j := 7) in_X3 rfl dX3_findsText_22 rfl rfl (Nat.le_of_ble_eq_true rfl) q3064 rfl rfl ?_
    refine g_callV (q := 28) (is := [8, 0, 0, 4]) (kc2 := 0) (ks2 := 0) B [.ref lo] (ct_X3_all g J (m := m) (ls := ls) (lb := lb) (lk := lk) (lp := lp) (lr := lr) (le := le) (lm := lm) (lo := lo) (th := 0) (z := (dZz D)) (bo := (dBn D)) (cm := (dCm D)) (ss := (dSs D)) (bx := (dBx D)) (p := lo) (vs := (dSo D)) (capv := (capF (dSo D).length)) hv0 hv1 hv7 (hi1) (hi2) (by omega) (hi3)) dX3_findsText_25 rfl (rc_at B (ci := 12) rfl (k := 8) rfl) rfl q3607 q3609 qs74 q85 q3610 rfl rfl moX3_all rfl rfl (by decide) (by decide) (Nat.le_of_ble_eq_true rfl) (by omega) (by omega) (fun _ _ hx => noX_x hx) (fun v25 L1 hp25 => ?_)
    obtain ⟨a25, fa25, K25, rfl, rfl, hfa_25, hK_25, hlt_25⟩ := hp25
    refine (show Go g κ 28 [some (.ref m), some (.int (nI i))] [.ref a25] [v2, v3, v4, v5, v6, [(m, .inr (12, [.ref ls, .ref lb, .ref lk, .ref lp, .ref lr, .ref le, .ref lm, .ref lo, .int (nI 0), .int (dZz D), .int (nI (dBn D)), .int (nI (dCm D))]))], v0, v1, v7, [(a25, .inl (g.2.1 4, (dSs D).length, .inl fa25))]] 0 0 from ?_)
    refine g_aload_n (q := 29) B dX3_findsText_28 rfl rfl (rv_r _) ?_
    refine g_get (q := 32) B (ci := 12) (k := 5) (j := 6) in_X3 rfl dX3_findsText_29 rfl rfl (Nat.le_of_ble_eq_true rfl) q3063 rfl rfl ?_
    refine g_iload_n (q := 33) B dX3_findsText_32 rfl rfl ?_
    obtain ⟨ps_2, md_2, hli_2, hln_2, hel_2⟩ := LhP.at (Sub.self hv6)
    obtain ⟨r33, hr33⟩ := get_ex (xs := (dMs D)) (i := i) (by omega)
    obtain ⟨x33, hx33⟩ := get_ex (xs := ps_2) (i := i) (by have := get_lt2 hr33; have := hln_2.1; omega)
    have hE_3 := hel_2 _ _ _ hx33 hr33
    refine g_callV (q := 36) (is := [4]) (kc2 := 0) (ks2 := 0) B [.int (nI i)] (ct_J2_get_s g J (p := lm) (xs := ps_2) (md := md_2) (cap := mcap) (i := i) (x := x33) (W0 := v6)  (hli_2) (hx33)) dX3_findsText_33 rfl (rc_in B (ci := 21) rfl (k := 4) rfl (LhP.hm hv6)) rfl q3231 q1095 q3667 q81 q1097 rfl rfl moJ2_get rfl rfl (by decide) (by decide) (Nat.le_of_ble_eq_true rfl) (Nat.le_of_ble_eq_true rfl) (Nat.le_of_ble_eq_true rfl) (fun _ _ hx => noX_x hx) (fun v33 L1 hp33 => ?_)
    obtain ⟨rfl, rfl⟩ := hp33
    refine (show Go g κ 36 [some (.ref m), some (.int (nI i))] [.ref x33, .ref a25] [v2, v3, v4, v5, [(m, .inr (12, [.ref ls, .ref lb, .ref lk, .ref lp, .ref lr, .ref le, .ref lm, .ref lo, .int (nI 0), .int (dZz D), .int (nI (dBn D)), .int (nI (dCm D))]))], v0, v1, v7, [(a25, .inl (g.2.1 4, (dSs D).length, .inl fa25))], v6] 0 0 from ?_)
    refine g_castRS (ci := 20) (q := 39) B rfl (rc_in B (ci := 20) rfl (k := 9) rfl (Sub.hm (hE_3) fun _ z => MmP.hm z)) dX3_findsText_36 rfl q3562 ?_
    have hc_4_0 := MmP.at (hE_3)
    refine g_getNM (q := 42) B (ci := 20) (k := 9) (j := 4) in_X22 rfl dX3_findsText_39 rfl rfl (hc_4_0) (Nat.le_of_ble_eq_true rfl) q3576 rfl rfl ?_
    have hbl9 := hmtl _ (List.mem_of_getElem? hr33)
    refine g_zald (v := nI (if K25 r33.2.2.2.2 = true then 1 else 0)) (q := 43) B (k := 8) dX3_findsText_42 rfl rfl (vp_in_nI (by omega) (by omega)) (by rw [nI_clamp (by omega)]; exact hfa_25 _ (by omega)) ?_
    refine g_if_eq (tgt := 50) (q := 46) B dX3_findsText_43 rfl (by decide) (bo_eq) (fun c43 => ?_) (fun c43 => ?_)
    · skip
      refine g_iconst (v := nI 0) (q := 51) B dX3_findsText_50 rfl (by decide) ?_
      obtain ⟨wc_5, ewc_5⟩ : ∃ w : va_W, w = ([[(m, .inr (12, [.ref ls, .ref lb, .ref lk, .ref lp, .ref lr, .ref le, .ref lm, .ref lo, .int (nI 0), .int (dZz D), .int (nI (dBn D)), .int (nI (dCm D))]))], v0, v1, v2, v3, v4, v5, v6, v7] : List va_W).flatten := ⟨_, rfl⟩
      have hwc_5 : KdP g m (dT D 0) wc_5 := by
        rw [ewc_5]
        exact ⟨ls, lb, lk, lp, lr, le, lm, lo, kcap, pcap, rcap, ecap, mcap, mks, mps, _, _, _, _, _, _, _, _, hcap, hv0, hv1, hv2, hv3, hv4, hv5, hv6, hv7, rfl⟩
      refine g_close (w := wc_5) [4, 4, 4, 0, 0, 0, 0, 2, 0] rfl ewc_5 rfl ?_
      refine (show Go g κ 51 [some (.ref m), some (.int (nI i))] [.int (nI 0)] [[(a25, .inl (g.2.1 4, (dSs D).length, .inl fa25))], wc_5] 0 0 from ?_)
      refine g_pk [1] rfl rfl ?_
      refine (show Go g κ 51 [some (.ref m), some (.int (nI i))] [.int (nI 0)] [wc_5] 0 0 from ?_)
      exact g_zret B E dX3_findsText_51 (by decide) (⟨0, false, _, rfl, rfl, hwc_5, Or.inr ⟨rfl, i, r33, K25, rfl, hr33, hK_25, (by simpa using c43 : _ = false).symm⟩⟩)
    · skip
      have c43 := Classical.not_not.mp c43
      refine g_iconst (v := nI 1) (q := 47) B dX3_findsText_46 rfl (by decide) ?_
      refine g_goto (tgt := 51) B dX3_findsText_47 (by decide) ?_
      obtain ⟨wc_6, ewc_6⟩ : ∃ w : va_W, w = ([[(m, .inr (12, [.ref ls, .ref lb, .ref lk, .ref lp, .ref lr, .ref le, .ref lm, .ref lo, .int (nI 0), .int (dZz D), .int (nI (dBn D)), .int (nI (dCm D))]))], v0, v1, v2, v3, v4, v5, v6, v7] : List va_W).flatten := ⟨_, rfl⟩
      have hwc_6 : KdP g m (dT D 0) wc_6 := by
        rw [ewc_6]
        exact ⟨ls, lb, lk, lp, lr, le, lm, lo, kcap, pcap, rcap, ecap, mcap, mks, mps, _, _, _, _, _, _, _, _, hcap, hv0, hv1, hv2, hv3, hv4, hv5, hv6, hv7, rfl⟩
      refine g_close (w := wc_6) [4, 4, 4, 0, 0, 0, 0, 2, 0] rfl ewc_6 rfl ?_
      refine (show Go g κ 51 [some (.ref m), some (.int (nI i))] [.int (nI 1)] [[(a25, .inl (g.2.1 4, (dSs D).length, .inl fa25))], wc_6] 0 0 from ?_)
      refine g_pk [1] rfl rfl ?_
      refine (show Go g κ 51 [some (.ref m), some (.int (nI i))] [.int (nI 1)] [wc_6] 0 0 from ?_)
      exact g_zret B E dX3_findsText_51 (by decide) (⟨0, true, _, rfl, rfl, hwc_6, Or.inr ⟨rfl, i, r33, K25, rfl, hr33, hK_25, c43.symm⟩⟩)
theorem moX3_isNoPerson : Mo yX3_isNoPerson 1 := by
  refine ⟨by decide, by decide, by decide +kernel⟩
theorem ct_X3_held (g : Gv) (J : Jd g) {m : Nat} {D : MdS} {v : Int32} {w0 : va_W} (hw0 : KdP g m D w0) (hD : MdB D) (hI : MdI D) : Ct g yX3_held (ws_ yX3_held cX3_held 2 (some .int)) 10 (490 + 32 * (dMs D).length) (6020 + 80 * (dMs D).length) [.ref m, .int v] [w0] (fun (rv_ : Option Value) (rL_ : List va_W) => ∃ (k : Nat) (x : Int32) (u0 : va_W), rv_ = some (.int x) ∧ rL_ = [u0] ∧ KdP g m (dT D k) u0 ∧ ((k = 1 ∧ ¬ inR v (dPs D).length = true) ∨ (k = 0 ∧ ∃ (i : Nat) (r : MpS) (vs : List Nat), v = nI i ∧ (dPs D)[i]? = some r ∧ (∀ y, y ∈ vs ↔ helM (dKs D) (dEs D) i r y) ∧ vs.Nodup ∧ x = nI vs.length))) noX := by
  refine Ct.of "KeygroveModel" [some (.ref m), some (.int v)] rfl (by decide) rfl (Nat.le_of_ble_eq_true rfl) rfl ?_
  intro κ B E tb
  have hD0 := hD
  obtain ⟨hd1, hd2, hd3, hd4, hd5, hd6, hd7, hd8, hd9⟩ := hD0
  obtain ⟨ls, lb, lk, lp, lr, le, lm, lo, kcap, pcap, rcap, ecap, mcap, mks, mps, v0, v1, v2, v3, v4, v5, v6, v7, hcap, hv0, hv1, hv2, hv3, hv4, hv5, hv6, hv7, rfl⟩ := hw0
  refine g_open 0 rfl rfl rfl ?_
  refine (show Go g κ 0 [some (.ref m), some (.int v)] [] [[(m, .inr (12, [.ref ls, .ref lb, .ref lk, .ref lp, .ref lr, .ref le, .ref lm, .ref lo, .int (nI (dTh D)), .int (dZz D), .int (nI (dBn D)), .int (nI (dCm D))]))], v0, v1, v2, v3, v4, v5, v6, v7] (490 + 32 * (dMs D).length) (6020 + 80 * (dMs D).length) from ?_)
  obtain ⟨kc1, kc2, kc3, kc4, kc5⟩ := (show capM kcap pcap rcap ecap mcap from hcap)
  obtain ⟨hi1, hi2, hi3, hi4, hi5⟩ := hI
  have hcf := capF_le (dSs D).length
  refine g_aload_n (q := 1) B dX3_held_0 rfl rfl (rv_r _) ?_
  refine g_iload_n (q := 2) B dX3_held_1 rfl rfl ?_
  refine g_callV (q := 5) (is := [0, 3]) (kc2 := (490 + 32 * (dMs D).length)) (ks2 := (6020 + 80 * (dMs D).length)) B [.int v] (ct_X3_isNoPerson g J (m := m) (ls := ls) (lb := lb) (lk := lk) (lp := lp) (lr := lr) (le := le) (lm := lm) (lo := lo) (th := dTh D) (z := dZz D) (bo := dBn D) (cm := dCm D) (mps := mps) (Ps := (dPs D)) (pcap := pcap) (v := v) hv3 (by omega)) dX3_held_2 rfl (rc_at B (ci := 12) rfl (k := 0) rfl) rfl q3506 q3508 qs70 q85 q3509 rfl rfl moX3_isNoPerson rfl rfl (by decide) (by decide) (Nat.le_of_ble_eq_true rfl) (by omega) (by omega) (fun _ _ hx => noX_x hx) (fun v2 L1 hp2 => ?_)
  obtain ⟨k2, rfl, rfl, hk_2⟩ := hp2
  refine (show Go g κ 5 [some (.ref m), some (.int v)] [.int (nI (if ¬ inR v (dPs D).length = true then 1 else 0))] [v0, v1, v2, v4, v5, v6, v7, [(m, .inr (12, [.ref ls, .ref lb, .ref lk, .ref lp, .ref lr, .ref le, .ref lm, .ref lo, .int (nI k2), .int (dZz D), .int (nI (dBn D)), .int (nI (dCm D))]))], v3] (490 + 32 * (dMs D).length) (6020 + 80 * (dMs D).length) from ?_)
  refine g_if_eq (tgt := 12) (q := 8) B dX3_held_5 rfl (by decide) (bo_eq) (fun c5 => ?_) (fun c5 => ?_)
  · skip
    have hin9 : inR v (dPs D).length = true := by simpa using c5
    rw [if_pos hin9] at hk_2
    subst hk_2
    obtain ⟨i, hii, rfl⟩ := inR_t hin9
    obtain ⟨r0, hr0⟩ := get_ex (xs := dPs D) (i := i) hii
    refine (show Go g κ 12 [some (.ref m), some (.int (nI i))] [] [v0, v1, v2, v4, v5, v6, v7, [(m, .inr (12, [.ref ls, .ref lb, .ref lk, .ref lp, .ref lr, .ref le, .ref lm, .ref lo, .int (nI 0), .int (dZz D), .int (nI (dBn D)), .int (nI (dCm D))]))], v3] (490 + 32 * (dMs D).length) (6020 + 80 * (dMs D).length) from ?_)
    refine g_aload_n (q := 13) B dX3_held_12 rfl rfl (rv_r _) ?_
    refine g_iload_n (q := 14) B dX3_held_13 rfl rfl ?_
    obtain ⟨hh1_14, hh2_14, hh3_14, hh4_14, hh5_14⟩ := hi5 _ _ hr0
    refine g_callV (q := 17) (is := [7, 2, 6, 3]) (kc2 := 0) (ks2 := 0) B [.int (nI i)] (ct_X3_heldBy g J (m := m) (ls := ls) (lb := lb) (lk := lk) (lp := lp) (lr := lr) (le := le) (lm := lm) (lo := lo) (th := 0) (z := (dZz D)) (bo := (dBn D)) (cm := (dCm D)) (mks := mks) (Ks := (dKs D)) (kcap := kcap) (mps := mps) (Ps := (dPs D)) (pcap := pcap) (Es := (dEs D)) (ecap := ecap) (i := i) (r := r0) (n := (dSs D).length) (Q := (dMs D).length) hv2 hv3 hv5 (hr0) (by have := get_lt2 hr0; omega) (hh1_14) (hh2_14) (hh3_14) (by omega)) dX3_held_14 rfl (rc_at B (ci := 12) rfl (k := 7) rfl) rfl q3227 q3229 qs55 q85 q3230 rfl rfl moX3_heldBy rfl rfl (by decide) (by decide) (Nat.le_of_ble_eq_true rfl) (by omega) (by omega) (fun _ _ hx => noX_x hx) (fun v14 L1 hp14 => ?_)
    obtain ⟨p14, vs14, u4_14, rfl, rfl, hu4_14, hm_14, hnd_14, hvl_14⟩ := hp14
    refine (show Go g κ 17 [some (.ref m), some (.int (nI i))] [.ref p14] [v0, v1, v4, v6, v7, [(m, .inr (12, [.ref ls, .ref lb, .ref lk, .ref lp, .ref lr, .ref le, .ref lm, .ref lo, .int (nI 0), .int (dZz D), .int (nI (dBn D)), .int (nI (dCm D))]))], v2, v3, v5, u4_14] 0 0 from ?_)
    obtain ⟨ps_1, md_1, hli_1, hln_1, hel_1⟩ := LhP.at (Sub.self hu4_14)
    refine g_callV (q := 20) (is := [9]) (kc2 := 0) (ks2 := 0) B [] (ct_J2_size_s g J (p := p14) (xs := ps_1) (md := md_1) (cap := (capF vs14.length)) (W0 := u4_14)  (hli_1)) dX3_held_17 rfl (rc_in B (ci := 21) rfl (k := 9) rfl (LhP.hm hu4_14)) rfl q3102 q321 q3665 q81 q323 rfl rfl moJ2_size rfl rfl (by decide) (by decide) (Nat.le_of_ble_eq_true rfl) (Nat.le_of_ble_eq_true rfl) (Nat.le_of_ble_eq_true rfl) (fun _ _ hx => noX_x hx) (fun v17 L1 hp17 => ?_)
    obtain ⟨rfl, rfl⟩ := hp17
    refine (show Go g κ 20 [some (.ref m), some (.int (nI i))] [.int (nI ps_1.length)] [v0, v1, v4, v6, v7, [(m, .inr (12, [.ref ls, .ref lb, .ref lk, .ref lp, .ref lr, .ref le, .ref lm, .ref lo, .int (nI 0), .int (dZz D), .int (nI (dBn D)), .int (nI (dCm D))]))], v2, v3, v5, u4_14] 0 0 from ?_)
    rw [hln_1.1]
    refine (show Go g κ 20 [some (.ref m), some (.int (nI i))] [.int (nI vs14.length)] [v0, v1, v4, v6, v7, [(m, .inr (12, [.ref ls, .ref lb, .ref lk, .ref lp, .ref lr, .ref le, .ref lm, .ref lo, .int (nI 0), .int (dZz D), .int (nI (dBn D)), .int (nI (dCm D))]))], v2, v3, v5, u4_14] 0 0 from ?_)
    obtain ⟨wc_2, ewc_2⟩ : ∃ w : va_W, w = ([[(m, .inr (12, [.ref ls, .ref lb, .ref lk, .ref lp, .ref lr, .ref le, .ref lm, .ref lo, .int (nI 0), .int (dZz D), .int (nI (dBn D)), .int (nI (dCm D))]))], v0, v1, v2, v3, v4, v5, v6, v7] : List va_W).flatten := ⟨_, rfl⟩
    have hwc_2 : KdP g m (dT D 0) wc_2 := by
      rw [ewc_2]
      exact ⟨ls, lb, lk, lp, lr, le, lm, lo, kcap, pcap, rcap, ecap, mcap, mks, mps, _, _, _, _, _, _, _, _, hcap, hv0, hv1, hv2, hv3, hv4, hv5, hv6, hv7, rfl⟩
    refine g_close (w := wc_2) [5, 0, 0, 3, 3, 0, 2, 0, 0] rfl ewc_2 rfl ?_
    refine (show Go g κ 20 [some (.ref m), some (.int (nI i))] [.int (nI vs14.length)] [u4_14, wc_2] 0 0 from ?_)
    refine g_pk [1] rfl rfl ?_
    refine (show Go g κ 20 [some (.ref m), some (.int (nI i))] [.int (nI vs14.length)] [wc_2] 0 0 from ?_)
    exact g_iret B E dX3_held_20 (⟨0, nI vs14.length, _, rfl, rfl, hwc_2, Or.inr ⟨rfl, i, r0, vs14, rfl, hr0, hm_14, hnd_14, rfl⟩⟩)
  · skip
    have c5 := Classical.not_not.mp c5
    refine g_iconst (v := nI 0) (q := 9) B dX3_held_8 rfl (by decide) ?_
    refine g_goto (tgt := 20) B dX3_held_9 (by decide) ?_
    obtain ⟨wc_3, ewc_3⟩ : ∃ w : va_W, w = ([[(m, .inr (12, [.ref ls, .ref lb, .ref lk, .ref lp, .ref lr, .ref le, .ref lm, .ref lo, .int (nI k2), .int (dZz D), .int (nI (dBn D)), .int (nI (dCm D))]))], v0, v1, v2, v3, v4, v5, v6, v7] : List va_W).flatten := ⟨_, rfl⟩
    have hwc_3 : KdP g m (dT D k2) wc_3 := by
      rw [ewc_3]
      exact ⟨ls, lb, lk, lp, lr, le, lm, lo, kcap, pcap, rcap, ecap, mcap, mks, mps, _, _, _, _, _, _, _, _, hcap, hv0, hv1, hv2, hv3, hv4, hv5, hv6, hv7, rfl⟩
    refine g_close (w := wc_3) [7, 0, 0, 0, 4, 0, 0, 0, 0] rfl ewc_3 rfl ?_
    refine (show Go g κ 20 [some (.ref m), some (.int v)] [.int (nI 0)] [wc_3] (490 + 32 * (dMs D).length) (6020 + 80 * (dMs D).length) from ?_)
    exact g_iret B E dX3_held_20 (⟨k2, nI 0, _, rfl, rfl, hwc_3, by rw [if_neg c5] at hk_2; exact Or.inl ⟨hk_2, c5⟩⟩)
theorem ct_X3_steal (g : Gv) (J : Jd g) {m : Nat} {D : MdS} {v : Int32} {w0 : va_W} (hw0 : KdP g m D w0) (hD : MdB D) (hI : MdI D) : Ct g yX3_steal (ws_ yX3_steal cX3_steal 6 (some .int)) 10 ((490 + 32 * (dMs D).length) + 903 + 1 + 1800 + 300) ((6020 + 80 * (dMs D).length) + 4508 + 4 + 4500 + 5440) [.ref m, .int v] [w0] (fun (rv_ : Option Value) (rL_ : List va_W) => ∃ (k : Nat) (x : Int32) (S2 : List Nat) (u0 : va_W), rv_ = some (.int x) ∧ rL_ = [u0] ∧ KdP g m ((dSs D, dBx D, dKs D, dPs D, dRs D, dEs D, dMs D, S2, k, dZz D, dBn D, dCm D) : MdS) u0 ∧ ((k = 1 ∧ ¬ inR v (dPs D).length = true ∧ S2 = dSo D) ∨ (k = 0 ∧ ∃ (i : Nat) (r : MpS) (vs : List Nat) (K : Nat → Bool), v = nI i ∧ (dPs D)[i]? = some r ∧ (∀ y, y ∈ vs ↔ helM (dKs D) (dEs D) i r y) ∧ vs.Nodup ∧ (∀ x, K x = true ↔ ClK (dSs D) (dBx D) (dSo D) x) ∧ (∀ y, y ∈ S2 ↔ y ∈ dSo D ∨ y ∈ vs) ∧ S2.Nodup ∧ x = nI (vs.countP fun y => !K y)))) noX := by
  refine Ct.of "KeygroveModel" [some (.ref m), some (.int v), none, none, none, none] rfl (by decide) rfl (Nat.le_of_ble_eq_true rfl) rfl ?_
  intro κ B E tb
  have hD0 := hD
  obtain ⟨hd1, hd2, hd3, hd4, hd5, hd6, hd7, hd8, hd9⟩ := hD0
  obtain ⟨ls, lb, lk, lp, lr, le, lm, lo, kcap, pcap, rcap, ecap, mcap, mks, mps, v0, v1, v2, v3, v4, v5, v6, v7, hcap, hv0, hv1, hv2, hv3, hv4, hv5, hv6, hv7, rfl⟩ := hw0
  refine g_open 0 rfl rfl rfl ?_
  refine (show Go g κ 0 [some (.ref m), some (.int v), none, none, none, none] [] [[(m, .inr (12, [.ref ls, .ref lb, .ref lk, .ref lp, .ref lr, .ref le, .ref lm, .ref lo, .int (nI (dTh D)), .int (dZz D), .int (nI (dBn D)), .int (nI (dCm D))]))], v0, v1, v2, v3, v4, v5, v6, v7] ((490 + 32 * (dMs D).length) + 903 + 1 + 1800 + 300) ((6020 + 80 * (dMs D).length) + 4508 + 4 + 4500 + 5440) from ?_)
  obtain ⟨kc1, kc2, kc3, kc4, kc5⟩ := (show capM kcap pcap rcap ecap mcap from hcap)
  obtain ⟨hi1, hi2, hi3, hi4, hi5⟩ := hI
  have hcf := capF_le (dSs D).length
  refine g_aload_n (q := 1) B dX3_steal_0 rfl rfl (rv_r _) ?_
  refine g_iload_n (q := 2) B dX3_steal_1 rfl rfl ?_
  refine g_callV (q := 5) (is := [0, 3]) (kc2 := ((490 + 32 * (dMs D).length) + 903 + 1 + 1800 + 300)) (ks2 := ((6020 + 80 * (dMs D).length) + 4508 + 4 + 4500 + 5440)) B [.int v] (ct_X3_isNoPerson g J (m := m) (ls := ls) (lb := lb) (lk := lk) (lp := lp) (lr := lr) (le := le) (lm := lm) (lo := lo) (th := dTh D) (z := dZz D) (bo := dBn D) (cm := dCm D) (mps := mps) (Ps := (dPs D)) (pcap := pcap) (v := v) hv3 (by omega)) dX3_steal_2 rfl (rc_at B (ci := 12) rfl (k := 0) rfl) rfl q3506 q3508 qs70 q85 q3509 rfl rfl moX3_isNoPerson rfl rfl (by decide) (by decide) (Nat.le_of_ble_eq_true rfl) (by omega) (by omega) (fun _ _ hx => noX_x hx) (fun v2 L1 hp2 => ?_)
  obtain ⟨k2, rfl, rfl, hk_2⟩ := hp2
  refine (show Go g κ 5 [some (.ref m), some (.int v), none, none, none, none] [.int (nI (if ¬ inR v (dPs D).length = true then 1 else 0))] [v0, v1, v2, v4, v5, v6, v7, [(m, .inr (12, [.ref ls, .ref lb, .ref lk, .ref lp, .ref lr, .ref le, .ref lm, .ref lo, .int (nI k2), .int (dZz D), .int (nI (dBn D)), .int (nI (dCm D))]))], v3] ((490 + 32 * (dMs D).length) + 903 + 1 + 1800 + 300) ((6020 + 80 * (dMs D).length) + 4508 + 4 + 4500 + 5440) from ?_)
  refine g_if_eq (tgt := 10) (q := 8) B dX3_steal_5 rfl (by decide) (bo_eq) (fun c5 => ?_) (fun c5 => ?_)
  · skip
    have hin9 : inR v (dPs D).length = true := by simpa using c5
    rw [if_pos hin9] at hk_2
    subst hk_2
    obtain ⟨i, hii, rfl⟩ := inR_t hin9
    obtain ⟨r0, hr0⟩ := get_ex (xs := dPs D) (i := i) hii
    refine (show Go g κ 10 [some (.ref m), some (.int (nI i)), none, none, none, none] [] [v0, v1, v2, v4, v5, v6, v7, [(m, .inr (12, [.ref ls, .ref lb, .ref lk, .ref lp, .ref lr, .ref le, .ref lm, .ref lo, .int (nI 0), .int (dZz D), .int (nI (dBn D)), .int (nI (dCm D))]))], v3] ((490 + 32 * (dMs D).length) + 903 + 1 + 1800 + 300) ((6020 + 80 * (dMs D).length) + 4508 + 4 + 4500 + 5440) from ?_)
    refine g_aload_n (q := 11) B dX3_steal_10 rfl rfl (rv_r _) ?_
    refine g_aload_n (q := 12) B dX3_steal_11 rfl rfl (rv_r _) ?_
    refine g_get (q := 15) B (ci := 12) (k := 7) (j := 7) in_X3 rfl dX3_steal_12 rfl rfl (Nat.le_of_ble_eq_true rfl) q3064 rfl rfl ?_
    refine g_callV (q := 18) (is := [7, 0, 0, 4]) (kc2 := ((490 + 32 * (dMs D).length) + 2101)) (ks2 := ((6020 + 80 * (dMs D).length) + 9944)) B [.ref lo] (ct_X3_all g J (m := m) (ls := ls) (lb := lb) (lk := lk) (lp := lp) (lr := lr) (le := le) (lm := lm) (lo := lo) (th := 0) (z := (dZz D)) (bo := (dBn D)) (cm := (dCm D)) (ss := (dSs D)) (bx := (dBx D)) (p := lo) (vs := (dSo D)) (capv := (capF (dSo D).length)) hv0 hv1 hv7 (hi1) (hi2) (by omega) (hi3)) dX3_steal_15 rfl (rc_at B (ci := 12) rfl (k := 7) rfl) rfl q3607 q3609 qs74 q85 q3610 rfl rfl moX3_all rfl rfl (by decide) (by decide) (Nat.le_of_ble_eq_true rfl) (by omega) (by omega) (fun _ _ hx => noX_x hx) (fun v15 L1 hp15 => ?_)
    obtain ⟨a15, fa15, K15, rfl, rfl, hfa_15, hK_15, hlt_15⟩ := hp15
    refine (show Go g κ 18 [some (.ref m), some (.int (nI i)), none, none, none, none] [.ref a15] [v2, v4, v5, v6, v3, [(m, .inr (12, [.ref ls, .ref lb, .ref lk, .ref lp, .ref lr, .ref le, .ref lm, .ref lo, .int (nI 0), .int (dZz D), .int (nI (dBn D)), .int (nI (dCm D))]))], v0, v1, v7, [(a15, .inl (g.2.1 4, (dSs D).length, .inl fa15))]] ((490 + 32 * (dMs D).length) + 2101) ((6020 + 80 * (dMs D).length) + 9944) from ?_)
    refine g_astore_n (q := 19) (lv2 := [some (.ref m), some (.int (nI i)), some (.ref a15), none, none, none]) B dX3_steal_18 rfl (Nat.le_of_ble_eq_true rfl) (rv_r _) rfl ?_
    refine g_iconst (v := nI 0) (q := 20) B dX3_steal_19 rfl (by decide) ?_
    refine g_istore_n (q := 21) (lv2 := [some (.ref m), some (.int (nI i)), some (.ref a15), some (.int (nI 0)), none, none]) B dX3_steal_20 rfl (Nat.le_of_ble_eq_true rfl) rfl ?_
    refine g_aload_n (q := 22) B dX3_steal_21 rfl rfl (rv_r _) ?_
    refine g_iload_n (q := 23) B dX3_steal_22 rfl rfl ?_
    obtain ⟨hh1_23, hh2_23, hh3_23, hh4_23, hh5_23⟩ := hi5 _ _ hr0
    refine g_callV (q := 26) (is := [5, 0, 3, 1]) (kc2 := 2101) (ks2 := 9944) B [.int (nI i)] (ct_X3_heldBy g J (m := m) (ls := ls) (lb := lb) (lk := lk) (lp := lp) (lr := lr) (le := le) (lm := lm) (lo := lo) (th := 0) (z := (dZz D)) (bo := (dBn D)) (cm := (dCm D)) (mks := mks) (Ks := (dKs D)) (kcap := kcap) (mps := mps) (Ps := (dPs D)) (pcap := pcap) (Es := (dEs D)) (ecap := ecap) (i := i) (r := r0) (n := (dSs D).length) (Q := (dMs D).length) hv2 hv3 hv5 (hr0) (by have := get_lt2 hr0; omega) (hh1_23) (hh2_23) (hh3_23) (by omega)) dX3_steal_23 rfl (rc_at B (ci := 12) rfl (k := 5) rfl) rfl q3227 q3229 qs55 q85 q3230 rfl rfl moX3_heldBy rfl rfl (by decide) (by decide) (Nat.le_of_ble_eq_true rfl) (by omega) (by omega) (fun _ _ hx => noX_x hx) (fun v23 L1 hp23 => ?_)
    obtain ⟨p23, vs23, u4_23, rfl, rfl, hu4_23, hm_23, hnd_23, hvl_23⟩ := hp23
    refine (show Go g κ 26 [some (.ref m), some (.int (nI i)), some (.ref a15), some (.int (nI 0)), none, none] [.ref p23] [v4, v6, v0, v1, v7, [(a15, .inl (g.2.1 4, (dSs D).length, .inl fa15))], [(m, .inr (12, [.ref ls, .ref lb, .ref lk, .ref lp, .ref lr, .ref le, .ref lm, .ref lo, .int (nI 0), .int (dZz D), .int (nI (dBn D)), .int (nI (dCm D))]))], v2, v3, v5, u4_23] 2101 9944 from ?_)
    have hx23 : ∀ x ∈ vs23, x < (dSs D).length := fun x h => hh3_23 x ((hm_23 x).mp h)
    have hso0 := nodup_len _ _ hi4 hi3
    have hcs0 := capF_m hso0
    have hvs0 := nodup_len _ _ hnd_23 hx23
    obtain ⟨ps_1, md_1, hli_1, hln_1, hel_1⟩ := LhP.at (Sub.self hu4_23)
    refine g_callV (q := 29) (is := [10]) (kc2 := 2100) (ks2 := 9940) B [] (ct_J2_iterator_s g J (p := p23) (xs := ps_1) (md := md_1) (cap := (capF vs23.length)) (W0 := u4_23)  (hli_1)) dX3_steal_26 rfl (rc_in B (ci := 21) rfl (k := 10) rfl (LhP.hm hu4_23)) rfl q3232 q805 q3668 q81 q807 rfl rfl moJ2_iterator rfl rfl (by decide) (by decide) (Nat.le_of_ble_eq_true rfl) (Nat.le_of_ble_eq_true rfl) (Nat.le_of_ble_eq_true rfl) (fun _ _ hx => noX_x hx) (fun v26 L1 hp26 => ?_)
    obtain ⟨it26, rfl, rfl⟩ := hp26
    refine (show Go g κ 29 [some (.ref m), some (.int (nI i)), some (.ref a15), some (.int (nI 0)), none, none] [.ref it26] [v4, v6, v0, v1, v7, [(a15, .inl (g.2.1 4, (dSs D).length, .inl fa15))], [(m, .inr (12, [.ref ls, .ref lb, .ref lk, .ref lp, .ref lr, .ref le, .ref lm, .ref lo, .int (nI 0), .int (dZz D), .int (nI (dBn D)), .int (nI (dCm D))]))], v2, v3, v5, [(it26, .inr (22, [.int (nI 0), .int (-1), .int md_1, .ref p23]))], u4_23] 2100 9940 from ?_)
    refine g_astore (q := 31) (lv2 := [some (.ref m), some (.int (nI i)), some (.ref a15), some (.int (nI 0)), some (.ref it26), none]) B dX3_steal_29 rfl (Nat.le_of_ble_eq_true rfl) (rv_r _) rfl ?_
    have lp31 : ∀ (n31 : Nat) (k : Nat) (lrt : Int32) (c : Nat) (us : List Nat) (l31_4 : va_W), LhP g (BxE g) lo us (capF us.length) l31_4 → (k ≤ vs23.length) → (c = (vs23.take k).countP (fun y => !K15 y)) → (∀ y, y ∈ us ↔ y ∈ dSo D ∨ y ∈ vs23.take k) → (us.Nodup) → (∀ x ∈ us, x < (dSs D).length) → vs23.length - k = n31 → Go g κ 31 [some (.ref m), some (.int (nI i)), some (.ref a15), some (.int (nI c)), some (.ref it26), none] [] [v4, v6, v0, v1, l31_4, [(a15, .inl (g.2.1 4, (dSs D).length, .inl fa15))], [(m, .inr (12, [.ref ls, .ref lb, .ref lk, .ref lp, .ref lr, .ref le, .ref lm, .ref lo, .int (nI 0), .int (dZz D), .int (nI (dBn D)), .int (nI (dCm D))]))], v2, v3, v5, [(it26, .inr (22, [.int (nI k), .int lrt, .int md_1, .ref p23]))], u4_23] (2 * (900 - k) + (capF (dSs D).length / 5 - capF us.length / 5)) (5 * (900 - k) + 4 * (capF (dSs D).length - capF us.length)) := by
      intro n31
      induction n31 using Nat.strongRecOn with
      | _ n31 ih31 =>
      intro k lrt c us l31_4 hl31_4 hk hc hum hun hub hmu31
      refine g_aload (q := 33) B dX3_steal_31 rfl rfl (rv_r _) ?_
      refine g_callF (q := 38) (is := [10, 10]) (kc2 := 2 * (900 - k) + (capF (dSs D).length / 5 - capF us.length / 5)) (ks2 := 5 * (900 - k) + 4 * (capF (dSs D).length - capF us.length)) B [] (ct_J19_hasNext_s g J (p := p23) (xs := ps_1) (md := md_1) (cap := (capF vs23.length)) (it := it26) (c := k) (lr := lrt) (W1 := u4_23)  (hli_1) (by have := hln_1.1; omega)) dX3_steal_33 rfl (ci := 22) rfl (rc_at B (ci := 22) rfl (k := 10) rfl) q3234 q940 q942 q104 q944 q938 q937 q943 q941 q939 rfl rfl mojava_util_Iterator_hasNext___Z rfl rfl (by decide) (by decide) (Nat.le_of_ble_eq_true rfl) (by omega) (by omega) (fun _ _ hx => noX_x hx) (fun v33 L1 hp33 => ?_)
      obtain ⟨rfl, rfl⟩ := hp33
      refine (show Go g κ 38 [some (.ref m), some (.int (nI i)), some (.ref a15), some (.int (nI c)), some (.ref it26), none] [.int (nI (if ¬ k = ps_1.length then 1 else 0))] [v4, v6, v0, v1, l31_4, [(a15, .inl (g.2.1 4, (dSs D).length, .inl fa15))], [(m, .inr (12, [.ref ls, .ref lb, .ref lk, .ref lp, .ref lr, .ref le, .ref lm, .ref lo, .int (nI 0), .int (dZz D), .int (nI (dBn D)), .int (nI (dCm D))]))], v2, v3, v5, [(it26, .inr (22, [.int (nI k), .int lrt, .int md_1, .ref p23]))], u4_23] (2 * (900 - k) + (capF (dSs D).length / 5 - capF us.length / 5)) (5 * (900 - k) + 4 * (capF (dSs D).length - capF us.length)) from ?_)
      rw [hln_1.1]
      refine (show Go g κ 38 [some (.ref m), some (.int (nI i)), some (.ref a15), some (.int (nI c)), some (.ref it26), none] [.int (nI (if ¬ k = vs23.length then 1 else 0))] [v4, v6, v0, v1, l31_4, [(a15, .inl (g.2.1 4, (dSs D).length, .inl fa15))], [(m, .inr (12, [.ref ls, .ref lb, .ref lk, .ref lp, .ref lr, .ref le, .ref lm, .ref lo, .int (nI 0), .int (dZz D), .int (nI (dBn D)), .int (nI (dCm D))]))], v2, v3, v5, [(it26, .inr (22, [.int (nI k), .int lrt, .int md_1, .ref p23]))], u4_23] (2 * (900 - k) + (capF (dSs D).length / 5 - capF us.length / 5)) (5 * (900 - k) + 4 * (capF (dSs D).length - capF us.length)) from ?_)
      refine g_if_eq (tgt := 83) (q := 41) B dX3_steal_38 rfl (by decide) (bo_eq) (fun c38 => ?_) (fun c38 => ?_)
      · skip
        refine g_iload_n (q := 84) B dX3_steal_83 rfl rfl ?_
        obtain ⟨wc_2, ewc_2⟩ : ∃ w : va_W, w = ([[(m, .inr (12, [.ref ls, .ref lb, .ref lk, .ref lp, .ref lr, .ref le, .ref lm, .ref lo, .int (nI 0), .int (dZz D), .int (nI (dBn D)), .int (nI (dCm D))]))], v0, v1, v2, v3, v4, v5, v6, l31_4] : List va_W).flatten := ⟨_, rfl⟩
        have hwc_2 : KdP g m ((dSs D, dBx D, dKs D, dPs D, dRs D, dEs D, dMs D, us, 0, dZz D, dBn D, dCm D) : MdS) wc_2 := by
          rw [ewc_2]
          exact ⟨ls, lb, lk, lp, lr, le, lm, lo, kcap, pcap, rcap, ecap, mcap, mks, mps, _, _, _, _, _, _, _, _, hcap, hv0, hv1, hv2, hv3, hv4, hv5, hv6, hl31_4, rfl⟩
        refine g_close (w := wc_2) [6, 2, 2, 4, 4, 0, 3, 0, 0] rfl ewc_2 rfl ?_
        refine (show Go g κ 84 [some (.ref m), some (.int (nI i)), some (.ref a15), some (.int (nI c)), some (.ref it26), none] [.int (nI c)] [[(a15, .inl (g.2.1 4, (dSs D).length, .inl fa15))], [(it26, .inr (22, [.int (nI k), .int lrt, .int md_1, .ref p23]))], u4_23, wc_2] (2 * (900 - k) + (capF (dSs D).length / 5 - capF us.length / 5)) (5 * (900 - k) + 4 * (capF (dSs D).length - capF us.length)) from ?_)
        refine g_pk [3] rfl rfl ?_
        refine (show Go g κ 84 [some (.ref m), some (.int (nI i)), some (.ref a15), some (.int (nI c)), some (.ref it26), none] [.int (nI c)] [wc_2] (2 * (900 - k) + (capF (dSs D).length / 5 - capF us.length / 5)) (5 * (900 - k) + 4 * (capF (dSs D).length - capF us.length)) from ?_)
        exact g_iret B E dX3_steal_84 (⟨0, _, us, _, rfl, rfl, hwc_2, Or.inr ⟨rfl, i, r0, vs23, K15, rfl, hr0, hm_23, hnd_23, hK_15, (fun y => by rw [hum y, show k = vs23.length by omega, mem_tk2]), hun, by rw [hc, show k = vs23.length by omega, List.take_length]⟩⟩)
      · skip
        have c38 := Classical.not_not.mp c38
        refine g_aload (q := 43) B dX3_steal_41 rfl rfl (rv_r _) ?_
        obtain ⟨r43, hr43⟩ := get_ex (xs := vs23) (i := k) (by omega)
        obtain ⟨x43, hx43⟩ := get_ex (xs := ps_1) (i := k) (by have := get_lt2 hr43; have := hln_1.1; omega)
        have hb_3 := Sub.box (hel_1 _ _ _ hx43 hr43)
        refine g_callF (q := 48) (is := [10, 10]) (kc2 := 2 * (900 - k) + (capF (dSs D).length / 5 - capF us.length / 5)) (ks2 := 5 * (900 - k) + 4 * (capF (dSs D).length - capF us.length)) B [] (ct_J19_next_s g J (p := p23) (xs := ps_1) (md := md_1) (cap := (capF vs23.length)) (it := it26) (c := k) (lr := lrt) (x := x43) (W1 := u4_23)  (hli_1) (hx43)) dX3_steal_43 rfl (ci := 22) rfl (rc_at B (ci := 22) rfl (k := 10) rfl) q3236 q967 q969 q104 q971 q966 q965 q970 q968 q939 rfl rfl mojava_util_Iterator_next___Ljava_lang_Object_ rfl rfl (by decide) (by decide) (Nat.le_of_ble_eq_true rfl) (by omega) (by omega) (fun _ _ hx => noX_x hx) (fun v43 L1 hp43 => ?_)
        obtain ⟨rfl, rfl⟩ := hp43
        refine (show Go g κ 48 [some (.ref m), some (.int (nI i)), some (.ref a15), some (.int (nI c)), some (.ref it26), none] [.ref x43] [v4, v6, v0, v1, l31_4, [(a15, .inl (g.2.1 4, (dSs D).length, .inl fa15))], [(m, .inr (12, [.ref ls, .ref lb, .ref lk, .ref lp, .ref lr, .ref le, .ref lm, .ref lo, .int (nI 0), .int (dZz D), .int (nI (dBn D)), .int (nI (dCm D))]))], v2, v3, v5, [(it26, .inr (22, [.int (nI (k + 1)), .int (nI k), .int md_1, .ref p23]))], u4_23] (2 * (900 - k) + (capF (dSs D).length / 5 - capF us.length / 5)) (5 * (900 - k) + 4 * (capF (dSs D).length - capF us.length)) from ?_)
        refine g_castRS (ci := 35) (q := 51) B rfl (rc_bxat B J (k := 11) rfl hb_3) dX3_steal_48 rfl q3240 ?_
        refine g_callV (q := 54) (is := [11]) (kc2 := 2 * (900 - k) + (capF (dSs D).length / 5 - capF us.length / 5)) (ks2 := 5 * (900 - k) + 4 * (capF (dSs D).length - capF us.length)) B [] (ct_J26_intValue_b g J (a := x43) (v := nI r43) (wb := u4_23)  (hb_3)) dX3_steal_51 rfl (rc_bxat B J (k := 11) rfl hb_3) rfl q3241 q1052 q1053 q111 q1054 rfl rfl moJ26_intValue rfl rfl (by decide) (by decide) (Nat.le_of_ble_eq_true rfl) (by omega) (by omega) (fun _ _ hx => noX_x hx) (fun v51 L1 hp51 => ?_)
        obtain ⟨rfl, rfl⟩ := hp51
        refine (show Go g κ 54 [some (.ref m), some (.int (nI i)), some (.ref a15), some (.int (nI c)), some (.ref it26), none] [.int (nI r43)] [v4, v6, v0, v1, l31_4, [(a15, .inl (g.2.1 4, (dSs D).length, .inl fa15))], [(m, .inr (12, [.ref ls, .ref lb, .ref lk, .ref lp, .ref lr, .ref le, .ref lm, .ref lo, .int (nI 0), .int (dZz D), .int (nI (dBn D)), .int (nI (dCm D))]))], v2, v3, v5, [(it26, .inr (22, [.int (nI (k + 1)), .int (nI k), .int md_1, .ref p23]))], u4_23] (2 * (900 - k) + (capF (dSs D).length / 5 - capF us.length / 5)) (5 * (900 - k) + 4 * (capF (dSs D).length - capF us.length)) from ?_)
        refine g_istore (q := 56) (lv2 := [some (.ref m), some (.int (nI i)), some (.ref a15), some (.int (nI c)), some (.ref it26), some (.int (nI r43))]) B dX3_steal_54 rfl (Nat.le_of_ble_eq_true rfl) rfl ?_
        have hr9 := hx23 r43 (List.mem_of_getElem? hr43)
        refine g_iload_n (q := 57) B dX3_steal_56 rfl rfl ?_
        refine g_aload_n (q := 58) B dX3_steal_57 rfl rfl (rv_r _) ?_
        refine g_iload (q := 60) B dX3_steal_58 rfl rfl ?_
        refine g_zald (v := nI (if K15 r43 = true then 1 else 0)) (q := 61) B (k := 5) dX3_steal_60 rfl rfl (vp_in_nI (by omega) (by omega)) (by rw [nI_clamp (by omega)]; exact hfa_15 _ (by omega)) ?_
        refine g_if_eq (tgt := 68) (q := 64) B dX3_steal_61 rfl (by decide) (bo_eq) (fun c61 => ?_) (fun c61 => ?_)
        · skip
          refine g_iconst (v := nI 1) (q := 69) B dX3_steal_68 rfl (by decide) ?_
          refine g_iadd (v := nI (c + 1)) (q := 70) B dX3_steal_69 rfl (nI_add _ _) ?_
          refine g_istore_n (q := 71) (lv2 := [some (.ref m), some (.int (nI i)), some (.ref a15), some (.int (nI (c + 1))), some (.ref it26), some (.int (nI r43))]) B dX3_steal_70 rfl (Nat.le_of_ble_eq_true rfl) rfl ?_
          refine g_aload_n (q := 72) B dX3_steal_71 rfl rfl (rv_r _) ?_
          refine g_get (q := 75) B (ci := 12) (k := 6) (j := 7) in_X3 rfl dX3_steal_72 rfl rfl (Nat.le_of_ble_eq_true rfl) q3064 rfl rfl ?_
          refine g_iload (q := 77) B dX3_steal_75 rfl rfl ?_
          have hd9 := nd_putL (some r43) hun
          have hb9 : ∀ x ∈ putL us (some r43), x < (dSs D).length := fun x hx => ((mem_putL _ _ x).mp hx).elim (hub x) (fun e => by cases e; exact hr9)
          have hl9 := nodup_len _ _ hd9 hb9
          have hl8 := nodup_len _ _ hun hub
          have hl7 := putL_len us (some r43)
          have hc9 := capF_m hl9
          have hc8 := capF_m hl8
          have hc7 := capF_m hl7.1
          have hvl9 := nodup_len _ _ hnd_23 hx23
          have hjl := get_lt2 hr43
          refine g_callS (q := 80) (is := [4]) (kc2 := 2 * (900 - (k + 1)) + (capF (dSs D).length / 5 - capF (putL us (some r43)).length / 5)) (ks2 := 5 * (900 - (k + 1)) + 4 * (capF (dSs D).length - capF (putL us (some r43)).length)) B [.ref lo, .int (nI r43)] (ct_X3_puts g J (p := lo) (vs := us) (o := (some r43)) hl31_4 (fun n_ e_ => by cases e_; omega) (fun x hx => by have := hub x hx; omega) (by omega)) dX3_steal_77 rfl q3237 q3238 q85 q3239 rfl rfl moX3_puts rfl rfl (by decide) (by decide) (Nat.le_of_ble_eq_true rfl) (by omega) (by omega) (fun _ _ hx => noX_x hx) (fun v77 L1 hp77 => ?_)
          obtain ⟨u0_77, rfl, rfl, hu0_77⟩ := hp77
          refine (show Go g κ 80 [some (.ref m), some (.int (nI i)), some (.ref a15), some (.int (nI (c + 1))), some (.ref it26), some (.int (nI r43))] [] [v4, v6, v0, v1, [(a15, .inl (g.2.1 4, (dSs D).length, .inl fa15))], [(m, .inr (12, [.ref ls, .ref lb, .ref lk, .ref lp, .ref lr, .ref le, .ref lm, .ref lo, .int (nI 0), .int (dZz D), .int (nI (dBn D)), .int (nI (dCm D))]))], v2, v3, v5, [(it26, .inr (22, [.int (nI (k + 1)), .int (nI k), .int md_1, .ref p23]))], u4_23, u0_77] (2 * (900 - (k + 1)) + (capF (dSs D).length / 5 - capF (putL us (some r43)).length / 5)) (5 * (900 - (k + 1)) + 4 * (capF (dSs D).length - capF (putL us (some r43)).length)) from ?_)
          refine g_goto (tgt := 31) B dX3_steal_80 (by decide) ?_
          refine g_fg 5 rfl ?_
          refine g_pk [0, 0, 0, 0, 7, 0, 0, 0, 0, 0, 0, 0] rfl rfl ?_
          refine (show Go g κ 31 [some (.ref m), some (.int (nI i)), some (.ref a15), some (.int (nI (c + 1))), some (.ref it26), none] [] [v4, v6, v0, v1, u0_77, [(a15, .inl (g.2.1 4, (dSs D).length, .inl fa15))], [(m, .inr (12, [.ref ls, .ref lb, .ref lk, .ref lp, .ref lr, .ref le, .ref lm, .ref lo, .int (nI 0), .int (dZz D), .int (nI (dBn D)), .int (nI (dCm D))]))], v2, v3, v5, [(it26, .inr (22, [.int (nI (k + 1)), .int (nI k), .int md_1, .ref p23]))], u4_23] (2 * (900 - (k + 1)) + (capF (dSs D).length / 5 - capF (putL us (some r43)).length / 5)) (5 * (900 - (k + 1)) + 4 * (capF (dSs D).length - capF (putL us (some r43)).length)) from ?_)
          exact ih31 _ (by have := get_lt2 hr43; omega) (k + 1) (nI k) (c + 1) (putL us (some r43)) u0_77 hu0_77 (by first | assumption | omega | rfl) (by rw [List.take_add_one, hr43, List.countP_append, ← hc]; show _ = c + List.countP (fun y => !K15 y) [r43]; rw [List.countP_singleton]; simp [c61]) (fun y => by rw [mem_putL, hum y, mem_tk1 hr43, or_assoc]) (hd9) (hb9) rfl
        · skip
          have c61 := Classical.not_not.mp c61
          refine g_iconst (v := nI 0) (q := 65) B dX3_steal_64 rfl (by decide) ?_
          refine g_goto (tgt := 69) B dX3_steal_65 (by decide) ?_
          refine g_iadd (v := nI (c + 0)) (q := 70) B dX3_steal_69 rfl (nI_add _ _) ?_
          refine g_istore_n (q := 71) (lv2 := [some (.ref m), some (.int (nI i)), some (.ref a15), some (.int (nI (c + 0))), some (.ref it26), some (.int (nI r43))]) B dX3_steal_70 rfl (Nat.le_of_ble_eq_true rfl) rfl ?_
          refine g_aload_n (q := 72) B dX3_steal_71 rfl rfl (rv_r _) ?_
          refine g_get (q := 75) B (ci := 12) (k := 6) (j := 7) in_X3 rfl dX3_steal_72 rfl rfl (Nat.le_of_ble_eq_true rfl) q3064 rfl rfl ?_
          refine g_iload (q := 77) B dX3_steal_75 rfl rfl ?_
          have hd9 := nd_putL (some r43) hun
          have hb9 : ∀ x ∈ putL us (some r43), x < (dSs D).length := fun x hx => ((mem_putL _ _ x).mp hx).elim (hub x) (fun e => by cases e; exact hr9)
          have hl9 := nodup_len _ _ hd9 hb9
          have hl8 := nodup_len _ _ hun hub
          have hl7 := putL_len us (some r43)
          have hc9 := capF_m hl9
          have hc8 := capF_m hl8
          have hc7 := capF_m hl7.1
          have hvl9 := nodup_len _ _ hnd_23 hx23
          have hjl := get_lt2 hr43
          refine g_callS (q := 80) (is := [4]) (kc2 := 2 * (900 - (k + 1)) + (capF (dSs D).length / 5 - capF (putL us (some r43)).length / 5)) (ks2 := 5 * (900 - (k + 1)) + 4 * (capF (dSs D).length - capF (putL us (some r43)).length)) B [.ref lo, .int (nI r43)] (ct_X3_puts g J (p := lo) (vs := us) (o := (some r43)) hl31_4 (fun n_ e_ => by cases e_; omega) (fun x hx => by have := hub x hx; omega) (by omega)) dX3_steal_77 rfl q3237 q3238 q85 q3239 rfl rfl moX3_puts rfl rfl (by decide) (by decide) (Nat.le_of_ble_eq_true rfl) (by omega) (by omega) (fun _ _ hx => noX_x hx) (fun v77 L1 hp77 => ?_)
          obtain ⟨u0_77, rfl, rfl, hu0_77⟩ := hp77
          refine (show Go g κ 80 [some (.ref m), some (.int (nI i)), some (.ref a15), some (.int (nI (c + 0))), some (.ref it26), some (.int (nI r43))] [] [v4, v6, v0, v1, [(a15, .inl (g.2.1 4, (dSs D).length, .inl fa15))], [(m, .inr (12, [.ref ls, .ref lb, .ref lk, .ref lp, .ref lr, .ref le, .ref lm, .ref lo, .int (nI 0), .int (dZz D), .int (nI (dBn D)), .int (nI (dCm D))]))], v2, v3, v5, [(it26, .inr (22, [.int (nI (k + 1)), .int (nI k), .int md_1, .ref p23]))], u4_23, u0_77] (2 * (900 - (k + 1)) + (capF (dSs D).length / 5 - capF (putL us (some r43)).length / 5)) (5 * (900 - (k + 1)) + 4 * (capF (dSs D).length - capF (putL us (some r43)).length)) from ?_)
          refine g_goto (tgt := 31) B dX3_steal_80 (by decide) ?_
          refine g_fg 5 rfl ?_
          refine g_pk [0, 0, 0, 0, 7, 0, 0, 0, 0, 0, 0, 0] rfl rfl ?_
          refine (show Go g κ 31 [some (.ref m), some (.int (nI i)), some (.ref a15), some (.int (nI (c + 0))), some (.ref it26), none] [] [v4, v6, v0, v1, u0_77, [(a15, .inl (g.2.1 4, (dSs D).length, .inl fa15))], [(m, .inr (12, [.ref ls, .ref lb, .ref lk, .ref lp, .ref lr, .ref le, .ref lm, .ref lo, .int (nI 0), .int (dZz D), .int (nI (dBn D)), .int (nI (dCm D))]))], v2, v3, v5, [(it26, .inr (22, [.int (nI (k + 1)), .int (nI k), .int md_1, .ref p23]))], u4_23] (2 * (900 - (k + 1)) + (capF (dSs D).length / 5 - capF (putL us (some r43)).length / 5)) (5 * (900 - (k + 1)) + 4 * (capF (dSs D).length - capF (putL us (some r43)).length)) from ?_)
          exact ih31 _ (by have := get_lt2 hr43; omega) (k + 1) (nI k) (c + 0) (putL us (some r43)) u0_77 hu0_77 (by first | assumption | omega | rfl) (by rw [List.take_add_one, hr43, List.countP_append, ← hc]; show _ = c + List.countP (fun y => !K15 y) [r43]; rw [List.countP_singleton]; simp [c61]) (fun y => by rw [mem_putL, hum y, mem_tk1 hr43, or_assoc]) (hd9) (hb9) rfl
    refine g_room (kc2 := 2 * (900 - 0) + (capF (dSs D).length / 5 - capF (dSo D).length / 5)) (ks2 := 5 * (900 - 0) + 4 * (capF (dSs D).length - capF (dSo D).length)) (by omega) (by omega) ?_
    exact lp31 _ 0 (-1) 0 (dSo D) v7 hv7 (Nat.zero_le _) (rfl) (fun y => ⟨Or.inl, fun h => h.elim id fun z => (by simp at z)⟩) (hi4) (hi3) rfl
  · skip
    have c5 := Classical.not_not.mp c5
    refine g_iconst (v := nI 0) (q := 9) B dX3_steal_8 rfl (by decide) ?_
    obtain ⟨wc_4, ewc_4⟩ : ∃ w : va_W, w = ([[(m, .inr (12, [.ref ls, .ref lb, .ref lk, .ref lp, .ref lr, .ref le, .ref lm, .ref lo, .int (nI k2), .int (dZz D), .int (nI (dBn D)), .int (nI (dCm D))]))], v0, v1, v2, v3, v4, v5, v6, v7] : List va_W).flatten := ⟨_, rfl⟩
    have hwc_4 : KdP g m ((dSs D, dBx D, dKs D, dPs D, dRs D, dEs D, dMs D, (dSo D), k2, dZz D, dBn D, dCm D) : MdS) wc_4 := by
      rw [ewc_4]
      exact ⟨ls, lb, lk, lp, lr, le, lm, lo, kcap, pcap, rcap, ecap, mcap, mks, mps, _, _, _, _, _, _, _, _, hcap, hv0, hv1, hv2, hv3, hv4, hv5, hv6, hv7, rfl⟩
    refine g_close (w := wc_4) [7, 0, 0, 0, 4, 0, 0, 0, 0] rfl ewc_4 rfl ?_
    refine (show Go g κ 9 [some (.ref m), some (.int v), none, none, none, none] [.int (nI 0)] [wc_4] ((490 + 32 * (dMs D).length) + 903 + 1 + 1800 + 300) ((6020 + 80 * (dMs D).length) + 4508 + 4 + 4500 + 5440) from ?_)
    exact g_iret B E dX3_steal_9 (⟨k2, nI 0, dSo D, _, rfl, rfl, hwc_4, Or.inl ⟨by rw [if_neg c5] at hk_2; exact hk_2, c5, rfl⟩⟩)
theorem ct_X3_canRead (g : Gv) (J : Jd g) {m : Nat} {D : MdS} {v : Int32} {u : Int32} {w0 : va_W} (hw0 : KdP g m D w0) (hD : MdB D) (hI : MdI D) (hmtl : ∀ r ∈ dMs D, r.2.2.2.2 < (dSs D).length) : Ct g yX3_canRead (ws_ yX3_canRead cX3_canRead 3 (some .boolean)) 10 ((490 + 32 * (dMs D).length) + 903) ((6020 + 80 * (dMs D).length) + 4508) [.ref m, .int v, .int u] [w0] (fun (rv_ : Option Value) (rL_ : List va_W) => ∃ (k : Nat) (b : Bool) (u0 : va_W), rv_ = some (.int (nI (if b = true then 1 else 0))) ∧ rL_ = [u0] ∧ KdP g m (dT D k) u0 ∧ ((k = 1 ∧ ¬ (inR v (dPs D).length = true ∧ inR u (dMs D).length = true)) ∨ (k = 0 ∧ ∃ (i : Nat) (r : MpS) (j : Nat) (q : MmS) (K : Nat → Bool), v = nI i ∧ (dPs D)[i]? = some r ∧ u = nI j ∧ (dMs D)[j]? = some q ∧ (∀ x, K x = true ↔ ClQ (dSs D) (dBx D) (helM (dKs D) (dEs D) i r) x) ∧ b = K q.2.2.2.2))) noX := by
  refine Ct.of "KeygroveModel" [some (.ref m), some (.int v), some (.int u)] rfl (by decide) rfl (Nat.le_of_ble_eq_true rfl) rfl ?_
  intro κ B E tb
  have hD0 := hD
  obtain ⟨hd1, hd2, hd3, hd4, hd5, hd6, hd7, hd8, hd9⟩ := hD0
  obtain ⟨ls, lb, lk, lp, lr, le, lm, lo, kcap, pcap, rcap, ecap, mcap, mks, mps, v0, v1, v2, v3, v4, v5, v6, v7, hcap, hv0, hv1, hv2, hv3, hv4, hv5, hv6, hv7, rfl⟩ := hw0
  refine g_open 0 rfl rfl rfl ?_
  refine (show Go g κ 0 [some (.ref m), some (.int v), some (.int u)] [] [[(m, .inr (12, [.ref ls, .ref lb, .ref lk, .ref lp, .ref lr, .ref le, .ref lm, .ref lo, .int (nI (dTh D)), .int (dZz D), .int (nI (dBn D)), .int (nI (dCm D))]))], v0, v1, v2, v3, v4, v5, v6, v7] ((490 + 32 * (dMs D).length) + 903) ((6020 + 80 * (dMs D).length) + 4508) from ?_)
  obtain ⟨kc1, kc2, kc3, kc4, kc5⟩ := (show capM kcap pcap rcap ecap mcap from hcap)
  obtain ⟨hi1, hi2, hi3, hi4, hi5⟩ := hI
  have hcf := capF_le (dSs D).length
  refine g_aload_n (q := 1) B dX3_canRead_0 rfl rfl (rv_r _) ?_
  refine g_aload_n (q := 2) B dX3_canRead_1 rfl rfl (rv_r _) ?_
  refine g_iload_n (q := 3) B dX3_canRead_2 rfl rfl ?_
  refine g_callV (q := 6) (is := [0, 3]) (kc2 := ((490 + 32 * (dMs D).length) + 903)) (ks2 := ((6020 + 80 * (dMs D).length) + 4508)) B [.int v] (ct_X3_isPerson g J (m := m) (ls := ls) (lb := lb) (lk := lk) (lp := lp) (lr := lr) (le := le) (lm := lm) (lo := lo) (th := dTh D) (z := dZz D) (bo := dBn D) (cm := dCm D) (mps := mps) (Ps := (dPs D)) (pcap := pcap) (v := v) hv3 (by omega)) dX3_canRead_3 rfl (rc_at B (ci := 12) rfl (k := 0) rfl) rfl q3153 q3155 qs51 q85 q3156 rfl rfl moX3_isPerson rfl rfl (by decide) (by decide) (Nat.le_of_ble_eq_true rfl) (by omega) (by omega) (fun _ _ hx => noX_x hx) (fun v3 L1 hp3 => ?_)
  obtain ⟨rfl, rfl⟩ := hp3
  refine (show Go g κ 6 [some (.ref m), some (.int v), some (.int u)] [.int (nI (if inR v (dPs D).length = true then 1 else 0)), .ref m] [v0, v1, v2, v4, v5, v6, v7, [(m, .inr (12, [.ref ls, .ref lb, .ref lk, .ref lp, .ref lr, .ref le, .ref lm, .ref lo, .int (nI (dTh D)), .int (dZz D), .int (nI (dBn D)), .int (nI (dCm D))]))], v3] ((490 + 32 * (dMs D).length) + 903) ((6020 + 80 * (dMs D).length) + 4508) from ?_)
  refine g_if_eq (tgt := 21) (q := 9) B dX3_canRead_6 rfl (by decide) (bo_eq) (fun c6 => ?_) (fun c6 => ?_)
  · skip
    refine g_iconst (v := nI 1) (q := 22) B dX3_canRead_21 rfl (by decide) ?_
    refine g_callV (q := 25) (is := [7]) (kc2 := ((490 + 32 * (dMs D).length) + 903)) (ks2 := ((6020 + 80 * (dMs D).length) + 4508)) B [.int (nI 1)] (ct_X3_isWrong g J (m := m) (ls := ls) (lb := lb) (lk := lk) (lp := lp) (lr := lr) (le := le) (lm := lm) (lo := lo) (th := (dTh D)) (z := (dZz D)) (bo := (dBn D)) (cm := (dCm D)) (k := 1)  (by decide)) dX3_canRead_22 rfl (rc_at B (ci := 12) rfl (k := 7) rfl) rfl q3103 q3105 qs49 q85 q3106 rfl rfl moX3_isWrong rfl rfl (by decide) (by decide) (Nat.le_of_ble_eq_true rfl) (by omega) (by omega) (fun _ _ hx => noX_x hx) (fun v22 L1 hp22 => ?_)
    obtain ⟨rfl, rfl⟩ := hp22
    refine (show Go g κ 25 [some (.ref m), some (.int v), some (.int u)] [.int (nI (if ¬ 1 = 0 then 1 else 0))] [v0, v1, v2, v4, v5, v6, v7, v3, [(m, .inr (12, [.ref ls, .ref lb, .ref lk, .ref lp, .ref lr, .ref le, .ref lm, .ref lo, .int (nI 1), .int (dZz D), .int (nI (dBn D)), .int (nI (dCm D))]))]] ((490 + 32 * (dMs D).length) + 903) ((6020 + 80 * (dMs D).length) + 4508) from ?_)
    refine g_if_ne (tgt := 59) (q := 28) B dX3_canRead_25 rfl (by decide) (iff_true_intro (by decide)) (fun _ => ?_) (fun z => absurd trivial z)
    refine g_iconst (v := nI 0) (q := 60) B dX3_canRead_59 rfl (by decide) ?_
    obtain ⟨wc_1, ewc_1⟩ : ∃ w : va_W, w = ([[(m, .inr (12, [.ref ls, .ref lb, .ref lk, .ref lp, .ref lr, .ref le, .ref lm, .ref lo, .int (nI 1), .int (dZz D), .int (nI (dBn D)), .int (nI (dCm D))]))], v0, v1, v2, v3, v4, v5, v6, v7] : List va_W).flatten := ⟨_, rfl⟩
    have hwc_1 : KdP g m (dT D 1) wc_1 := by
      rw [ewc_1]
      exact ⟨ls, lb, lk, lp, lr, le, lm, lo, kcap, pcap, rcap, ecap, mcap, mks, mps, _, _, _, _, _, _, _, _, hcap, hv0, hv1, hv2, hv3, hv4, hv5, hv6, hv7, rfl⟩
    refine g_close (w := wc_1) [8, 0, 0, 0, 4, 0, 0, 0, 0] rfl ewc_1 rfl ?_
    refine (show Go g κ 60 [some (.ref m), some (.int v), some (.int u)] [.int (nI 0)] [wc_1] ((490 + 32 * (dMs D).length) + 903) ((6020 + 80 * (dMs D).length) + 4508) from ?_)
    exact g_zret B E dX3_canRead_60 (by decide) (⟨1, false, _, rfl, rfl, hwc_1, Or.inl ⟨rfl, by rintro ⟨z1, z2⟩; first | exact c6 z1 | exact c14 z2⟩⟩)
  · skip
    have c6 := Classical.not_not.mp c6
    refine g_aload_n (q := 10) B dX3_canRead_9 rfl rfl (rv_r _) ?_
    refine g_iload_n (q := 11) B dX3_canRead_10 rfl rfl ?_
    refine g_callV (q := 14) (is := [7, 5]) (kc2 := ((490 + 32 * (dMs D).length) + 903)) (ks2 := ((6020 + 80 * (dMs D).length) + 4508)) B [.int u] (ct_X3_isMessage g J (m := m) (ls := ls) (lb := lb) (lk := lk) (lp := lp) (lr := lr) (le := le) (lm := lm) (lo := lo) (th := (dTh D)) (z := (dZz D)) (bo := (dBn D)) (cm := (dCm D)) (Ms := (dMs D)) (mcap := mcap) (v := u) hv6 (by omega)) dX3_canRead_11 rfl (rc_at B (ci := 12) rfl (k := 7) rfl) rfl q3592 q3594 qs73 q85 q3595 rfl rfl moX3_isMessage rfl rfl (by decide) (by decide) (Nat.le_of_ble_eq_true rfl) (by omega) (by omega) (fun _ _ hx => noX_x hx) (fun v11 L1 hp11 => ?_)
    obtain ⟨rfl, rfl⟩ := hp11
    refine (show Go g κ 14 [some (.ref m), some (.int v), some (.int u)] [.int (nI (if inR u (dMs D).length = true then 1 else 0)), .ref m] [v0, v1, v2, v4, v5, v7, v3, [(m, .inr (12, [.ref ls, .ref lb, .ref lk, .ref lp, .ref lr, .ref le, .ref lm, .ref lo, .int (nI (dTh D)), .int (dZz D), .int (nI (dBn D)), .int (nI (dCm D))]))], v6] ((490 + 32 * (dMs D).length) + 903) ((6020 + 80 * (dMs D).length) + 4508) from ?_)
    refine g_if_eq (tgt := 21) (q := 17) B dX3_canRead_14 rfl (by decide) (bo_eq) (fun c14 => ?_) (fun c14 => ?_)
    · skip
      refine g_iconst (v := nI 1) (q := 22) B dX3_canRead_21 rfl (by decide) ?_
      refine g_callV (q := 25) (is := [7]) (kc2 := ((490 + 32 * (dMs D).length) + 903)) (ks2 := ((6020 + 80 * (dMs D).length) + 4508)) B [.int (nI 1)] (ct_X3_isWrong g J (m := m) (ls := ls) (lb := lb) (lk := lk) (lp := lp) (lr := lr) (le := le) (lm := lm) (lo := lo) (th := (dTh D)) (z := (dZz D)) (bo := (dBn D)) (cm := (dCm D)) (k := 1)  (by decide)) dX3_canRead_22 rfl (rc_at B (ci := 12) rfl (k := 7) rfl) rfl q3103 q3105 qs49 q85 q3106 rfl rfl moX3_isWrong rfl rfl (by decide) (by decide) (Nat.le_of_ble_eq_true rfl) (by omega) (by omega) (fun _ _ hx => noX_x hx) (fun v22 L1 hp22 => ?_)
      obtain ⟨rfl, rfl⟩ := hp22
      refine (show Go g κ 25 [some (.ref m), some (.int v), some (.int u)] [.int (nI (if ¬ 1 = 0 then 1 else 0))] [v0, v1, v2, v4, v5, v7, v3, v6, [(m, .inr (12, [.ref ls, .ref lb, .ref lk, .ref lp, .ref lr, .ref le, .ref lm, .ref lo, .int (nI 1), .int (dZz D), .int (nI (dBn D)), .int (nI (dCm D))]))]] ((490 + 32 * (dMs D).length) + 903) ((6020 + 80 * (dMs D).length) + 4508) from ?_)
      refine g_if_ne (tgt := 59) (q := 28) B dX3_canRead_25 rfl (by decide) (iff_true_intro (by decide)) (fun _ => ?_) (fun z => absurd trivial z)
      refine g_iconst (v := nI 0) (q := 60) B dX3_canRead_59 rfl (by decide) ?_
      obtain ⟨wc_2, ewc_2⟩ : ∃ w : va_W, w = ([[(m, .inr (12, [.ref ls, .ref lb, .ref lk, .ref lp, .ref lr, .ref le, .ref lm, .ref lo, .int (nI 1), .int (dZz D), .int (nI (dBn D)), .int (nI (dCm D))]))], v0, v1, v2, v3, v4, v5, v6, v7] : List va_W).flatten := ⟨_, rfl⟩
      have hwc_2 : KdP g m (dT D 1) wc_2 := by
        rw [ewc_2]
        exact ⟨ls, lb, lk, lp, lr, le, lm, lo, kcap, pcap, rcap, ecap, mcap, mks, mps, _, _, _, _, _, _, _, _, hcap, hv0, hv1, hv2, hv3, hv4, hv5, hv6, hv7, rfl⟩
      refine g_close (w := wc_2) [8, 0, 0, 0, 3, 0, 0, 1, 0] rfl ewc_2 rfl ?_
      refine (show Go g κ 60 [some (.ref m), some (.int v), some (.int u)] [.int (nI 0)] [wc_2] ((490 + 32 * (dMs D).length) + 903) ((6020 + 80 * (dMs D).length) + 4508) from ?_)
      exact g_zret B E dX3_canRead_60 (by decide) (⟨1, false, _, rfl, rfl, hwc_2, Or.inl ⟨rfl, by rintro ⟨z1, z2⟩; first | exact c6 z1 | exact c14 z2⟩⟩)
    · skip
      have c14 := Classical.not_not.mp c14
      refine g_iconst (v := nI 0) (q := 18) B dX3_canRead_17 rfl (by decide) ?_
      refine g_goto (tgt := 22) B dX3_canRead_18 (by decide) ?_
      refine g_callV (q := 25) (is := [7]) (kc2 := ((490 + 32 * (dMs D).length) + 903)) (ks2 := ((6020 + 80 * (dMs D).length) + 4508)) B [.int (nI 0)] (ct_X3_isWrong g J (m := m) (ls := ls) (lb := lb) (lk := lk) (lp := lp) (lr := lr) (le := le) (lm := lm) (lo := lo) (th := (dTh D)) (z := (dZz D)) (bo := (dBn D)) (cm := (dCm D)) (k := 0)  (by decide)) dX3_canRead_22 rfl (rc_at B (ci := 12) rfl (k := 7) rfl) rfl q3103 q3105 qs49 q85 q3106 rfl rfl moX3_isWrong rfl rfl (by decide) (by decide) (Nat.le_of_ble_eq_true rfl) (by omega) (by omega) (fun _ _ hx => noX_x hx) (fun v22 L1 hp22 => ?_)
      obtain ⟨rfl, rfl⟩ := hp22
      refine (show Go g κ 25 [some (.ref m), some (.int v), some (.int u)] [.int (nI (if ¬ 0 = 0 then 1 else 0))] [v0, v1, v2, v4, v5, v7, v3, v6, [(m, .inr (12, [.ref ls, .ref lb, .ref lk, .ref lp, .ref lr, .ref le, .ref lm, .ref lo, .int (nI 0), .int (dZz D), .int (nI (dBn D)), .int (nI (dCm D))]))]] ((490 + 32 * (dMs D).length) + 903) ((6020 + 80 * (dMs D).length) + 4508) from ?_)
      refine g_if_ne (tgt := 59) (q := 28) B dX3_canRead_25 rfl (by decide) (iff_false_intro (by decide)) (fun z => z.elim) (fun _ => ?_)
      obtain ⟨i, hii, rfl⟩ := inR_t c6
      refine (show Go g κ 28 [some (.ref m), some (.int (nI i)), some (.int u)] [] [v0, v1, v2, v4, v5, v7, v3, v6, [(m, .inr (12, [.ref ls, .ref lb, .ref lk, .ref lp, .ref lr, .ref le, .ref lm, .ref lo, .int (nI 0), .int (dZz D), .int (nI (dBn D)), .int (nI (dCm D))]))]] ((490 + 32 * (dMs D).length) + 903) ((6020 + 80 * (dMs D).length) + 4508) from ?_)
      obtain ⟨j, hij, rfl⟩ := inR_t c14
      obtain ⟨r0, hr0⟩ := get_ex (xs := dPs D) (i := i) hii
      refine (show Go g κ 28 [some (.ref m), some (.int (nI i)), some (.int (nI j))] [] [v0, v1, v2, v4, v5, v7, v3, v6, [(m, .inr (12, [.ref ls, .ref lb, .ref lk, .ref lp, .ref lr, .ref le, .ref lm, .ref lo, .int (nI 0), .int (dZz D), .int (nI (dBn D)), .int (nI (dCm D))]))]] ((490 + 32 * (dMs D).length) + 903) ((6020 + 80 * (dMs D).length) + 4508) from ?_)
      refine g_aload_n (q := 29) B dX3_canRead_28 rfl rfl (rv_r _) ?_
      refine g_aload_n (q := 30) B dX3_canRead_29 rfl rfl (rv_r _) ?_
      refine g_iload_n (q := 31) B dX3_canRead_30 rfl rfl ?_
      obtain ⟨hh1_31, hh2_31, hh3_31, hh4_31, hh5_31⟩ := hi5 _ _ hr0
      refine g_callV (q := 34) (is := [8, 2, 5, 3]) (kc2 := 903) (ks2 := 4508) B [.int (nI i)] (ct_X3_heldBy g J (m := m) (ls := ls) (lb := lb) (lk := lk) (lp := lp) (lr := lr) (le := le) (lm := lm) (lo := lo) (th := 0) (z := (dZz D)) (bo := (dBn D)) (cm := (dCm D)) (mks := mks) (Ks := (dKs D)) (kcap := kcap) (mps := mps) (Ps := (dPs D)) (pcap := pcap) (Es := (dEs D)) (ecap := ecap) (i := i) (r := r0) (n := (dSs D).length) (Q := (dMs D).length) hv2 hv3 hv5 (hr0) (by have := get_lt2 hr0; omega) (hh1_31) (hh2_31) (hh3_31) (by omega)) dX3_canRead_31 rfl (rc_at B (ci := 12) rfl (k := 8) rfl) rfl q3227 q3229 qs55 q85 q3230 rfl rfl moX3_heldBy rfl rfl (by decide) (by decide) (Nat.le_of_ble_eq_true rfl) (by omega) (by omega) (fun _ _ hx => noX_x hx) (fun v31 L1 hp31 => ?_)
      obtain ⟨p31, vs31, u4_31, rfl, rfl, hu4_31, hm_31, hnd_31, hvl_31⟩ := hp31
      refine (show Go g κ 34 [some (.ref m), some (.int (nI i)), some (.int (nI j))] [.ref p31, .ref m] [v0, v1, v4, v7, v6, [(m, .inr (12, [.ref ls, .ref lb, .ref lk, .ref lp, .ref lr, .ref le, .ref lm, .ref lo, .int (nI 0), .int (dZz D), .int (nI (dBn D)), .int (nI (dCm D))]))], v2, v3, v5, u4_31] 903 4508 from ?_)
      have hx31 : ∀ x ∈ vs31, x < (dSs D).length := fun x h => hh3_31 x ((hm_31 x).mp h)
      refine g_callV (q := 37) (is := [5, 0, 0, 6]) (kc2 := 0) (ks2 := 0) B [.ref p31] (ct_X3_all g J (m := m) (ls := ls) (lb := lb) (lk := lk) (lp := lp) (lr := lr) (le := le) (lm := lm) (lo := lo) (th := 0) (z := (dZz D)) (bo := (dBn D)) (cm := (dCm D)) (ss := (dSs D)) (bx := (dBx D)) (p := p31) (vs := vs31) (capv := (capF vs31.length)) hv0 hv1 hu4_31 (hi1) (hi2) (by omega) (hx31)) dX3_canRead_34 rfl (rc_at B (ci := 12) rfl (k := 5) rfl) rfl q3607 q3609 qs74 q85 q3610 rfl rfl moX3_all rfl rfl (by decide) (by decide) (Nat.le_of_ble_eq_true rfl) (by omega) (by omega) (fun _ _ hx => noX_x hx) (fun v34 L1 hp34 => ?_)
      obtain ⟨a34, fa34, K34, rfl, rfl, hfa_34, hK_34, hlt_34⟩ := hp34
      refine (show Go g κ 37 [some (.ref m), some (.int (nI i)), some (.int (nI j))] [.ref a34] [v4, v7, v6, v2, v3, v5, [(m, .inr (12, [.ref ls, .ref lb, .ref lk, .ref lp, .ref lr, .ref le, .ref lm, .ref lo, .int (nI 0), .int (dZz D), .int (nI (dBn D)), .int (nI (dCm D))]))], v0, v1, u4_31, [(a34, .inl (g.2.1 4, (dSs D).length, .inl fa34))]] 0 0 from ?_)
      have hQ34 := fun x => (hK_34 x).trans (ClQ.of hm_31 x)
      refine g_aload_n (q := 38) B dX3_canRead_37 rfl rfl (rv_r _) ?_
      refine g_get (q := 41) B (ci := 12) (k := 6) (j := 6) in_X3 rfl dX3_canRead_38 rfl rfl (Nat.le_of_ble_eq_true rfl) q3063 rfl rfl ?_
      refine g_iload_n (q := 42) B dX3_canRead_41 rfl rfl ?_
      obtain ⟨ps_3, md_3, hli_3, hln_3, hel_3⟩ := LhP.at (Sub.self hv6)
      obtain ⟨r42, hr42⟩ := get_ex (xs := (dMs D)) (i := j) (by omega)
      obtain ⟨x42, hx42⟩ := get_ex (xs := ps_3) (i := j) (by have := get_lt2 hr42; have := hln_3.1; omega)
      have hE_4 := hel_3 _ _ _ hx42 hr42
      refine g_callV (q := 45) (is := [2]) (kc2 := 0) (ks2 := 0) B [.int (nI j)] (ct_J2_get_s g J (p := lm) (xs := ps_3) (md := md_3) (cap := mcap) (i := j) (x := x42) (W0 := v6)  (hli_3) (hx42)) dX3_canRead_42 rfl (rc_in B (ci := 21) rfl (k := 2) rfl (LhP.hm hv6)) rfl q3231 q1095 q3667 q81 q1097 rfl rfl moJ2_get rfl rfl (by decide) (by decide) (Nat.le_of_ble_eq_true rfl) (Nat.le_of_ble_eq_true rfl) (Nat.le_of_ble_eq_true rfl) (fun _ _ hx => noX_x hx) (fun v42 L1 hp42 => ?_)
      obtain ⟨rfl, rfl⟩ := hp42
      refine (show Go g κ 45 [some (.ref m), some (.int (nI i)), some (.int (nI j))] [.ref x42, .ref a34] [v4, v7, v2, v3, v5, [(m, .inr (12, [.ref ls, .ref lb, .ref lk, .ref lp, .ref lr, .ref le, .ref lm, .ref lo, .int (nI 0), .int (dZz D), .int (nI (dBn D)), .int (nI (dCm D))]))], v0, v1, u4_31, [(a34, .inl (g.2.1 4, (dSs D).length, .inl fa34))], v6] 0 0 from ?_)
      refine g_castRS (ci := 20) (q := 48) B rfl (rc_in B (ci := 20) rfl (k := 10) rfl (Sub.hm (hE_4) fun _ z => MmP.hm z)) dX3_canRead_45 rfl q3562 ?_
      have hc_5_0 := MmP.at (hE_4)
      refine g_getNM (q := 51) B (ci := 20) (k := 10) (j := 4) in_X22 rfl dX3_canRead_48 rfl rfl (hc_5_0) (Nat.le_of_ble_eq_true rfl) q3576 rfl rfl ?_
      have hbl9 := hmtl _ (List.mem_of_getElem? hr42)
      refine g_zald (v := nI (if K34 r42.2.2.2.2 = true then 1 else 0)) (q := 52) B (k := 9) dX3_canRead_51 rfl rfl (vp_in_nI (by omega) (by omega)) (by rw [nI_clamp (by omega)]; exact hfa_34 _ (by omega)) ?_
      refine g_if_eq (tgt := 59) (q := 55) B dX3_canRead_52 rfl (by decide) (bo_eq) (fun c52 => ?_) (fun c52 => ?_)
      · skip
        refine g_iconst (v := nI 0) (q := 60) B dX3_canRead_59 rfl (by decide) ?_
        obtain ⟨wc_6, ewc_6⟩ : ∃ w : va_W, w = ([[(m, .inr (12, [.ref ls, .ref lb, .ref lk, .ref lp, .ref lr, .ref le, .ref lm, .ref lo, .int (nI 0), .int (dZz D), .int (nI (dBn D)), .int (nI (dCm D))]))], v0, v1, v2, v3, v4, v5, v6, v7] : List va_W).flatten := ⟨_, rfl⟩
        have hwc_6 : KdP g m (dT D 0) wc_6 := by
          rw [ewc_6]
          exact ⟨ls, lb, lk, lp, lr, le, lm, lo, kcap, pcap, rcap, ecap, mcap, mks, mps, _, _, _, _, _, _, _, _, hcap, hv0, hv1, hv2, hv3, hv4, hv5, hv6, hv7, rfl⟩
        refine g_close (w := wc_6) [5, 5, 5, 2, 2, 0, 1, 3, 0] rfl ewc_6 rfl ?_
        refine (show Go g κ 60 [some (.ref m), some (.int (nI i)), some (.int (nI j))] [.int (nI 0)] [u4_31, [(a34, .inl (g.2.1 4, (dSs D).length, .inl fa34))], wc_6] 0 0 from ?_)
        refine g_pk [2] rfl rfl ?_
        refine (show Go g κ 60 [some (.ref m), some (.int (nI i)), some (.int (nI j))] [.int (nI 0)] [wc_6] 0 0 from ?_)
        exact g_zret B E dX3_canRead_60 (by decide) (⟨0, false, _, rfl, rfl, hwc_6, Or.inr ⟨rfl, i, r0, j, r42, K34, rfl, hr0, rfl, hr42, hQ34, (by simpa using c52 : _ = false).symm⟩⟩)
      · skip
        have c52 := Classical.not_not.mp c52
        refine g_iconst (v := nI 1) (q := 56) B dX3_canRead_55 rfl (by decide) ?_
        refine g_goto (tgt := 60) B dX3_canRead_56 (by decide) ?_
        obtain ⟨wc_7, ewc_7⟩ : ∃ w : va_W, w = ([[(m, .inr (12, [.ref ls, .ref lb, .ref lk, .ref lp, .ref lr, .ref le, .ref lm, .ref lo, .int (nI 0), .int (dZz D), .int (nI (dBn D)), .int (nI (dCm D))]))], v0, v1, v2, v3, v4, v5, v6, v7] : List va_W).flatten := ⟨_, rfl⟩
        have hwc_7 : KdP g m (dT D 0) wc_7 := by
          rw [ewc_7]
          exact ⟨ls, lb, lk, lp, lr, le, lm, lo, kcap, pcap, rcap, ecap, mcap, mks, mps, _, _, _, _, _, _, _, _, hcap, hv0, hv1, hv2, hv3, hv4, hv5, hv6, hv7, rfl⟩
        refine g_close (w := wc_7) [5, 5, 5, 2, 2, 0, 1, 3, 0] rfl ewc_7 rfl ?_
        refine (show Go g κ 60 [some (.ref m), some (.int (nI i)), some (.int (nI j))] [.int (nI 1)] [u4_31, [(a34, .inl (g.2.1 4, (dSs D).length, .inl fa34))], wc_7] 0 0 from ?_)
        refine g_pk [2] rfl rfl ?_
        refine (show Go g κ 60 [some (.ref m), some (.int (nI i)), some (.int (nI j))] [.int (nI 1)] [wc_7] 0 0 from ?_)
        exact g_zret B E dX3_canRead_60 (by decide) (⟨0, true, _, rfl, rfl, hwc_7, Or.inr ⟨rfl, i, r0, j, r42, K34, rfl, hr0, rfl, hr42, hQ34, c52.symm⟩⟩)
theorem ct_X3_all_s (g : Gv) (J : Jd g) {m : Nat} {ls : Nat} {lb : Nat} {lk : Nat} {lp : Nat} {lr : Nat} {le : Nat} {lm : Nat} {lo : Nat} {th : Nat} {z : Int32} {bo : Nat} {cm : Nat} {ss : List Sec} {bx : List (Nat × Nat)} {p : Nat} {vs : List Nat} {capv : Nat} {w1 : va_W} {w2 : va_W} {W3 : va_W} (hw1 : LhP g (SecP g) ls ss (capF ss.length) w1) (hw2 : LhP g (BbP g) lb bx (capF bx.length) w2) (hS3 : Sub (LhP g (BxE g) p vs capv) W3) (hS : SsOk ss) (hbx : BxOk ss.length bx) (hl : ss.length ≤ 1000) (hvs : ∀ v ∈ vs, v < ss.length) : Ct g yX3_all (ws_ yX3_all cX3_all 7 (some (.array .boolean))) 8 (3 + ss.length) (8 + 5 * ss.length) [.ref m, .ref p] [[(m, .inr (12, [.ref ls, .ref lb, .ref lk, .ref lp, .ref lr, .ref le, .ref lm, .ref lo, .int (nI th), .int z, .int (nI bo), .int (nI cm)]))], w1, w2, W3] (fun (rv_ : Option Value) (rL_ : List va_W) => ∃ (a : Nat) (fa : Nat → Int32) (K : Nat → Bool), rv_ = some (.ref a) ∧ rL_ = [[(m, .inr (12, [.ref ls, .ref lb, .ref lk, .ref lp, .ref lr, .ref le, .ref lm, .ref lo, .int (nI th), .int z, .int (nI bo), .int (nI cm)]))], w1, w2, W3, [(a, .inl (g.2.1 4, ss.length, .inl fa))]] ∧ (∀ i, i < ss.length → fa i = bI (K i)) ∧ (∀ x, K x = true ↔ ClK ss bx vs x) ∧ (∀ x, K x = true → x < ss.length)) noX := by
  obtain ⟨w_, R_, hp_, hw_⟩ := hS3
  refine Ct.lift (ct_X3_all g J (m := m) (ls := ls) (lb := lb) (lk := lk) (lp := lp) (lr := lr) (le := le) (lm := lm) (lo := lo) (th := th) (z := z) (bo := bo) (cm := cm) (ss := ss) (bx := bx) (p := p) (vs := vs) (capv := capv) hw1 hw2 hw_ hS hbx hl hvs) [R_] ?_ ?_
  · refine sub_in 3 rfl hp_ rfl
  · rintro v L ⟨a, fa, K, e1, rfl, hfa, hK, hlt⟩
    exact ⟨_, [], sub_out 3 rfl hp_ rfl, ⟨a, fa, K, e1, rfl, hfa, hK, hlt⟩⟩
theorem ct_X3_canFind (g : Gv) (J : Jd g) {m : Nat} {D : MdS} {v : Int32} {u : Int32} {ev : Bool} {w0 : va_W} (hw0 : KdP g m D w0) (hD : MdB D) (hI : MdI D) (hekl : ∀ Ep ∈ dEs D, eKy Ep < (dSs D).length) : Ct g yX3_canFind (ws_ yX3_canFind cX3_canFind 4 (some .boolean)) 10 ((490 + 32 * (dMs D).length) + 903) ((6020 + 80 * (dMs D).length) + 4508) [.ref m, .int v, .int u, .int (nI (if ev = true then 1 else 0))] [w0] (fun (rv_ : Option Value) (rL_ : List va_W) => ∃ (k : Nat) (b : Bool) (u0 : va_W), rv_ = some (.int (nI (if b = true then 1 else 0))) ∧ rL_ = [u0] ∧ KdP g m (dT D k) u0 ∧ ((k = 1 ∧ ¬ (inR v (dPs D).length = true ∧ inR u (dEs D).length = true)) ∨ (k = 0 ∧ ∃ (i : Nat) (r : MpS) (j : Nat) (q : MeS) (K : Nat → Bool), v = nI i ∧ (dPs D)[i]? = some r ∧ u = nI j ∧ (dEs D)[j]? = some q ∧ (∀ x, K x = true ↔ ClQ (dSs D) (dBx D) (fun y => if ev = true then y ∈ mEv r else helM (dKs D) (dEs D) i r y) x) ∧ b = K (eKy q)))) noX := by
  refine Ct.of "KeygroveModel" [some (.ref m), some (.int v), some (.int u), some (.int (nI (if ev = true then 1 else 0)))] rfl (by decide) rfl (Nat.le_of_ble_eq_true rfl) rfl ?_
  intro κ B E tb
  have hD0 := hD
  obtain ⟨hd1, hd2, hd3, hd4, hd5, hd6, hd7, hd8, hd9⟩ := hD0
  obtain ⟨ls, lb, lk, lp, lr, le, lm, lo, kcap, pcap, rcap, ecap, mcap, mks, mps, v0, v1, v2, v3, v4, v5, v6, v7, hcap, hv0, hv1, hv2, hv3, hv4, hv5, hv6, hv7, rfl⟩ := hw0
  refine g_open 0 rfl rfl rfl ?_
  refine (show Go g κ 0 [some (.ref m), some (.int v), some (.int u), some (.int (nI (if ev = true then 1 else 0)))] [] [[(m, .inr (12, [.ref ls, .ref lb, .ref lk, .ref lp, .ref lr, .ref le, .ref lm, .ref lo, .int (nI (dTh D)), .int (dZz D), .int (nI (dBn D)), .int (nI (dCm D))]))], v0, v1, v2, v3, v4, v5, v6, v7] ((490 + 32 * (dMs D).length) + 903) ((6020 + 80 * (dMs D).length) + 4508) from ?_)
  obtain ⟨kc1, kc2, kc3, kc4, kc5⟩ := (show capM kcap pcap rcap ecap mcap from hcap)
  obtain ⟨hi1, hi2, hi3, hi4, hi5⟩ := hI
  have hcf := capF_le (dSs D).length
  refine g_aload_n (q := 1) B dX3_canFind_0 rfl rfl (rv_r _) ?_
  refine g_aload_n (q := 2) B dX3_canFind_1 rfl rfl (rv_r _) ?_
  refine g_iload_n (q := 3) B dX3_canFind_2 rfl rfl ?_
  refine g_callV (q := 6) (is := [0, 3]) (kc2 := ((490 + 32 * (dMs D).length) + 903)) (ks2 := ((6020 + 80 * (dMs D).length) + 4508)) B [.int v] (ct_X3_isPerson g J (m := m) (ls := ls) (lb := lb) (lk := lk) (lp := lp) (lr := lr) (le := le) (lm := lm) (lo := lo) (th := dTh D) (z := dZz D) (bo := dBn D) (cm := dCm D) (mps := mps) (Ps := (dPs D)) (pcap := pcap) (v := v) hv3 (by omega)) dX3_canFind_3 rfl (rc_at B (ci := 12) rfl (k := 0) rfl) rfl q3153 q3155 qs51 q85 q3156 rfl rfl moX3_isPerson rfl rfl (by decide) (by decide) (Nat.le_of_ble_eq_true rfl) (by omega) (by omega) (fun _ _ hx => noX_x hx) (fun v3 L1 hp3 => ?_)
  obtain ⟨rfl, rfl⟩ := hp3
  refine (show Go g κ 6 [some (.ref m), some (.int v), some (.int u), some (.int (nI (if ev = true then 1 else 0)))] [.int (nI (if inR v (dPs D).length = true then 1 else 0)), .ref m] [v0, v1, v2, v4, v5, v6, v7, [(m, .inr (12, [.ref ls, .ref lb, .ref lk, .ref lp, .ref lr, .ref le, .ref lm, .ref lo, .int (nI (dTh D)), .int (dZz D), .int (nI (dBn D)), .int (nI (dCm D))]))], v3] ((490 + 32 * (dMs D).length) + 903) ((6020 + 80 * (dMs D).length) + 4508) from ?_)
  refine g_if_eq (tgt := 21) (q := 9) B dX3_canFind_6 rfl (by decide) (bo_eq) (fun c6 => ?_) (fun c6 => ?_)
  · skip
    refine g_iconst (v := nI 1) (q := 22) B dX3_canFind_21 rfl (by decide) ?_
    refine g_callV (q := 25) (is := [7]) (kc2 := ((490 + 32 * (dMs D).length) + 903)) (ks2 := ((6020 + 80 * (dMs D).length) + 4508)) B [.int (nI 1)] (ct_X3_isWrong g J (m := m) (ls := ls) (lb := lb) (lk := lk) (lp := lp) (lr := lr) (le := le) (lm := lm) (lo := lo) (th := (dTh D)) (z := (dZz D)) (bo := (dBn D)) (cm := (dCm D)) (k := 1)  (by decide)) dX3_canFind_22 rfl (rc_at B (ci := 12) rfl (k := 7) rfl) rfl q3103 q3105 qs49 q85 q3106 rfl rfl moX3_isWrong rfl rfl (by decide) (by decide) (Nat.le_of_ble_eq_true rfl) (by omega) (by omega) (fun _ _ hx => noX_x hx) (fun v22 L1 hp22 => ?_)
    obtain ⟨rfl, rfl⟩ := hp22
    refine (show Go g κ 25 [some (.ref m), some (.int v), some (.int u), some (.int (nI (if ev = true then 1 else 0)))] [.int (nI (if ¬ 1 = 0 then 1 else 0))] [v0, v1, v2, v4, v5, v6, v7, v3, [(m, .inr (12, [.ref ls, .ref lb, .ref lk, .ref lp, .ref lr, .ref le, .ref lm, .ref lo, .int (nI 1), .int (dZz D), .int (nI (dBn D)), .int (nI (dCm D))]))]] ((490 + 32 * (dMs D).length) + 903) ((6020 + 80 * (dMs D).length) + 4508) from ?_)
    refine g_if_eq (tgt := 30) (q := 28) B dX3_canFind_25 rfl (by decide) (iff_false_intro (by decide)) (fun z => z.elim) (fun _ => ?_)
    refine g_iconst (v := nI 0) (q := 29) B dX3_canFind_28 rfl (by decide) ?_
    obtain ⟨wc_1, ewc_1⟩ : ∃ w : va_W, w = ([[(m, .inr (12, [.ref ls, .ref lb, .ref lk, .ref lp, .ref lr, .ref le, .ref lm, .ref lo, .int (nI 1), .int (dZz D), .int (nI (dBn D)), .int (nI (dCm D))]))], v0, v1, v2, v3, v4, v5, v6, v7] : List va_W).flatten := ⟨_, rfl⟩
    have hwc_1 : KdP g m (dT D 1) wc_1 := by
      rw [ewc_1]
      exact ⟨ls, lb, lk, lp, lr, le, lm, lo, kcap, pcap, rcap, ecap, mcap, mks, mps, _, _, _, _, _, _, _, _, hcap, hv0, hv1, hv2, hv3, hv4, hv5, hv6, hv7, rfl⟩
    refine g_close (w := wc_1) [8, 0, 0, 0, 4, 0, 0, 0, 0] rfl ewc_1 rfl ?_
    refine (show Go g κ 29 [some (.ref m), some (.int v), some (.int u), some (.int (nI (if ev = true then 1 else 0)))] [.int (nI 0)] [wc_1] ((490 + 32 * (dMs D).length) + 903) ((6020 + 80 * (dMs D).length) + 4508) from ?_)
    exact g_zret B E dX3_canFind_29 (by decide) (⟨1, false, _, rfl, rfl, hwc_1, Or.inl ⟨rfl, by rintro ⟨z1, z2⟩; first | exact c6 z1 | exact c14 z2⟩⟩)
  · skip
    have c6 := Classical.not_not.mp c6
    refine g_aload_n (q := 10) B dX3_canFind_9 rfl rfl (rv_r _) ?_
    refine g_iload_n (q := 11) B dX3_canFind_10 rfl rfl ?_
    refine g_callV (q := 14) (is := [7, 4]) (kc2 := ((490 + 32 * (dMs D).length) + 903)) (ks2 := ((6020 + 80 * (dMs D).length) + 4508)) B [.int u] (ct_X3_isEpoch g J (m := m) (ls := ls) (lb := lb) (lk := lk) (lp := lp) (lr := lr) (le := le) (lm := lm) (lo := lo) (th := (dTh D)) (z := (dZz D)) (bo := (dBn D)) (cm := (dCm D)) (Es := (dEs D)) (ecap := ecap) (v := u) hv5 (by omega)) dX3_canFind_11 rfl (rc_at B (ci := 12) rfl (k := 7) rfl) rfl q3358 q3360 qs60 q85 q3361 rfl rfl moX3_isEpoch rfl rfl (by decide) (by decide) (Nat.le_of_ble_eq_true rfl) (by omega) (by omega) (fun _ _ hx => noX_x hx) (fun v11 L1 hp11 => ?_)
    obtain ⟨rfl, rfl⟩ := hp11
    refine (show Go g κ 14 [some (.ref m), some (.int v), some (.int u), some (.int (nI (if ev = true then 1 else 0)))] [.int (nI (if inR u (dEs D).length = true then 1 else 0)), .ref m] [v0, v1, v2, v4, v6, v7, v3, [(m, .inr (12, [.ref ls, .ref lb, .ref lk, .ref lp, .ref lr, .ref le, .ref lm, .ref lo, .int (nI (dTh D)), .int (dZz D), .int (nI (dBn D)), .int (nI (dCm D))]))], v5] ((490 + 32 * (dMs D).length) + 903) ((6020 + 80 * (dMs D).length) + 4508) from ?_)
    refine g_if_eq (tgt := 21) (q := 17) B dX3_canFind_14 rfl (by decide) (bo_eq) (fun c14 => ?_) (fun c14 => ?_)
    · skip
      refine g_iconst (v := nI 1) (q := 22) B dX3_canFind_21 rfl (by decide) ?_
      refine g_callV (q := 25) (is := [7]) (kc2 := ((490 + 32 * (dMs D).length) + 903)) (ks2 := ((6020 + 80 * (dMs D).length) + 4508)) B [.int (nI 1)] (ct_X3_isWrong g J (m := m) (ls := ls) (lb := lb) (lk := lk) (lp := lp) (lr := lr) (le := le) (lm := lm) (lo := lo) (th := (dTh D)) (z := (dZz D)) (bo := (dBn D)) (cm := (dCm D)) (k := 1)  (by decide)) dX3_canFind_22 rfl (rc_at B (ci := 12) rfl (k := 7) rfl) rfl q3103 q3105 qs49 q85 q3106 rfl rfl moX3_isWrong rfl rfl (by decide) (by decide) (Nat.le_of_ble_eq_true rfl) (by omega) (by omega) (fun _ _ hx => noX_x hx) (fun v22 L1 hp22 => ?_)
      obtain ⟨rfl, rfl⟩ := hp22
      refine (show Go g κ 25 [some (.ref m), some (.int v), some (.int u), some (.int (nI (if ev = true then 1 else 0)))] [.int (nI (if ¬ 1 = 0 then 1 else 0))] [v0, v1, v2, v4, v6, v7, v3, v5, [(m, .inr (12, [.ref ls, .ref lb, .ref lk, .ref lp, .ref lr, .ref le, .ref lm, .ref lo, .int (nI 1), .int (dZz D), .int (nI (dBn D)), .int (nI (dCm D))]))]] ((490 + 32 * (dMs D).length) + 903) ((6020 + 80 * (dMs D).length) + 4508) from ?_)
      refine g_if_eq (tgt := 30) (q := 28) B dX3_canFind_25 rfl (by decide) (iff_false_intro (by decide)) (fun z => z.elim) (fun _ => ?_)
      refine g_iconst (v := nI 0) (q := 29) B dX3_canFind_28 rfl (by decide) ?_
      obtain ⟨wc_2, ewc_2⟩ : ∃ w : va_W, w = ([[(m, .inr (12, [.ref ls, .ref lb, .ref lk, .ref lp, .ref lr, .ref le, .ref lm, .ref lo, .int (nI 1), .int (dZz D), .int (nI (dBn D)), .int (nI (dCm D))]))], v0, v1, v2, v3, v4, v5, v6, v7] : List va_W).flatten := ⟨_, rfl⟩
      have hwc_2 : KdP g m (dT D 1) wc_2 := by
        rw [ewc_2]
        exact ⟨ls, lb, lk, lp, lr, le, lm, lo, kcap, pcap, rcap, ecap, mcap, mks, mps, _, _, _, _, _, _, _, _, hcap, hv0, hv1, hv2, hv3, hv4, hv5, hv6, hv7, rfl⟩
      refine g_close (w := wc_2) [8, 0, 0, 0, 3, 0, 2, 0, 0] rfl ewc_2 rfl ?_
      refine (show Go g κ 29 [some (.ref m), some (.int v), some (.int u), some (.int (nI (if ev = true then 1 else 0)))] [.int (nI 0)] [wc_2] ((490 + 32 * (dMs D).length) + 903) ((6020 + 80 * (dMs D).length) + 4508) from ?_)
      exact g_zret B E dX3_canFind_29 (by decide) (⟨1, false, _, rfl, rfl, hwc_2, Or.inl ⟨rfl, by rintro ⟨z1, z2⟩; first | exact c6 z1 | exact c14 z2⟩⟩)
    · skip
      have c14 := Classical.not_not.mp c14
      refine g_iconst (v := nI 0) (q := 18) B dX3_canFind_17 rfl (by decide) ?_
      refine g_goto (tgt := 22) B dX3_canFind_18 (by decide) ?_
      refine g_callV (q := 25) (is := [7]) (kc2 := ((490 + 32 * (dMs D).length) + 903)) (ks2 := ((6020 + 80 * (dMs D).length) + 4508)) B [.int (nI 0)] (ct_X3_isWrong g J (m := m) (ls := ls) (lb := lb) (lk := lk) (lp := lp) (lr := lr) (le := le) (lm := lm) (lo := lo) (th := (dTh D)) (z := (dZz D)) (bo := (dBn D)) (cm := (dCm D)) (k := 0)  (by decide)) dX3_canFind_22 rfl (rc_at B (ci := 12) rfl (k := 7) rfl) rfl q3103 q3105 qs49 q85 q3106 rfl rfl moX3_isWrong rfl rfl (by decide) (by decide) (Nat.le_of_ble_eq_true rfl) (by omega) (by omega) (fun _ _ hx => noX_x hx) (fun v22 L1 hp22 => ?_)
      obtain ⟨rfl, rfl⟩ := hp22
      refine (show Go g κ 25 [some (.ref m), some (.int v), some (.int u), some (.int (nI (if ev = true then 1 else 0)))] [.int (nI (if ¬ 0 = 0 then 1 else 0))] [v0, v1, v2, v4, v6, v7, v3, v5, [(m, .inr (12, [.ref ls, .ref lb, .ref lk, .ref lp, .ref lr, .ref le, .ref lm, .ref lo, .int (nI 0), .int (dZz D), .int (nI (dBn D)), .int (nI (dCm D))]))]] ((490 + 32 * (dMs D).length) + 903) ((6020 + 80 * (dMs D).length) + 4508) from ?_)
      refine g_if_eq (tgt := 30) (q := 28) B dX3_canFind_25 rfl (by decide) (iff_true_intro (by decide)) (fun _ => ?_) (fun z => absurd trivial z)
      obtain ⟨i, hii, rfl⟩ := inR_t c6
      refine (show Go g κ 30 [some (.ref m), some (.int (nI i)), some (.int u), some (.int (nI (if ev = true then 1 else 0)))] [] [v0, v1, v2, v4, v6, v7, v3, v5, [(m, .inr (12, [.ref ls, .ref lb, .ref lk, .ref lp, .ref lr, .ref le, .ref lm, .ref lo, .int (nI 0), .int (dZz D), .int (nI (dBn D)), .int (nI (dCm D))]))]] ((490 + 32 * (dMs D).length) + 903) ((6020 + 80 * (dMs D).length) + 4508) from ?_)
      obtain ⟨j, hij, rfl⟩ := inR_t c14
      obtain ⟨r0, hr0⟩ := get_ex (xs := dPs D) (i := i) hii
      refine (show Go g κ 30 [some (.ref m), some (.int (nI i)), some (.int (nI j)), some (.int (nI (if ev = true then 1 else 0)))] [] [v0, v1, v2, v4, v6, v7, v3, v5, [(m, .inr (12, [.ref ls, .ref lb, .ref lk, .ref lp, .ref lr, .ref le, .ref lm, .ref lo, .int (nI 0), .int (dZz D), .int (nI (dBn D)), .int (nI (dCm D))]))]] ((490 + 32 * (dMs D).length) + 903) ((6020 + 80 * (dMs D).length) + 4508) from ?_)
      refine g_aload_n (q := 31) B dX3_canFind_30 rfl rfl (rv_r _) ?_
      refine g_iload_n (q := 32) B dX3_canFind_31 rfl rfl ?_
      refine g_if_eq (tgt := 52) (q := 35) B dX3_canFind_32 rfl (by decide) (bo_eq) (fun c32 => ?_) (fun c32 => ?_)
      · skip
        have hev := c32
        refine g_aload_n (q := 53) B dX3_canFind_52 rfl rfl (rv_r _) ?_
        refine g_iload_n (q := 54) B dX3_canFind_53 rfl rfl ?_
        obtain ⟨hh1_54, hh2_54, hh3_54, hh4_54, hh5_54⟩ := hi5 _ _ hr0
        refine g_callV (q := 57) (is := [8, 2, 5, 5]) (kc2 := 903) (ks2 := 4508) B [.int (nI i)] (ct_X3_heldBy g J (m := m) (ls := ls) (lb := lb) (lk := lk) (lp := lp) (lr := lr) (le := le) (lm := lm) (lo := lo) (th := 0) (z := (dZz D)) (bo := (dBn D)) (cm := (dCm D)) (mks := mks) (Ks := (dKs D)) (kcap := kcap) (mps := mps) (Ps := (dPs D)) (pcap := pcap) (Es := (dEs D)) (ecap := ecap) (i := i) (r := r0) (n := (dSs D).length) (Q := (dMs D).length) hv2 hv3 hv5 (hr0) (by have := get_lt2 hr0; omega) (hh1_54) (hh2_54) (hh3_54) (by omega)) dX3_canFind_54 rfl (rc_at B (ci := 12) rfl (k := 8) rfl) rfl q3227 q3229 qs55 q85 q3230 rfl rfl moX3_heldBy rfl rfl (by decide) (by decide) (Nat.le_of_ble_eq_true rfl) (by omega) (by omega) (fun _ _ hx => noX_x hx) (fun v54 L1 hp54 => ?_)
        obtain ⟨p54, vs54, u4_54, rfl, rfl, hu4_54, hm_54, hnd_54, hvl_54⟩ := hp54
        refine (show Go g κ 57 [some (.ref m), some (.int (nI i)), some (.int (nI j)), some (.int (nI (if ev = true then 1 else 0)))] [.ref p54, .ref m] [v0, v1, v4, v6, v7, [(m, .inr (12, [.ref ls, .ref lb, .ref lk, .ref lp, .ref lr, .ref le, .ref lm, .ref lo, .int (nI 0), .int (dZz D), .int (nI (dBn D)), .int (nI (dCm D))]))], v2, v3, v5, u4_54] 903 4508 from ?_)
        have hx54 : ∀ x ∈ vs54, x < (dSs D).length := fun x h => hh3_54 x ((hm_54 x).mp h)
        refine g_callV (q := 60) (is := [5, 0, 0, 6]) (kc2 := 0) (ks2 := 0) B [.ref p54] (ct_X3_all g J (m := m) (ls := ls) (lb := lb) (lk := lk) (lp := lp) (lr := lr) (le := le) (lm := lm) (lo := lo) (th := 0) (z := (dZz D)) (bo := (dBn D)) (cm := (dCm D)) (ss := (dSs D)) (bx := (dBx D)) (p := p54) (vs := vs54) (capv := (capF vs54.length)) hv0 hv1 hu4_54 (hi1) (hi2) (by omega) (hx54)) dX3_canFind_57 rfl (rc_at B (ci := 12) rfl (k := 5) rfl) rfl q3607 q3609 qs74 q85 q3610 rfl rfl moX3_all rfl rfl (by decide) (by decide) (Nat.le_of_ble_eq_true rfl) (by omega) (by omega) (fun _ _ hx => noX_x hx) (fun v57 L1 hp57 => ?_)
        obtain ⟨a57, fa57, K57, rfl, rfl, hfa_57, hK_57, hlt_57⟩ := hp57
        refine (show Go g κ 60 [some (.ref m), some (.int (nI i)), some (.int (nI j)), some (.int (nI (if ev = true then 1 else 0)))] [.ref a57] [v4, v6, v7, v2, v3, v5, [(m, .inr (12, [.ref ls, .ref lb, .ref lk, .ref lp, .ref lr, .ref le, .ref lm, .ref lo, .int (nI 0), .int (dZz D), .int (nI (dBn D)), .int (nI (dCm D))]))], v0, v1, u4_54, [(a57, .inl (g.2.1 4, (dSs D).length, .inl fa57))]] 0 0 from ?_)
        have hQ57 : ∀ x, K57 x = true ↔ ClQ (dSs D) (dBx D) (fun y => if ev = true then y ∈ mEv r0 else helM (dKs D) (dEs D) i r0 y) x := fun x => (hK_57 x).trans (ClQ.of (fun y => (hm_54 y).trans (by rw [if_neg hev])) x)
        refine g_aload_n (q := 61) B dX3_canFind_60 rfl rfl (rv_r _) ?_
        refine g_get (q := 64) B (ci := 12) (k := 6) (j := 5) in_X3 rfl dX3_canFind_61 rfl rfl (Nat.le_of_ble_eq_true rfl) q3062 rfl rfl ?_
        refine g_iload_n (q := 65) B dX3_canFind_64 rfl rfl ?_
        obtain ⟨ps_3, md_3, hli_3, hln_3, hel_3⟩ := LhP.at (Sub.self hv5)
        obtain ⟨r65, hr65⟩ := get_ex (xs := (dEs D)) (i := j) (by omega)
        obtain ⟨x65, hx65⟩ := get_ex (xs := ps_3) (i := j) (by have := get_lt2 hr65; have := hln_3.1; omega)
        have hE_4 := hel_3 _ _ _ hx65 hr65
        refine g_callV (q := 68) (is := [5]) (kc2 := 0) (ks2 := 0) B [.int (nI j)] (ct_J2_get_s g J (p := le) (xs := ps_3) (md := md_3) (cap := ecap) (i := j) (x := x65) (W0 := v5)  (hli_3) (hx65)) dX3_canFind_65 rfl (rc_in B (ci := 21) rfl (k := 5) rfl (LhP.hm hv5)) rfl q3231 q1095 q3667 q81 q1097 rfl rfl moJ2_get rfl rfl (by decide) (by decide) (Nat.le_of_ble_eq_true rfl) (Nat.le_of_ble_eq_true rfl) (Nat.le_of_ble_eq_true rfl) (fun _ _ hx => noX_x hx) (fun v65 L1 hp65 => ?_)
        obtain ⟨rfl, rfl⟩ := hp65
        refine (show Go g κ 68 [some (.ref m), some (.int (nI i)), some (.int (nI j)), some (.int (nI (if ev = true then 1 else 0)))] [.ref x65, .ref a57] [v4, v6, v7, v2, v3, [(m, .inr (12, [.ref ls, .ref lb, .ref lk, .ref lp, .ref lr, .ref le, .ref lm, .ref lo, .int (nI 0), .int (dZz D), .int (nI (dBn D)), .int (nI (dCm D))]))], v0, v1, u4_54, [(a57, .inl (g.2.1 4, (dSs D).length, .inl fa57))], v5] 0 0 from ?_)
        refine g_castRS (ci := 16) (q := 71) B rfl (rc_in B (ci := 16) rfl (k := 10) rfl (Sub.hm (hE_4) fun _ z => EpP.hm z)) dX3_canFind_68 rfl q3243 ?_
        obtain ⟨ap_5, an_5, al_5, ac_5, aw_5, am_5, ak_5, fp_5, fn_5, fl_5, fc_5, fw_5, fm_5, fk_5, hE_5, hfp_5, hfn_5, hfl_5, hfc_5, hfw_5, hfm_5, hfk_5, hc_5_0, hc_5_1, hc_5_2, hc_5_3, hc_5_4, hc_5_5, hc_5_6, hc_5_7⟩ := EpP.at (hE_4)
        refine g_getNM (q := 74) B (ci := 16) (k := 10) (j := 3) in_X13 rfl dX3_canFind_71 rfl rfl (hc_5_0) (Nat.le_of_ble_eq_true rfl) q3259 rfl rfl ?_
        have hbl9 := hekl _ (List.mem_of_getElem? hr65)
        refine g_zald (v := nI (if K57 (eKy r65) = true then 1 else 0)) (q := 75) B (k := 9) dX3_canFind_74 rfl rfl (vp_in_nI (by omega) (by omega)) (by rw [nI_clamp (by omega)]; exact hfa_57 _ (by omega)) ?_
        obtain ⟨wc_6, ewc_6⟩ : ∃ w : va_W, w = ([[(m, .inr (12, [.ref ls, .ref lb, .ref lk, .ref lp, .ref lr, .ref le, .ref lm, .ref lo, .int (nI 0), .int (dZz D), .int (nI (dBn D)), .int (nI (dCm D))]))], v0, v1, v2, v3, v4, v5, v6, v7] : List va_W).flatten := ⟨_, rfl⟩
        have hwc_6 : KdP g m (dT D 0) wc_6 := by
          rw [ewc_6]
          exact ⟨ls, lb, lk, lp, lr, le, lm, lo, kcap, pcap, rcap, ecap, mcap, mks, mps, _, _, _, _, _, _, _, _, hcap, hv0, hv1, hv2, hv3, hv4, hv5, hv6, hv7, rfl⟩
        refine g_close (w := wc_6) [5, 5, 5, 3, 3, 0, 4, 0, 0] rfl ewc_6 rfl ?_
        refine (show Go g κ 75 [some (.ref m), some (.int (nI i)), some (.int (nI j)), some (.int (nI (if ev = true then 1 else 0)))] [.int (nI (if K57 (eKy r65) = true then 1 else 0))] [u4_54, [(a57, .inl (g.2.1 4, (dSs D).length, .inl fa57))], wc_6] 0 0 from ?_)
        refine g_pk [2] rfl rfl ?_
        refine (show Go g κ 75 [some (.ref m), some (.int (nI i)), some (.int (nI j)), some (.int (nI (if ev = true then 1 else 0)))] [.int (nI (if K57 (eKy r65) = true then 1 else 0))] [wc_6] 0 0 from ?_)
        exact g_zret B E dX3_canFind_75 (by split <;> decide) (⟨0, K57 (eKy r65), _, rfl, rfl, hwc_6, Or.inr ⟨rfl, i, r0, j, r65, K57, rfl, hr0, rfl, hr65, hQ57, rfl⟩⟩)
      · skip
        have c32 := Classical.not_not.mp c32
        have hev := c32
        refine g_aload_n (q := 36) B dX3_canFind_35 rfl rfl (rv_r _) ?_
        refine g_get (q := 39) B (ci := 12) (k := 8) (j := 3) in_X3 rfl dX3_canFind_36 rfl rfl (Nat.le_of_ble_eq_true rfl) q3060 rfl rfl ?_
        refine g_iload_n (q := 40) B dX3_canFind_39 rfl rfl ?_
        obtain ⟨md_7, hli_7, hln_7, hel_7⟩ := LoP.at (Sub.self hv3)
        obtain ⟨x40, hx40⟩ := get_ex (xs := mps) (i := i) (by have := get_lt2 (show (dPs D)[i]? = some r0 from hr0); have := hln_7.1; omega)
        have hE_8 := hel_7 _ _ _ hx40 (show (dPs D)[i]? = some r0 from hr0)
        refine g_callV (q := 43) (is := [6]) (kc2 := ((490 + 32 * (dMs D).length) + 903)) (ks2 := ((6020 + 80 * (dMs D).length) + 4508)) B [.int (nI i)] (ct_J2_get_s g J (p := lp) (xs := mps) (md := md_7) (cap := pcap) (i := i) (x := x40) (W0 := v3)  (hli_7) (hx40)) dX3_canFind_40 rfl (rc_in B (ci := 21) rfl (k := 6) rfl (LoP.hm hv3)) rfl q3231 q1095 q3667 q81 q1097 rfl rfl moJ2_get rfl rfl (by decide) (by decide) (Nat.le_of_ble_eq_true rfl) (by omega) (by omega) (fun _ _ hx => noX_x hx) (fun v40 L1 hp40 => ?_)
        obtain ⟨rfl, rfl⟩ := hp40
        refine (show Go g κ 43 [some (.ref m), some (.int (nI i)), some (.int (nI j)), some (.int (nI (if ev = true then 1 else 0)))] [.ref x40, .ref m] [v0, v1, v2, v4, v6, v7, v5, [(m, .inr (12, [.ref ls, .ref lb, .ref lk, .ref lp, .ref lr, .ref le, .ref lm, .ref lo, .int (nI 0), .int (dZz D), .int (nI (dBn D)), .int (nI (dCm D))]))], v3] ((490 + 32 * (dMs D).length) + 903) ((6020 + 80 * (dMs D).length) + 4508) from ?_)
        refine g_castRS (ci := 13) (q := 46) B rfl (rc_in B (ci := 13) rfl (k := 8) rfl (Sub.hm (hE_8) fun _ z => MpP.hm z)) dX3_canFind_43 rfl q3107 ?_
        obtain ⟨nd_9, ch_9, ev_9, cv_9, fn_9, fc_9, hM_9, hfn_9, hoc_9, hcv_9, hc_9_0, hc_9_1, hc_9_2, hs_9_0, hs_9_1⟩ := MpP.at (hE_8)
        refine g_getNM (q := 49) B (ci := 13) (k := 8) (j := 6) in_X5 rfl dX3_canFind_46 rfl rfl (hc_9_0) (Nat.le_of_ble_eq_true rfl) q3128 rfl rfl ?_
        refine g_goto (tgt := 57) B dX3_canFind_49 (by decide) ?_
        obtain ⟨hh1_c, hh2_c, hh3_c, hh4_c, hh5_c⟩ := hi5 _ _ hr0
        refine g_callV (q := 60) (is := [7, 0, 0, 5]) (kc2 := 0) (ks2 := 0) B [.ref ev_9] (ct_X3_all_s g J (m := m) (ls := ls) (lb := lb) (lk := lk) (lp := lp) (lr := lr) (le := le) (lm := lm) (lo := lo) (th := 0) (z := (dZz D)) (bo := (dBn D)) (cm := (dCm D)) (ss := (dSs D)) (bx := (dBx D)) (p := ev_9) (vs := (mEv r0)) (capv := cv_9) (W3 := v3) hv0 hv1 (hs_9_1) (hi1) (hi2) (by omega) (hh5_c)) dX3_canFind_57 rfl (rc_at B (ci := 12) rfl (k := 7) rfl) rfl q3607 q3609 qs74 q85 q3610 rfl rfl moX3_all rfl rfl (by decide) (by decide) (Nat.le_of_ble_eq_true rfl) (by omega) (by omega) (fun _ _ hx => noX_x hx) (fun v57 L1 hp57 => ?_)
        obtain ⟨a57, fa57, K57, rfl, rfl, hfa_57, hK_57, hlt_57⟩ := hp57
        refine (show Go g κ 60 [some (.ref m), some (.int (nI i)), some (.int (nI j)), some (.int (nI (if ev = true then 1 else 0)))] [.ref a57] [v2, v4, v6, v7, v5, [(m, .inr (12, [.ref ls, .ref lb, .ref lk, .ref lp, .ref lr, .ref le, .ref lm, .ref lo, .int (nI 0), .int (dZz D), .int (nI (dBn D)), .int (nI (dCm D))]))], v0, v1, v3, [(a57, .inl (g.2.1 4, (dSs D).length, .inl fa57))]] 0 0 from ?_)
        have hQ57 : ∀ x, K57 x = true ↔ ClQ (dSs D) (dBx D) (fun y => if ev = true then y ∈ mEv r0 else helM (dKs D) (dEs D) i r0 y) x := fun x => (hK_57 x).trans (ClQ.of (fun y => by rw [if_pos hev]) x)
        refine g_aload_n (q := 61) B dX3_canFind_60 rfl rfl (rv_r _) ?_
        refine g_get (q := 64) B (ci := 12) (k := 5) (j := 5) in_X3 rfl dX3_canFind_61 rfl rfl (Nat.le_of_ble_eq_true rfl) q3062 rfl rfl ?_
        refine g_iload_n (q := 65) B dX3_canFind_64 rfl rfl ?_
        obtain ⟨ps_10, md_10, hli_10, hln_10, hel_10⟩ := LhP.at (Sub.self hv5)
        obtain ⟨r65, hr65⟩ := get_ex (xs := (dEs D)) (i := j) (by omega)
        obtain ⟨x65, hx65⟩ := get_ex (xs := ps_10) (i := j) (by have := get_lt2 hr65; have := hln_10.1; omega)
        have hE_11 := hel_10 _ _ _ hx65 hr65
        refine g_callV (q := 68) (is := [4]) (kc2 := 0) (ks2 := 0) B [.int (nI j)] (ct_J2_get_s g J (p := le) (xs := ps_10) (md := md_10) (cap := ecap) (i := j) (x := x65) (W0 := v5)  (hli_10) (hx65)) dX3_canFind_65 rfl (rc_in B (ci := 21) rfl (k := 4) rfl (LhP.hm hv5)) rfl q3231 q1095 q3667 q81 q1097 rfl rfl moJ2_get rfl rfl (by decide) (by decide) (Nat.le_of_ble_eq_true rfl) (Nat.le_of_ble_eq_true rfl) (Nat.le_of_ble_eq_true rfl) (fun _ _ hx => noX_x hx) (fun v65 L1 hp65 => ?_)
        obtain ⟨rfl, rfl⟩ := hp65
        refine (show Go g κ 68 [some (.ref m), some (.int (nI i)), some (.int (nI j)), some (.int (nI (if ev = true then 1 else 0)))] [.ref x65, .ref a57] [v2, v4, v6, v7, [(m, .inr (12, [.ref ls, .ref lb, .ref lk, .ref lp, .ref lr, .ref le, .ref lm, .ref lo, .int (nI 0), .int (dZz D), .int (nI (dBn D)), .int (nI (dCm D))]))], v0, v1, v3, [(a57, .inl (g.2.1 4, (dSs D).length, .inl fa57))], v5] 0 0 from ?_)
        refine g_castRS (ci := 16) (q := 71) B rfl (rc_in B (ci := 16) rfl (k := 9) rfl (Sub.hm (hE_11) fun _ z => EpP.hm z)) dX3_canFind_68 rfl q3243 ?_
        obtain ⟨ap_12, an_12, al_12, ac_12, aw_12, am_12, ak_12, fp_12, fn_12, fl_12, fc_12, fw_12, fm_12, fk_12, hE_12, hfp_12, hfn_12, hfl_12, hfc_12, hfw_12, hfm_12, hfk_12, hc_12_0, hc_12_1, hc_12_2, hc_12_3, hc_12_4, hc_12_5, hc_12_6, hc_12_7⟩ := EpP.at (hE_11)
        refine g_getNM (q := 74) B (ci := 16) (k := 9) (j := 3) in_X13 rfl dX3_canFind_71 rfl rfl (hc_12_0) (Nat.le_of_ble_eq_true rfl) q3259 rfl rfl ?_
        have hbl9 := hekl _ (List.mem_of_getElem? hr65)
        refine g_zald (v := nI (if K57 (eKy r65) = true then 1 else 0)) (q := 75) B (k := 8) dX3_canFind_74 rfl rfl (vp_in_nI (by omega) (by omega)) (by rw [nI_clamp (by omega)]; exact hfa_57 _ (by omega)) ?_
        obtain ⟨wc_13, ewc_13⟩ : ∃ w : va_W, w = ([[(m, .inr (12, [.ref ls, .ref lb, .ref lk, .ref lp, .ref lr, .ref le, .ref lm, .ref lo, .int (nI 0), .int (dZz D), .int (nI (dBn D)), .int (nI (dCm D))]))], v0, v1, v2, v3, v4, v5, v6, v7] : List va_W).flatten := ⟨_, rfl⟩
        have hwc_13 : KdP g m (dT D 0) wc_13 := by
          rw [ewc_13]
          exact ⟨ls, lb, lk, lp, lr, le, lm, lo, kcap, pcap, rcap, ecap, mcap, mks, mps, _, _, _, _, _, _, _, _, hcap, hv0, hv1, hv2, hv3, hv4, hv5, hv6, hv7, rfl⟩
        refine g_close (w := wc_13) [4, 4, 4, 0, 3, 0, 3, 0, 0] rfl ewc_13 rfl ?_
        refine (show Go g κ 75 [some (.ref m), some (.int (nI i)), some (.int (nI j)), some (.int (nI (if ev = true then 1 else 0)))] [.int (nI (if K57 (eKy r65) = true then 1 else 0))] [[(a57, .inl (g.2.1 4, (dSs D).length, .inl fa57))], wc_13] 0 0 from ?_)
        refine g_pk [1] rfl rfl ?_
        refine (show Go g κ 75 [some (.ref m), some (.int (nI i)), some (.int (nI j)), some (.int (nI (if ev = true then 1 else 0)))] [.int (nI (if K57 (eKy r65) = true then 1 else 0))] [wc_13] 0 0 from ?_)
        exact g_zret B E dX3_canFind_75 (by split <;> decide) (⟨0, K57 (eKy r65), _, rfl, rfl, hwc_13, Or.inr ⟨rfl, i, r0, j, r65, K57, rfl, hr0, rfl, hr65, hQ57, rfl⟩⟩)
theorem ct_X3_holds (g : Gv) (J : Jd g) {m : Nat} {D : MdS} {Ep : MeS} {v : Int32} {u : Int32} {w0 : va_W} (hw0 : KdP g m D w0) (hD : MdB D) (hI : MdI D) (hT : dEs D ≠ [] → (dEs D)[(dEs D).length - 1]? = some Ep) : Ct g yX3_holds (ws_ yX3_holds cX3_holds 6 (some .boolean)) 10 ((490 + 32 * (dMs D).length) + 1) ((6020 + 80 * (dMs D).length) + 4) [.ref m, .int v, .int u] [w0] (fun (rv_ : Option Value) (rL_ : List va_W) => ∃ (k : Nat) (b : Bool) (u0 : va_W), rv_ = some (.int (nI (if b = true then 1 else 0))) ∧ rL_ = [u0] ∧ KdP g m (dT D k) u0 ∧ ((k = 1 ∧ ¬ (inR v (dPs D).length = true ∧ dEs D ≠ [] ∧ inR u (2 * 2 ^ (eTr Ep).1 - 1) = true)) ∨ (k = 0 ∧ dEs D ≠ [] ∧ ∃ (i : Nat) (r : MpS) (j : Nat), v = nI i ∧ (dPs D)[i]? = some r ∧ u = nI j ∧ j < 2 * 2 ^ (eTr Ep).1 - 1 ∧ (b = true ↔ ∃ x, (eTr Ep).2.1 j = some x ∧ helM (dKs D) (dEs D) i r x)))) noX := by
  refine Ct.of "KeygroveModel" [some (.ref m), some (.int v), some (.int u), none, none, none] rfl (by decide) rfl (Nat.le_of_ble_eq_true rfl) rfl ?_
  intro κ B E tb
  have hD0 := hD
  obtain ⟨hd1, hd2, hd3, hd4, hd5, hd6, hd7, hd8, hd9⟩ := hD0
  obtain ⟨ls, lb, lk, lp, lr, le, lm, lo, kcap, pcap, rcap, ecap, mcap, mks, mps, v0, v1, v2, v3, v4, v5, v6, v7, hcap, hv0, hv1, hv2, hv3, hv4, hv5, hv6, hv7, rfl⟩ := hw0
  refine g_open 0 rfl rfl rfl ?_
  refine (show Go g κ 0 [some (.ref m), some (.int v), some (.int u), none, none, none] [] [[(m, .inr (12, [.ref ls, .ref lb, .ref lk, .ref lp, .ref lr, .ref le, .ref lm, .ref lo, .int (nI (dTh D)), .int (dZz D), .int (nI (dBn D)), .int (nI (dCm D))]))], v0, v1, v2, v3, v4, v5, v6, v7] ((490 + 32 * (dMs D).length) + 1) ((6020 + 80 * (dMs D).length) + 4) from ?_)
  obtain ⟨kc1, kc2, kc3, kc4, kc5⟩ := (show capM kcap pcap rcap ecap mcap from hcap)
  obtain ⟨hi1, hi2, hi3, hi4, hi5⟩ := hI
  have hcf := capF_le (dSs D).length
  refine g_aload_n (q := 1) B dX3_holds_0 rfl rfl (rv_r _) ?_
  refine g_aload_n (q := 2) B dX3_holds_1 rfl rfl (rv_r _) ?_
  refine g_iload_n (q := 3) B dX3_holds_2 rfl rfl ?_
  refine g_callV (q := 6) (is := [0, 3]) (kc2 := ((490 + 32 * (dMs D).length) + 1)) (ks2 := ((6020 + 80 * (dMs D).length) + 4)) B [.int v] (ct_X3_isPerson g J (m := m) (ls := ls) (lb := lb) (lk := lk) (lp := lp) (lr := lr) (le := le) (lm := lm) (lo := lo) (th := dTh D) (z := dZz D) (bo := dBn D) (cm := dCm D) (mps := mps) (Ps := (dPs D)) (pcap := pcap) (v := v) hv3 (by omega)) dX3_holds_3 rfl (rc_at B (ci := 12) rfl (k := 0) rfl) rfl q3153 q3155 qs51 q85 q3156 rfl rfl moX3_isPerson rfl rfl (by decide) (by decide) (Nat.le_of_ble_eq_true rfl) (by omega) (by omega) (fun _ _ hx => noX_x hx) (fun v3 L1 hp3 => ?_)
  obtain ⟨rfl, rfl⟩ := hp3
  refine (show Go g κ 6 [some (.ref m), some (.int v), some (.int u), none, none, none] [.int (nI (if inR v (dPs D).length = true then 1 else 0)), .ref m] [v0, v1, v2, v4, v5, v6, v7, [(m, .inr (12, [.ref ls, .ref lb, .ref lk, .ref lp, .ref lr, .ref le, .ref lm, .ref lo, .int (nI (dTh D)), .int (dZz D), .int (nI (dBn D)), .int (nI (dCm D))]))], v3] ((490 + 32 * (dMs D).length) + 1) ((6020 + 80 * (dMs D).length) + 4) from ?_)
  refine g_if_eq (tgt := 21) (q := 9) B dX3_holds_6 rfl (by decide) (bo_eq) (fun c6 => ?_) (fun c6 => ?_)
  · skip
    refine g_iconst (v := nI 1) (q := 22) B dX3_holds_21 rfl (by decide) ?_
    refine g_callV (q := 25) (is := [7]) (kc2 := ((490 + 32 * (dMs D).length) + 1)) (ks2 := ((6020 + 80 * (dMs D).length) + 4)) B [.int (nI 1)] (ct_X3_isWrong g J (m := m) (ls := ls) (lb := lb) (lk := lk) (lp := lp) (lr := lr) (le := le) (lm := lm) (lo := lo) (th := (dTh D)) (z := (dZz D)) (bo := (dBn D)) (cm := (dCm D)) (k := 1)  (by decide)) dX3_holds_22 rfl (rc_at B (ci := 12) rfl (k := 7) rfl) rfl q3103 q3105 qs49 q85 q3106 rfl rfl moX3_isWrong rfl rfl (by decide) (by decide) (Nat.le_of_ble_eq_true rfl) (by omega) (by omega) (fun _ _ hx => noX_x hx) (fun v22 L1 hp22 => ?_)
    obtain ⟨rfl, rfl⟩ := hp22
    refine (show Go g κ 25 [some (.ref m), some (.int v), some (.int u), none, none, none] [.int (nI (if ¬ 1 = 0 then 1 else 0))] [v0, v1, v2, v4, v5, v6, v7, v3, [(m, .inr (12, [.ref ls, .ref lb, .ref lk, .ref lp, .ref lr, .ref le, .ref lm, .ref lo, .int (nI 1), .int (dZz D), .int (nI (dBn D)), .int (nI (dCm D))]))]] ((490 + 32 * (dMs D).length) + 1) ((6020 + 80 * (dMs D).length) + 4) from ?_)
    refine g_if_eq (tgt := 30) (q := 28) B dX3_holds_25 rfl (by decide) (iff_false_intro (by decide)) (fun z => z.elim) (fun _ => ?_)
    refine g_iconst (v := nI 0) (q := 29) B dX3_holds_28 rfl (by decide) ?_
    obtain ⟨wc_1, ewc_1⟩ : ∃ w : va_W, w = ([[(m, .inr (12, [.ref ls, .ref lb, .ref lk, .ref lp, .ref lr, .ref le, .ref lm, .ref lo, .int (nI 1), .int (dZz D), .int (nI (dBn D)), .int (nI (dCm D))]))], v0, v1, v2, v3, v4, v5, v6, v7] : List va_W).flatten := ⟨_, rfl⟩
    have hwc_1 : KdP g m (dT D 1) wc_1 := by
      rw [ewc_1]
      exact ⟨ls, lb, lk, lp, lr, le, lm, lo, kcap, pcap, rcap, ecap, mcap, mks, mps, _, _, _, _, _, _, _, _, hcap, hv0, hv1, hv2, hv3, hv4, hv5, hv6, hv7, rfl⟩
    refine g_close (w := wc_1) [8, 0, 0, 0, 4, 0, 0, 0, 0] rfl ewc_1 rfl ?_
    refine (show Go g κ 29 [some (.ref m), some (.int v), some (.int u), none, none, none] [.int (nI 0)] [wc_1] ((490 + 32 * (dMs D).length) + 1) ((6020 + 80 * (dMs D).length) + 4) from ?_)
    exact g_zret B E dX3_holds_29 (by decide) (⟨1, false, _, rfl, rfl, hwc_1, Or.inl ⟨rfl, by rintro ⟨z1, z2⟩; first | exact c6 z1 | exact c14 z2⟩⟩)
  · skip
    have c6 := Classical.not_not.mp c6
    refine g_aload_n (q := 10) B dX3_holds_9 rfl rfl (rv_r _) ?_
    refine g_iload_n (q := 11) B dX3_holds_10 rfl rfl ?_
    refine g_callV (q := 14) (is := [7, 4]) (kc2 := ((490 + 32 * (dMs D).length) + 1)) (ks2 := ((6020 + 80 * (dMs D).length) + 4)) B [.int u] (ct_X3_isNode g J (m := m) (ls := ls) (lb := lb) (lk := lk) (lp := lp) (lr := lr) (le := le) (lm := lm) (lo := lo) (th := (dTh D)) (z := (dZz D)) (bo := (dBn D)) (cm := (dCm D)) (Es := (dEs D)) (ecap := ecap) (Ep := Ep) (v := u) hv5 (hT) (by omega)) dX3_holds_11 rfl (rc_at B (ci := 12) rfl (k := 7) rfl) rfl q3522 q3524 qs72 q85 q3525 rfl rfl moX3_isNode rfl rfl (by decide) (by decide) (Nat.le_of_ble_eq_true rfl) (by omega) (by omega) (fun _ _ hx => noX_x hx) (fun v11 L1 hp11 => ?_)
    obtain ⟨rfl, rfl⟩ := hp11
    refine (show Go g κ 14 [some (.ref m), some (.int v), some (.int u), none, none, none] [.int (nI (if (dEs D) ≠ [] ∧ inR u (2 * 2 ^ (eTr Ep).1 - 1) = true then 1 else 0)), .ref m] [v0, v1, v2, v4, v6, v7, v3, [(m, .inr (12, [.ref ls, .ref lb, .ref lk, .ref lp, .ref lr, .ref le, .ref lm, .ref lo, .int (nI (dTh D)), .int (dZz D), .int (nI (dBn D)), .int (nI (dCm D))]))], v5] ((490 + 32 * (dMs D).length) + 1) ((6020 + 80 * (dMs D).length) + 4) from ?_)
    refine g_if_eq (tgt := 21) (q := 17) B dX3_holds_14 rfl (by decide) (bo_eq) (fun c14 => ?_) (fun c14 => ?_)
    · skip
      refine g_iconst (v := nI 1) (q := 22) B dX3_holds_21 rfl (by decide) ?_
      refine g_callV (q := 25) (is := [7]) (kc2 := ((490 + 32 * (dMs D).length) + 1)) (ks2 := ((6020 + 80 * (dMs D).length) + 4)) B [.int (nI 1)] (ct_X3_isWrong g J (m := m) (ls := ls) (lb := lb) (lk := lk) (lp := lp) (lr := lr) (le := le) (lm := lm) (lo := lo) (th := (dTh D)) (z := (dZz D)) (bo := (dBn D)) (cm := (dCm D)) (k := 1)  (by decide)) dX3_holds_22 rfl (rc_at B (ci := 12) rfl (k := 7) rfl) rfl q3103 q3105 qs49 q85 q3106 rfl rfl moX3_isWrong rfl rfl (by decide) (by decide) (Nat.le_of_ble_eq_true rfl) (by omega) (by omega) (fun _ _ hx => noX_x hx) (fun v22 L1 hp22 => ?_)
      obtain ⟨rfl, rfl⟩ := hp22
      refine (show Go g κ 25 [some (.ref m), some (.int v), some (.int u), none, none, none] [.int (nI (if ¬ 1 = 0 then 1 else 0))] [v0, v1, v2, v4, v6, v7, v3, v5, [(m, .inr (12, [.ref ls, .ref lb, .ref lk, .ref lp, .ref lr, .ref le, .ref lm, .ref lo, .int (nI 1), .int (dZz D), .int (nI (dBn D)), .int (nI (dCm D))]))]] ((490 + 32 * (dMs D).length) + 1) ((6020 + 80 * (dMs D).length) + 4) from ?_)
      refine g_if_eq (tgt := 30) (q := 28) B dX3_holds_25 rfl (by decide) (iff_false_intro (by decide)) (fun z => z.elim) (fun _ => ?_)
      refine g_iconst (v := nI 0) (q := 29) B dX3_holds_28 rfl (by decide) ?_
      obtain ⟨wc_2, ewc_2⟩ : ∃ w : va_W, w = ([[(m, .inr (12, [.ref ls, .ref lb, .ref lk, .ref lp, .ref lr, .ref le, .ref lm, .ref lo, .int (nI 1), .int (dZz D), .int (nI (dBn D)), .int (nI (dCm D))]))], v0, v1, v2, v3, v4, v5, v6, v7] : List va_W).flatten := ⟨_, rfl⟩
      have hwc_2 : KdP g m (dT D 1) wc_2 := by
        rw [ewc_2]
        exact ⟨ls, lb, lk, lp, lr, le, lm, lo, kcap, pcap, rcap, ecap, mcap, mks, mps, _, _, _, _, _, _, _, _, hcap, hv0, hv1, hv2, hv3, hv4, hv5, hv6, hv7, rfl⟩
      refine g_close (w := wc_2) [8, 0, 0, 0, 3, 0, 2, 0, 0] rfl ewc_2 rfl ?_
      refine (show Go g κ 29 [some (.ref m), some (.int v), some (.int u), none, none, none] [.int (nI 0)] [wc_2] ((490 + 32 * (dMs D).length) + 1) ((6020 + 80 * (dMs D).length) + 4) from ?_)
      exact g_zret B E dX3_holds_29 (by decide) (⟨1, false, _, rfl, rfl, hwc_2, Or.inl ⟨rfl, by rintro ⟨z1, z2⟩; first | exact c6 z1 | exact c14 z2⟩⟩)
    · skip
      have c14 := Classical.not_not.mp c14
      refine g_iconst (v := nI 0) (q := 18) B dX3_holds_17 rfl (by decide) ?_
      refine g_goto (tgt := 22) B dX3_holds_18 (by decide) ?_
      refine g_callV (q := 25) (is := [7]) (kc2 := ((490 + 32 * (dMs D).length) + 1)) (ks2 := ((6020 + 80 * (dMs D).length) + 4)) B [.int (nI 0)] (ct_X3_isWrong g J (m := m) (ls := ls) (lb := lb) (lk := lk) (lp := lp) (lr := lr) (le := le) (lm := lm) (lo := lo) (th := (dTh D)) (z := (dZz D)) (bo := (dBn D)) (cm := (dCm D)) (k := 0)  (by decide)) dX3_holds_22 rfl (rc_at B (ci := 12) rfl (k := 7) rfl) rfl q3103 q3105 qs49 q85 q3106 rfl rfl moX3_isWrong rfl rfl (by decide) (by decide) (Nat.le_of_ble_eq_true rfl) (by omega) (by omega) (fun _ _ hx => noX_x hx) (fun v22 L1 hp22 => ?_)
      obtain ⟨rfl, rfl⟩ := hp22
      refine (show Go g κ 25 [some (.ref m), some (.int v), some (.int u), none, none, none] [.int (nI (if ¬ 0 = 0 then 1 else 0))] [v0, v1, v2, v4, v6, v7, v3, v5, [(m, .inr (12, [.ref ls, .ref lb, .ref lk, .ref lp, .ref lr, .ref le, .ref lm, .ref lo, .int (nI 0), .int (dZz D), .int (nI (dBn D)), .int (nI (dCm D))]))]] ((490 + 32 * (dMs D).length) + 1) ((6020 + 80 * (dMs D).length) + 4) from ?_)
      refine g_if_eq (tgt := 30) (q := 28) B dX3_holds_25 rfl (by decide) (iff_true_intro (by decide)) (fun _ => ?_) (fun z => absurd trivial z)
      obtain ⟨hne, hin14⟩ := c14
      obtain ⟨i, hii, rfl⟩ := inR_t c6
      obtain ⟨j, hij, rfl⟩ := inR_t hin14
      obtain ⟨r0, hr0⟩ := get_ex (xs := dPs D) (i := i) hii
      refine (show Go g κ 30 [some (.ref m), some (.int (nI i)), some (.int (nI j)), none, none, none] [] [v0, v1, v2, v4, v6, v7, v3, v5, [(m, .inr (12, [.ref ls, .ref lb, .ref lk, .ref lp, .ref lr, .ref le, .ref lm, .ref lo, .int (nI 0), .int (dZz D), .int (nI (dBn D)), .int (nI (dCm D))]))]] ((490 + 32 * (dMs D).length) + 1) ((6020 + 80 * (dMs D).length) + 4) from ?_)
      refine g_aload_n (q := 31) B dX3_holds_30 rfl rfl (rv_r _) ?_
      refine g_callV (q := 34) (is := [8, 7]) (kc2 := ((490 + 32 * (dMs D).length) + 1)) (ks2 := ((6020 + 80 * (dMs D).length) + 4)) B [] (ct_X3_newest g J (m := m) (ls := ls) (lb := lb) (lk := lk) (lp := lp) (lr := lr) (le := le) (lm := lm) (lo := lo) (th := 0) (z := (dZz D)) (bo := (dBn D)) (cm := (dCm D)) (Es := (dEs D)) (ecap := ecap) (Ep := Ep) hv5 (hT hne) (by omega)) dX3_holds_31 rfl (rc_at B (ci := 12) rfl (k := 8) rfl) rfl q3374 q3376 qs63 q85 q3377 rfl rfl moX3_newest rfl rfl (by decide) (by decide) (Nat.le_of_ble_eq_true rfl) (by omega) (by omega) (fun _ _ hx => noX_x hx) (fun v31 L1 hp31 => ?_)
      obtain ⟨e31, rfl, rfl, hE_31⟩ := hp31
      refine (show Go g κ 34 [some (.ref m), some (.int (nI i)), some (.int (nI j)), none, none, none] [.ref e31] [v0, v1, v2, v4, v6, v7, v3, [(m, .inr (12, [.ref ls, .ref lb, .ref lk, .ref lp, .ref lr, .ref le, .ref lm, .ref lo, .int (nI 0), .int (dZz D), .int (nI (dBn D)), .int (nI (dCm D))]))], v5] ((490 + 32 * (dMs D).length) + 1) ((6020 + 80 * (dMs D).length) + 4) from ?_)
      have hEB31 := EpP.b2 hE_31
      have hTB31 := hEB31.2.1
      have hp231 := p2_4 hTB31.1
      obtain ⟨ap_3, an_3, al_3, ac_3, aw_3, am_3, ak_3, fp_3, fn_3, fl_3, fc_3, fw_3, fm_3, fk_3, hE_3, hfp_3, hfn_3, hfl_3, hfc_3, hfw_3, hfm_3, hfk_3, hc_3_0, hc_3_1, hc_3_2, hc_3_3, hc_3_4, hc_3_5, hc_3_6, hc_3_7⟩ := EpP.at (hE_31)
      refine g_getNM (q := 37) B (ci := 16) (k := 8) (j := 5) in_X13 rfl dX3_holds_34 rfl rfl (hc_3_0) (Nat.le_of_ble_eq_true rfl) q3263 rfl rfl ?_
      refine g_iload_n (q := 38) B dX3_holds_37 rfl rfl ?_
      refine g_ialdM (v := oI (((eTr Ep).2.1) j)) (q := 39) B (k := 8) dX3_holds_38 rfl rfl (hc_3_2) (vp_in_nI (by omega) (by omega)) (by rw [nI_clamp (by omega)]; exact hfn_3 _ (by omega)) ?_
      refine g_istore_n (q := 40) (lv2 := [some (.ref m), some (.int (nI i)), some (.int (nI j)), some (.int (oI (((eTr Ep).2.1) j))), none, none]) B dX3_holds_39 rfl (Nat.le_of_ble_eq_true rfl) rfl ?_
      refine g_aload_n (q := 41) B dX3_holds_40 rfl rfl (rv_r _) ?_
      refine g_iload_n (q := 42) B dX3_holds_41 rfl rfl ?_
      obtain ⟨hh1_42, hh2_42, hh3_42, hh4_42, hh5_42⟩ := hi5 _ _ hr0
      refine g_callV (q := 45) (is := [7, 2, 5, 5]) (kc2 := 1) (ks2 := 4) B [.int (nI i)] (ct_X3_heldBy g J (m := m) (ls := ls) (lb := lb) (lk := lk) (lp := lp) (lr := lr) (le := le) (lm := lm) (lo := lo) (th := 0) (z := (dZz D)) (bo := (dBn D)) (cm := (dCm D)) (mks := mks) (Ks := (dKs D)) (kcap := kcap) (mps := mps) (Ps := (dPs D)) (pcap := pcap) (Es := (dEs D)) (ecap := ecap) (i := i) (r := r0) (n := (dSs D).length) (Q := (dMs D).length) hv2 hv3 hv5 (hr0) (by have := get_lt2 hr0; omega) (hh1_42) (hh2_42) (hh3_42) (by omega)) dX3_holds_42 rfl (rc_at B (ci := 12) rfl (k := 7) rfl) rfl q3227 q3229 qs55 q85 q3230 rfl rfl moX3_heldBy rfl rfl (by decide) (by decide) (Nat.le_of_ble_eq_true rfl) (by omega) (by omega) (fun _ _ hx => noX_x hx) (fun v42 L1 hp42 => ?_)
      obtain ⟨p42, vs42, u4_42, rfl, rfl, hu4_42, hm_42, hnd_42, hvl_42⟩ := hp42
      refine (show Go g κ 45 [some (.ref m), some (.int (nI i)), some (.int (nI j)), some (.int (oI (((eTr Ep).2.1) j))), none, none] [.ref p42] [v0, v1, v4, v6, v7, [(m, .inr (12, [.ref ls, .ref lb, .ref lk, .ref lp, .ref lr, .ref le, .ref lm, .ref lo, .int (nI 0), .int (dZz D), .int (nI (dBn D)), .int (nI (dCm D))]))], v2, v3, v5, u4_42] 1 4 from ?_)
      have hx42 : ∀ x ∈ vs42, x < (dSs D).length := fun x h => hh3_42 x ((hm_42 x).mp h)
      obtain ⟨ps_4, md_4, hli_4, hln_4, hel_4⟩ := LhP.at (Sub.self hu4_42)
      refine g_callV (q := 48) (is := [9]) (kc2 := 0) (ks2 := 0) B [] (ct_J2_iterator_s g J (p := p42) (xs := ps_4) (md := md_4) (cap := (capF vs42.length)) (W0 := u4_42)  (hli_4)) dX3_holds_45 rfl (rc_in B (ci := 21) rfl (k := 9) rfl (LhP.hm hu4_42)) rfl q3232 q805 q3668 q81 q807 rfl rfl moJ2_iterator rfl rfl (by decide) (by decide) (Nat.le_of_ble_eq_true rfl) (Nat.le_of_ble_eq_true rfl) (Nat.le_of_ble_eq_true rfl) (fun _ _ hx => noX_x hx) (fun v45 L1 hp45 => ?_)
      obtain ⟨it45, rfl, rfl⟩ := hp45
      refine (show Go g κ 48 [some (.ref m), some (.int (nI i)), some (.int (nI j)), some (.int (oI (((eTr Ep).2.1) j))), none, none] [.ref it45] [v0, v1, v4, v6, v7, [(m, .inr (12, [.ref ls, .ref lb, .ref lk, .ref lp, .ref lr, .ref le, .ref lm, .ref lo, .int (nI 0), .int (dZz D), .int (nI (dBn D)), .int (nI (dCm D))]))], v2, v3, v5, [(it45, .inr (22, [.int (nI 0), .int (-1), .int md_4, .ref p42]))], u4_42] 0 0 from ?_)
      refine g_astore (q := 50) (lv2 := [some (.ref m), some (.int (nI i)), some (.int (nI j)), some (.int (oI (((eTr Ep).2.1) j))), some (.ref it45), none]) B dX3_holds_48 rfl (Nat.le_of_ble_eq_true rfl) (rv_r _) rfl ?_
      have lp50 : ∀ (n50 : Nat) (k : Nat) (lrt : Int32) , (k ≤ vs42.length) → (∀ q x, q < k → vs42[q]? = some x → ¬ (eTr Ep).2.1 j = some x) → vs42.length - k = n50 → Go g κ 50 [some (.ref m), some (.int (nI i)), some (.int (nI j)), some (.int (oI (((eTr Ep).2.1) j))), some (.ref it45), none] [] [v0, v1, v4, v6, v7, [(m, .inr (12, [.ref ls, .ref lb, .ref lk, .ref lp, .ref lr, .ref le, .ref lm, .ref lo, .int (nI 0), .int (dZz D), .int (nI (dBn D)), .int (nI (dCm D))]))], v2, v3, v5, [(it45, .inr (22, [.int (nI k), .int lrt, .int md_4, .ref p42]))], u4_42] 0 0 := by
        intro n50
        induction n50 using Nat.strongRecOn with
        | _ n50 ih50 =>
        intro k lrt  hk hno9 hmu50
        refine g_aload (q := 52) B dX3_holds_50 rfl rfl (rv_r _) ?_
        refine g_callF (q := 57) (is := [9, 9]) (kc2 := 0) (ks2 := 0) B [] (ct_J19_hasNext_s g J (p := p42) (xs := ps_4) (md := md_4) (cap := (capF vs42.length)) (it := it45) (c := k) (lr := lrt) (W1 := u4_42)  (hli_4) (by have := hln_4.1; omega)) dX3_holds_52 rfl (ci := 22) rfl (rc_at B (ci := 22) rfl (k := 9) rfl) q3234 q940 q942 q104 q944 q938 q937 q943 q941 q939 rfl rfl mojava_util_Iterator_hasNext___Z rfl rfl (by decide) (by decide) (Nat.le_of_ble_eq_true rfl) (Nat.le_of_ble_eq_true rfl) (Nat.le_of_ble_eq_true rfl) (fun _ _ hx => noX_x hx) (fun v52 L1 hp52 => ?_)
        obtain ⟨rfl, rfl⟩ := hp52
        refine (show Go g κ 57 [some (.ref m), some (.int (nI i)), some (.int (nI j)), some (.int (oI (((eTr Ep).2.1) j))), some (.ref it45), none] [.int (nI (if ¬ k = ps_4.length then 1 else 0))] [v0, v1, v4, v6, v7, [(m, .inr (12, [.ref ls, .ref lb, .ref lk, .ref lp, .ref lr, .ref le, .ref lm, .ref lo, .int (nI 0), .int (dZz D), .int (nI (dBn D)), .int (nI (dCm D))]))], v2, v3, v5, [(it45, .inr (22, [.int (nI k), .int lrt, .int md_4, .ref p42]))], u4_42] 0 0 from ?_)
        rw [hln_4.1]
        refine (show Go g κ 57 [some (.ref m), some (.int (nI i)), some (.int (nI j)), some (.int (oI (((eTr Ep).2.1) j))), some (.ref it45), none] [.int (nI (if ¬ k = vs42.length then 1 else 0))] [v0, v1, v4, v6, v7, [(m, .inr (12, [.ref ls, .ref lb, .ref lk, .ref lp, .ref lr, .ref le, .ref lm, .ref lo, .int (nI 0), .int (dZz D), .int (nI (dBn D)), .int (nI (dCm D))]))], v2, v3, v5, [(it45, .inr (22, [.int (nI k), .int lrt, .int md_4, .ref p42]))], u4_42] 0 0 from ?_)
        refine g_if_eq (tgt := 86) (q := 60) B dX3_holds_57 rfl (by decide) (bo_eq) (fun c57 => ?_) (fun c57 => ?_)
        · skip
          refine g_iconst (v := nI 0) (q := 87) B dX3_holds_86 rfl (by decide) ?_
          obtain ⟨wc_5, ewc_5⟩ : ∃ w : va_W, w = ([[(m, .inr (12, [.ref ls, .ref lb, .ref lk, .ref lp, .ref lr, .ref le, .ref lm, .ref lo, .int (nI 0), .int (dZz D), .int (nI (dBn D)), .int (nI (dCm D))]))], v0, v1, v2, v3, v4, v5, v6, v7] : List va_W).flatten := ⟨_, rfl⟩
          have hwc_5 : KdP g m (dT D 0) wc_5 := by
            rw [ewc_5]
            exact ⟨ls, lb, lk, lp, lr, le, lm, lo, kcap, pcap, rcap, ecap, mcap, mks, mps, _, _, _, _, _, _, _, _, hcap, hv0, hv1, hv2, hv3, hv4, hv5, hv6, hv7, rfl⟩
          refine g_close (w := wc_5) [5, 0, 0, 3, 3, 0, 2, 0, 0] rfl ewc_5 rfl ?_
          refine (show Go g κ 87 [some (.ref m), some (.int (nI i)), some (.int (nI j)), some (.int (oI (((eTr Ep).2.1) j))), some (.ref it45), none] [.int (nI 0)] [[(it45, .inr (22, [.int (nI k), .int lrt, .int md_4, .ref p42]))], u4_42, wc_5] 0 0 from ?_)
          refine g_pk [2] rfl rfl ?_
          refine (show Go g κ 87 [some (.ref m), some (.int (nI i)), some (.int (nI j)), some (.int (oI (((eTr Ep).2.1) j))), some (.ref it45), none] [.int (nI 0)] [wc_5] 0 0 from ?_)
          exact g_zret B E dX3_holds_87 (by decide) (⟨0, false, _, rfl, rfl, hwc_5, Or.inr ⟨rfl, hne, i, r0, j, rfl, hr0, rfl, hij, ⟨(fun z => by cases z), fun ⟨x, z1, z2⟩ => by obtain ⟨q, hq⟩ := List.getElem?_of_mem ((hm_42 x).mpr z2); exact absurd z1 (hno9 q x (by have := get_lt2 hq; omega) hq)⟩⟩⟩)
        · skip
          have c57 := Classical.not_not.mp c57
          refine g_aload (q := 62) B dX3_holds_60 rfl rfl (rv_r _) ?_
          obtain ⟨r62, hr62⟩ := get_ex (xs := vs42) (i := k) (by omega)
          obtain ⟨x62, hx62⟩ := get_ex (xs := ps_4) (i := k) (by have := get_lt2 hr62; have := hln_4.1; omega)
          have hb_6 := Sub.box (hel_4 _ _ _ hx62 hr62)
          refine g_callF (q := 67) (is := [9, 9]) (kc2 := 0) (ks2 := 0) B [] (ct_J19_next_s g J (p := p42) (xs := ps_4) (md := md_4) (cap := (capF vs42.length)) (it := it45) (c := k) (lr := lrt) (x := x62) (W1 := u4_42)  (hli_4) (hx62)) dX3_holds_62 rfl (ci := 22) rfl (rc_at B (ci := 22) rfl (k := 9) rfl) q3236 q967 q969 q104 q971 q966 q965 q970 q968 q939 rfl rfl mojava_util_Iterator_next___Ljava_lang_Object_ rfl rfl (by decide) (by decide) (Nat.le_of_ble_eq_true rfl) (Nat.le_of_ble_eq_true rfl) (Nat.le_of_ble_eq_true rfl) (fun _ _ hx => noX_x hx) (fun v62 L1 hp62 => ?_)
          obtain ⟨rfl, rfl⟩ := hp62
          refine (show Go g κ 67 [some (.ref m), some (.int (nI i)), some (.int (nI j)), some (.int (oI (((eTr Ep).2.1) j))), some (.ref it45), none] [.ref x62] [v0, v1, v4, v6, v7, [(m, .inr (12, [.ref ls, .ref lb, .ref lk, .ref lp, .ref lr, .ref le, .ref lm, .ref lo, .int (nI 0), .int (dZz D), .int (nI (dBn D)), .int (nI (dCm D))]))], v2, v3, v5, [(it45, .inr (22, [.int (nI (k + 1)), .int (nI k), .int md_4, .ref p42]))], u4_42] 0 0 from ?_)
          refine g_castRS (ci := 35) (q := 70) B rfl (rc_bxat B J (k := 10) rfl hb_6) dX3_holds_67 rfl q3240 ?_
          refine g_callV (q := 73) (is := [10]) (kc2 := 0) (ks2 := 0) B [] (ct_J26_intValue_b g J (a := x62) (v := nI r62) (wb := u4_42)  (hb_6)) dX3_holds_70 rfl (rc_bxat B J (k := 10) rfl hb_6) rfl q3241 q1052 q1053 q111 q1054 rfl rfl moJ26_intValue rfl rfl (by decide) (by decide) (Nat.le_of_ble_eq_true rfl) (Nat.le_of_ble_eq_true rfl) (Nat.le_of_ble_eq_true rfl) (fun _ _ hx => noX_x hx) (fun v70 L1 hp70 => ?_)
          obtain ⟨rfl, rfl⟩ := hp70
          refine (show Go g κ 73 [some (.ref m), some (.int (nI i)), some (.int (nI j)), some (.int (oI (((eTr Ep).2.1) j))), some (.ref it45), none] [.int (nI r62)] [v0, v1, v4, v6, v7, [(m, .inr (12, [.ref ls, .ref lb, .ref lk, .ref lp, .ref lr, .ref le, .ref lm, .ref lo, .int (nI 0), .int (dZz D), .int (nI (dBn D)), .int (nI (dCm D))]))], v2, v3, v5, [(it45, .inr (22, [.int (nI (k + 1)), .int (nI k), .int md_4, .ref p42]))], u4_42] 0 0 from ?_)
          refine g_istore (q := 75) (lv2 := [some (.ref m), some (.int (nI i)), some (.int (nI j)), some (.int (oI (((eTr Ep).2.1) j))), some (.ref it45), some (.int (nI r62))]) B dX3_holds_73 rfl (Nat.le_of_ble_eq_true rfl) rfl ?_
          have hr9 := hx42 r62 (List.mem_of_getElem? hr62)
          refine g_iload (q := 77) B dX3_holds_75 rfl rfl ?_
          refine g_iload_n (q := 78) B dX3_holds_77 rfl rfl ?_
          refine g_icmp_ne (tgt := 83) (q := 81) B dX3_holds_78 rfl (by decide) (oI_ne2 ((fun n h => by have := hE_3.2.1.2.1 _ _ h; omega)) (by omega)) (fun c78 => ?_) (fun c78 => ?_)
          · skip
            refine g_goto (tgt := 50) B dX3_holds_83 (by decide) ?_
            refine g_fg 5 rfl ?_
            exact ih50 _ (by have := get_lt2 hr62; omega) (k + 1) (nI k) (by first | assumption | omega | rfl) (fun q x h1 h2 => by rcases Nat.lt_or_ge q k with z | z; exact hno9 q x z h2; rw [show q = k by omega, hr62] at h2; cases h2; exact c78) rfl
          · skip
            have c78 := Classical.not_not.mp c78
            refine g_lvs (lv2 := [some (.ref m), some (.int (nI i)), some (.int (nI j)), some (.int (nI r62)), some (.ref it45), some (.int (nI r62))]) (st2 := []) (by rw [(show oI (((eTr Ep).2.1) j) = nI r62 from by rw [c78]; rfl)]) (by first | rfl | rw [(show oI (((eTr Ep).2.1) j) = nI r62 from by rw [c78]; rfl)]) ?_
            refine g_iconst (v := nI 1) (q := 82) B dX3_holds_81 rfl (by decide) ?_
            obtain ⟨wc_7, ewc_7⟩ : ∃ w : va_W, w = ([[(m, .inr (12, [.ref ls, .ref lb, .ref lk, .ref lp, .ref lr, .ref le, .ref lm, .ref lo, .int (nI 0), .int (dZz D), .int (nI (dBn D)), .int (nI (dCm D))]))], v0, v1, v2, v3, v4, v5, v6, v7] : List va_W).flatten := ⟨_, rfl⟩
            have hwc_7 : KdP g m (dT D 0) wc_7 := by
              rw [ewc_7]
              exact ⟨ls, lb, lk, lp, lr, le, lm, lo, kcap, pcap, rcap, ecap, mcap, mks, mps, _, _, _, _, _, _, _, _, hcap, hv0, hv1, hv2, hv3, hv4, hv5, hv6, hv7, rfl⟩
            refine g_close (w := wc_7) [5, 0, 0, 3, 3, 0, 2, 0, 0] rfl ewc_7 rfl ?_
            refine (show Go g κ 82 [some (.ref m), some (.int (nI i)), some (.int (nI j)), some (.int (nI r62)), some (.ref it45), some (.int (nI r62))] [.int (nI 1)] [[(it45, .inr (22, [.int (nI (k + 1)), .int (nI k), .int md_4, .ref p42]))], u4_42, wc_7] 0 0 from ?_)
            refine g_pk [2] rfl rfl ?_
            refine (show Go g κ 82 [some (.ref m), some (.int (nI i)), some (.int (nI j)), some (.int (nI r62)), some (.ref it45), some (.int (nI r62))] [.int (nI 1)] [wc_7] 0 0 from ?_)
            exact g_zret B E dX3_holds_82 (by decide) (⟨0, true, _, rfl, rfl, hwc_7, Or.inr ⟨rfl, hne, i, r0, j, rfl, hr0, rfl, hij, ⟨fun _ => ⟨r62, c78, (hm_42 _).mp (List.mem_of_getElem? hr62)⟩, fun _ => rfl⟩⟩⟩)
      exact lp50 _ 0 (-1) (Nat.zero_le _) (fun q x h => absurd h (Nat.not_lt_zero q)) rfl
