set_option maxRecDepth 100000
def capM (a b c d e : Nat) : Prop := a ≤ 60 ∧ b ≤ 60 ∧ c ≤ 60 ∧ d ≤ 60 ∧ e ≤ 100
def dT (D : MdS) (th : Nat) : MdS := (dSs D, dBx D, dKs D, dPs D, dRs D, dEs D, dMs D, dSo D, th, dZz D, dBn D, dCm D)
/-- numbers that are kept -/
def MdB (D : MdS) : Prop := (dSs D).length ≤ 900 ∧ (dBx D).length ≤ 1900 ∧ (dPs D).length ≤ 10 ∧ (dKs D).length ≤ 24 ∧ (dRs D).length ≤ 8 ∧ (dEs D).length ≤ 24 ∧ (dMs D).length ≤ 40 ∧ dBn D ≤ 1900 ∧ dCm D ≤ 23
theorem isF_if2 {n : Nat} {e : Option Nat} (h0 : 0 < n) (hn : n < 2 ^ 31) (h : ∀ m, e = some m → m < 2 ^ 31) : oI e ≠ nI n - nI 1 ↔ ¬ isF n e = true := by
  cases e with
  | none =>
    refine ⟨fun _ => isF_n, fun _ z => ?_⟩
    have z : (-1 : Int32) = nI n - nI 1 := z
    have z2 := congrArg Int32.toInt z
    rw [hi_ti hn] at z2
    have e1 : (-1 : Int32).toInt = -1 := by decide
    omega
  | some m =>
    have hm := h m rfl
    show nI m ≠ _ ↔ _
    unfold isF
    rw [pk_sub (by omega), Ne, nI_eq hm (by omega)]
    simp; omega
theorem isF_z (e : Option Nat) : ¬ isF 0 e = true := by cases e <;> simp [isF]
def KdP (g : Gv) (m : Nat) (D : MdS) (w : va_W) : Prop := ∃ (ls : Nat) (lb : Nat) (lk : Nat) (lp : Nat) (lr : Nat) (le : Nat) (lm : Nat) (lo : Nat) (kcap : Nat) (pcap : Nat) (rcap : Nat) (ecap : Nat) (mcap : Nat) (mks : List Nat) (mps : List Nat) (v0 : va_W) (v1 : va_W) (v2 : va_W) (v3 : va_W) (v4 : va_W) (v5 : va_W) (v6 : va_W) (v7 : va_W), (capM kcap pcap rcap ecap mcap) ∧ LhP g (SecP g) ls (dSs D) (capF (dSs D).length) v0 ∧ LhP g (BbP g) lb (dBx D) (capF (dBx D).length) v1 ∧ LoP g (MqP g) lk mks (dKs D) kcap v2 ∧ LoP g (MpP g) lp mps (dPs D) pcap v3 ∧ LhP g (MrP g) lr (dRs D) rcap v4 ∧ LhP g (EpP g) le (dEs D) ecap v5 ∧ LhP g (MmP g) lm (dMs D) mcap v6 ∧ LhP g (BxE g) lo (dSo D) (capF (dSo D).length) v7 ∧ w = ([[(m, .inr (12, [.ref ls, .ref lb, .ref lk, .ref lp, .ref lr, .ref le, .ref lm, .ref lo, .int (nI (dTh D)), .int (dZz D), .int (nI (dBn D)), .int (nI (dCm D))]))], v0, v1, v2, v3, v4, v5, v6, v7] : List va_W).flatten
theorem KdP.hm {g : Gv} {m : Nat} {D : MdS} {w : va_W} (h : KdP g m D w) : ∃ fs, (m, .inr (12, fs)) ∈ w := by
  obtain ⟨ls, lb, lk, lp, lr, le, lm, lo, kcap, pcap, rcap, ecap, mcap, mks, mps, v0, v1, v2, v3, v4, v5, v6, v7, hcap, hv0, hv1, hv2, hv3, hv4, hv5, hv6, hv7, rfl⟩ := h
  exact ⟨_, List.mem_cons_self⟩
theorem KdP.vd {g : Gv} {m : Nat} {D : MdS} {w : va_W} (h : KdP g m D w) : Vd g m w := by
  obtain ⟨fs, h⟩ := KdP.hm h
  exact Or.inl ⟨12, fs, by decide, h⟩
theorem KdP.at {g : Gv} {m : Nat} {D : MdS} {W : va_W} (h : Sub (KdP g m D) W) : ∃ (ls : Nat) (lb : Nat) (lk : Nat) (lp : Nat) (lr : Nat) (le : Nat) (lm : Nat) (lo : Nat) (kcap : Nat) (pcap : Nat) (rcap : Nat) (ecap : Nat) (mcap : Nat) (mks : List Nat) (mps : List Nat), (capM kcap pcap rcap ecap mcap) ∧ (m, .inr (12, [.ref ls, .ref lb, .ref lk, .ref lp, .ref lr, .ref le, .ref lm, .ref lo, .int (nI (dTh D)), .int (dZz D), .int (nI (dBn D)), .int (nI (dCm D))])) ∈ W ∧ Sub (LhP g (SecP g) ls (dSs D) (capF (dSs D).length)) W ∧ Sub (LhP g (BbP g) lb (dBx D) (capF (dBx D).length)) W ∧ Sub (LoP g (MqP g) lk mks (dKs D) kcap) W ∧ Sub (LoP g (MpP g) lp mps (dPs D) pcap) W ∧ Sub (LhP g (MrP g) lr (dRs D) rcap) W ∧ Sub (LhP g (EpP g) le (dEs D) ecap) W ∧ Sub (LhP g (MmP g) lm (dMs D) mcap) W ∧ Sub (LhP g (BxE g) lo (dSo D) (capF (dSo D).length)) W := by
  obtain ⟨w, R, hp, h⟩ := h
  obtain ⟨ls, lb, lk, lp, lr, le, lm, lo, kcap, pcap, rcap, ecap, mcap, mks, mps, v0, v1, v2, v3, v4, v5, v6, v7, hcap, hv0, hv1, hv2, hv3, hv4, hv5, hv6, hv7, rfl⟩ := h
  exact ⟨ls, lb, lk, lp, lr, le, lm, lo, kcap, pcap, rcap, ecap, mcap, mks, mps, hcap, sub_c hp 0 rfl, Sub.in hp rfl 1 rfl hv0, Sub.in hp rfl 2 rfl hv1, Sub.in hp rfl 3 rfl hv2, Sub.in hp rfl 4 rfl hv3, Sub.in hp rfl 5 rfl hv4, Sub.in hp rfl 6 rfl hv5, Sub.in hp rfl 7 rfl hv6, Sub.in hp rfl 8 rfl hv7⟩
theorem moX3_isBetween : Mo yX3_isBetween 3 := by
  refine ⟨by decide, by decide, by decide +kernel⟩
theorem ct_X3_isPerson (g : Gv) (J : Jd g) {m : Nat} {ls : Nat} {lb : Nat} {lk : Nat} {lp : Nat} {lr : Nat} {le : Nat} {lm : Nat} {lo : Nat} {th : Nat} {z : Int32} {bo : Nat} {cm : Nat} {mps : List Nat} {Ps : List MpS} {pcap : Nat} {v : Int32} {w1 : va_W} (hw1 : LoP g (MpP g) lp mps Ps pcap w1) (hn : Ps.length < 2 ^ 31) : Ct g yX3_isPerson (ws_ yX3_isPerson cX3_isPerson 2 (some .boolean)) 3 0 0 [.ref m, .int v] [[(m, .inr (12, [.ref ls, .ref lb, .ref lk, .ref lp, .ref lr, .ref le, .ref lm, .ref lo, .int (nI th), .int z, .int (nI bo), .int (nI cm)]))], w1] (fun (rv_ : Option Value) (rL_ : List va_W) => rv_ = some (.int (nI (if inR v Ps.length = true then 1 else 0))) ∧ rL_ = [[(m, .inr (12, [.ref ls, .ref lb, .ref lk, .ref lp, .ref lr, .ref le, .ref lm, .ref lo, .int (nI th), .int z, .int (nI bo), .int (nI cm)]))], w1]) noX := by
  refine Ct.of "KeygroveModel" [some (.ref m), some (.int v)] rfl (by decide) rfl (Nat.le_of_ble_eq_true rfl) rfl ?_
  intro κ B E tb
  refine g_iload_n (q := 1) B dX3_isPerson_0 rfl rfl ?_
  refine g_iconst (v := nI 0) (q := 2) B dX3_isPerson_1 rfl (by decide) ?_
  refine g_aload_n (q := 3) B dX3_isPerson_2 rfl rfl (rv_r _) ?_
  refine g_get (q := 6) B (ci := 12) (k := 0) (j := 3) in_X3 rfl dX3_isPerson_3 rfl rfl (Nat.le_of_ble_eq_true rfl) q3060 rfl rfl ?_
  obtain ⟨md_1, hli_1, hln_1, hel_1⟩ := LoP.at (Sub.self hw1)
  refine g_callV (q := 9) (is := [1]) (kc2 := 0) (ks2 := 0) B [] (ct_J2_size_s g J (p := lp) (xs := mps) (md := md_1) (cap := pcap) (W0 := w1)  (hli_1)) dX3_isPerson_6 rfl (rc_in B (ci := 21) rfl (k := 1) rfl (LoP.hm hw1)) rfl q3102 q321 q3665 q81 q323 rfl rfl moJ2_size rfl rfl (by decide) (by decide) (Nat.le_of_ble_eq_true rfl) (Nat.le_of_ble_eq_true rfl) (Nat.le_of_ble_eq_true rfl) (fun _ _ hx => noX_x hx) (fun v6 L1 hp6 => ?_)
  obtain ⟨rfl, rfl⟩ := hp6
  refine (show Go g κ 9 [some (.ref m), some (.int v)] [.int (nI mps.length), .int (nI 0), .int v] [[(m, .inr (12, [.ref ls, .ref lb, .ref lk, .ref lp, .ref lr, .ref le, .ref lm, .ref lo, .int (nI th), .int z, .int (nI bo), .int (nI cm)]))], w1] 0 0 from ?_)
  rw [hln_1.1]
  refine (show Go g κ 9 [some (.ref m), some (.int v)] [.int (nI Ps.length), .int (nI 0), .int v] [[(m, .inr (12, [.ref ls, .ref lb, .ref lk, .ref lp, .ref lr, .ref le, .ref lm, .ref lo, .int (nI th), .int z, .int (nI bo), .int (nI cm)]))], w1] 0 0 from ?_)
  refine g_iconst (v := nI 1) (q := 10) B dX3_isPerson_9 rfl (by decide) ?_
  refine g_isub (v := nI Ps.length - nI 1) (q := 11) B dX3_isPerson_10 rfl rfl ?_
  refine g_callS (q := 14) (is := []) (kc2 := 0) (ks2 := 0) B [.int v, .int (nI 0), .int (nI Ps.length - nI 1)] (ct_X3_isBetween g J (v := v) (n := Ps.length)  (by first | assumption | omega | rfl)) dX3_isPerson_11 rfl q3157 q3158 q85 q3159 rfl rfl moX3_isBetween rfl rfl (by decide) (by decide) (Nat.le_of_ble_eq_true rfl) (Nat.le_of_ble_eq_true rfl) (Nat.le_of_ble_eq_true rfl) (fun _ _ hx => noX_x hx) (fun v11 L1 hp11 => ?_)
  obtain ⟨rfl, rfl⟩ := hp11
  refine (show Go g κ 14 [some (.ref m), some (.int v)] [.int (nI (if inR v Ps.length = true then 1 else 0))] [[(m, .inr (12, [.ref ls, .ref lb, .ref lk, .ref lp, .ref lr, .ref le, .ref lm, .ref lo, .int (nI th), .int z, .int (nI bo), .int (nI cm)]))], w1] 0 0 from ?_)
  exact g_zret B E dX3_isPerson_14 (by split <;> decide) (⟨rfl, rfl⟩)
theorem ct_X3_isEpoch (g : Gv) (J : Jd g) {m : Nat} {ls : Nat} {lb : Nat} {lk : Nat} {lp : Nat} {lr : Nat} {le : Nat} {lm : Nat} {lo : Nat} {th : Nat} {z : Int32} {bo : Nat} {cm : Nat} {Es : List MeS} {ecap : Nat} {v : Int32} {w1 : va_W} (hw1 : LhP g (EpP g) le Es ecap w1) (hn : Es.length < 2 ^ 31) : Ct g yX3_isEpoch (ws_ yX3_isEpoch cX3_isEpoch 2 (some .boolean)) 3 0 0 [.ref m, .int v] [[(m, .inr (12, [.ref ls, .ref lb, .ref lk, .ref lp, .ref lr, .ref le, .ref lm, .ref lo, .int (nI th), .int z, .int (nI bo), .int (nI cm)]))], w1] (fun (rv_ : Option Value) (rL_ : List va_W) => rv_ = some (.int (nI (if inR v Es.length = true then 1 else 0))) ∧ rL_ = [[(m, .inr (12, [.ref ls, .ref lb, .ref lk, .ref lp, .ref lr, .ref le, .ref lm, .ref lo, .int (nI th), .int z, .int (nI bo), .int (nI cm)]))], w1]) noX := by
  refine Ct.of "KeygroveModel" [some (.ref m), some (.int v)] rfl (by decide) rfl (Nat.le_of_ble_eq_true rfl) rfl ?_
  intro κ B E tb
  refine g_iload_n (q := 1) B dX3_isEpoch_0 rfl rfl ?_
  refine g_iconst (v := nI 0) (q := 2) B dX3_isEpoch_1 rfl (by decide) ?_
  refine g_aload_n (q := 3) B dX3_isEpoch_2 rfl rfl (rv_r _) ?_
  refine g_get (q := 6) B (ci := 12) (k := 0) (j := 5) in_X3 rfl dX3_isEpoch_3 rfl rfl (Nat.le_of_ble_eq_true rfl) q3062 rfl rfl ?_
  obtain ⟨ps_1, md_1, hli_1, hln_1, hel_1⟩ := LhP.at (Sub.self hw1)
  refine g_callV (q := 9) (is := [1]) (kc2 := 0) (ks2 := 0) B [] (ct_J2_size_s g J (p := le) (xs := ps_1) (md := md_1) (cap := ecap) (W0 := w1)  (hli_1)) dX3_isEpoch_6 rfl (rc_in B (ci := 21) rfl (k := 1) rfl (LhP.hm hw1)) rfl q3102 q321 q3665 q81 q323 rfl rfl moJ2_size rfl rfl (by decide) (by decide) (Nat.le_of_ble_eq_true rfl) (Nat.le_of_ble_eq_true rfl) (Nat.le_of_ble_eq_true rfl) (fun _ _ hx => noX_x hx) (fun v6 L1 hp6 => ?_)
  obtain ⟨rfl, rfl⟩ := hp6
  refine (show Go g κ 9 [some (.ref m), some (.int v)] [.int (nI ps_1.length), .int (nI 0), .int v] [[(m, .inr (12, [.ref ls, .ref lb, .ref lk, .ref lp, .ref lr, .ref le, .ref lm, .ref lo, .int (nI th), .int z, .int (nI bo), .int (nI cm)]))], w1] 0 0 from ?_)
  rw [hln_1.1]
  refine (show Go g κ 9 [some (.ref m), some (.int v)] [.int (nI Es.length), .int (nI 0), .int v] [[(m, .inr (12, [.ref ls, .ref lb, .ref lk, .ref lp, .ref lr, .ref le, .ref lm, .ref lo, .int (nI th), .int z, .int (nI bo), .int (nI cm)]))], w1] 0 0 from ?_)
  refine g_iconst (v := nI 1) (q := 10) B dX3_isEpoch_9 rfl (by decide) ?_
  refine g_isub (v := nI Es.length - nI 1) (q := 11) B dX3_isEpoch_10 rfl rfl ?_
  refine g_callS (q := 14) (is := []) (kc2 := 0) (ks2 := 0) B [.int v, .int (nI 0), .int (nI Es.length - nI 1)] (ct_X3_isBetween g J (v := v) (n := Es.length)  (by first | assumption | omega | rfl)) dX3_isEpoch_11 rfl q3157 q3158 q85 q3159 rfl rfl moX3_isBetween rfl rfl (by decide) (by decide) (Nat.le_of_ble_eq_true rfl) (Nat.le_of_ble_eq_true rfl) (Nat.le_of_ble_eq_true rfl) (fun _ _ hx => noX_x hx) (fun v11 L1 hp11 => ?_)
  obtain ⟨rfl, rfl⟩ := hp11
  refine (show Go g κ 14 [some (.ref m), some (.int v)] [.int (nI (if inR v Es.length = true then 1 else 0))] [[(m, .inr (12, [.ref ls, .ref lb, .ref lk, .ref lp, .ref lr, .ref le, .ref lm, .ref lo, .int (nI th), .int z, .int (nI bo), .int (nI cm)]))], w1] 0 0 from ?_)
  exact g_zret B E dX3_isEpoch_14 (by split <;> decide) (⟨rfl, rfl⟩)
theorem ct_X3_isMessage (g : Gv) (J : Jd g) {m : Nat} {ls : Nat} {lb : Nat} {lk : Nat} {lp : Nat} {lr : Nat} {le : Nat} {lm : Nat} {lo : Nat} {th : Nat} {z : Int32} {bo : Nat} {cm : Nat} {Ms : List MmS} {mcap : Nat} {v : Int32} {w1 : va_W} (hw1 : LhP g (MmP g) lm Ms mcap w1) (hn : Ms.length < 2 ^ 31) : Ct g yX3_isMessage (ws_ yX3_isMessage cX3_isMessage 2 (some .boolean)) 3 0 0 [.ref m, .int v] [[(m, .inr (12, [.ref ls, .ref lb, .ref lk, .ref lp, .ref lr, .ref le, .ref lm, .ref lo, .int (nI th), .int z, .int (nI bo), .int (nI cm)]))], w1] (fun (rv_ : Option Value) (rL_ : List va_W) => rv_ = some (.int (nI (if inR v Ms.length = true then 1 else 0))) ∧ rL_ = [[(m, .inr (12, [.ref ls, .ref lb, .ref lk, .ref lp, .ref lr, .ref le, .ref lm, .ref lo, .int (nI th), .int z, .int (nI bo), .int (nI cm)]))], w1]) noX := by
  refine Ct.of "KeygroveModel" [some (.ref m), some (.int v)] rfl (by decide) rfl (Nat.le_of_ble_eq_true rfl) rfl ?_
  intro κ B E tb
  refine g_iload_n (q := 1) B dX3_isMessage_0 rfl rfl ?_
  refine g_iconst (v := nI 0) (q := 2) B dX3_isMessage_1 rfl (by decide) ?_
  refine g_aload_n (q := 3) B dX3_isMessage_2 rfl rfl (rv_r _) ?_
  refine g_get (q := 6) B (ci := 12) (k := 0) (j := 6) in_X3 rfl dX3_isMessage_3 rfl rfl (Nat.le_of_ble_eq_true rfl) q3063 rfl rfl ?_
  obtain ⟨ps_1, md_1, hli_1, hln_1, hel_1⟩ := LhP.at (Sub.self hw1)
  refine g_callV (q := 9) (is := [1]) (kc2 := 0) (ks2 := 0) B [] (ct_J2_size_s g J (p := lm) (xs := ps_1) (md := md_1) (cap := mcap) (W0 := w1)  (hli_1)) dX3_isMessage_6 rfl (rc_in B (ci := 21) rfl (k := 1) rfl (LhP.hm hw1)) rfl q3102 q321 q3665 q81 q323 rfl rfl moJ2_size rfl rfl (by decide) (by decide) (Nat.le_of_ble_eq_true rfl) (Nat.le_of_ble_eq_true rfl) (Nat.le_of_ble_eq_true rfl) (fun _ _ hx => noX_x hx) (fun v6 L1 hp6 => ?_)
  obtain ⟨rfl, rfl⟩ := hp6
  refine (show Go g κ 9 [some (.ref m), some (.int v)] [.int (nI ps_1.length), .int (nI 0), .int v] [[(m, .inr (12, [.ref ls, .ref lb, .ref lk, .ref lp, .ref lr, .ref le, .ref lm, .ref lo, .int (nI th), .int z, .int (nI bo), .int (nI cm)]))], w1] 0 0 from ?_)
  rw [hln_1.1]
  refine (show Go g κ 9 [some (.ref m), some (.int v)] [.int (nI Ms.length), .int (nI 0), .int v] [[(m, .inr (12, [.ref ls, .ref lb, .ref lk, .ref lp, .ref lr, .ref le, .ref lm, .ref lo, .int (nI th), .int z, .int (nI bo), .int (nI cm)]))], w1] 0 0 from ?_)
  refine g_iconst (v := nI 1) (q := 10) B dX3_isMessage_9 rfl (by decide) ?_
  refine g_isub (v := nI Ms.length - nI 1) (q := 11) B dX3_isMessage_10 rfl rfl ?_
  refine g_callS (q := 14) (is := []) (kc2 := 0) (ks2 := 0) B [.int v, .int (nI 0), .int (nI Ms.length - nI 1)] (ct_X3_isBetween g J (v := v) (n := Ms.length)  (by first | assumption | omega | rfl)) dX3_isMessage_11 rfl q3157 q3158 q85 q3159 rfl rfl moX3_isBetween rfl rfl (by decide) (by decide) (Nat.le_of_ble_eq_true rfl) (Nat.le_of_ble_eq_true rfl) (Nat.le_of_ble_eq_true rfl) (fun _ _ hx => noX_x hx) (fun v11 L1 hp11 => ?_)
  obtain ⟨rfl, rfl⟩ := hp11
  refine (show Go g κ 14 [some (.ref m), some (.int v)] [.int (nI (if inR v Ms.length = true then 1 else 0))] [[(m, .inr (12, [.ref ls, .ref lb, .ref lk, .ref lp, .ref lr, .ref le, .ref lm, .ref lo, .int (nI th), .int z, .int (nI bo), .int (nI cm)]))], w1] 0 0 from ?_)
  exact g_zret B E dX3_isMessage_14 (by split <;> decide) (⟨rfl, rfl⟩)
theorem moX3_isPerson : Mo yX3_isPerson 1 := by
  refine ⟨by decide, by decide, by decide +kernel⟩
theorem moX3_isWrong : Mo yX3_isWrong 1 := by
  refine ⟨by decide, by decide, by decide +kernel⟩
theorem ct_X3_isNoPerson (g : Gv) (J : Jd g) {m : Nat} {ls : Nat} {lb : Nat} {lk : Nat} {lp : Nat} {lr : Nat} {le : Nat} {lm : Nat} {lo : Nat} {th : Nat} {z : Int32} {bo : Nat} {cm : Nat} {mps : List Nat} {Ps : List MpS} {pcap : Nat} {v : Int32} {w1 : va_W} (hw1 : LoP g (MpP g) lp mps Ps pcap w1) (hn : Ps.length < 2 ^ 31) : Ct g yX3_isNoPerson (ws_ yX3_isNoPerson cX3_isNoPerson 2 (some .boolean)) 4 0 0 [.ref m, .int v] [[(m, .inr (12, [.ref ls, .ref lb, .ref lk, .ref lp, .ref lr, .ref le, .ref lm, .ref lo, .int (nI th), .int z, .int (nI bo), .int (nI cm)]))], w1] (fun (rv_ : Option Value) (rL_ : List va_W) => ∃ (k : Nat), rv_ = some (.int (nI (if ¬ inR v Ps.length = true then 1 else 0))) ∧ rL_ = [[(m, .inr (12, [.ref ls, .ref lb, .ref lk, .ref lp, .ref lr, .ref le, .ref lm, .ref lo, .int (nI k), .int z, .int (nI bo), .int (nI cm)]))], w1] ∧ (k = if inR v Ps.length = true then 0 else 1)) noX := by
  refine Ct.of "KeygroveModel" [some (.ref m), some (.int v)] rfl (by decide) rfl (Nat.le_of_ble_eq_true rfl) rfl ?_
  intro κ B E tb
  refine g_aload_n (q := 1) B dX3_isNoPerson_0 rfl rfl (rv_r _) ?_
  refine g_aload_n (q := 2) B dX3_isNoPerson_1 rfl rfl (rv_r _) ?_
  refine g_iload_n (q := 3) B dX3_isNoPerson_2 rfl rfl ?_
  refine g_callV (q := 6) (is := [0, 0]) (kc2 := 0) (ks2 := 0) B [.int v] (ct_X3_isPerson g J (m := m) (ls := ls) (lb := lb) (lk := lk) (lp := lp) (lr := lr) (le := le) (lm := lm) (lo := lo) (th := th) (z := z) (bo := bo) (cm := cm) (mps := mps) (Ps := Ps) (pcap := pcap) (v := v) hw1 (by first | assumption | omega | rfl)) dX3_isNoPerson_3 rfl (rc_at B (ci := 12) rfl (k := 0) rfl) rfl q3153 q3155 qs51 q85 q3156 rfl rfl moX3_isPerson rfl rfl (by decide) (by decide) (Nat.le_of_ble_eq_true rfl) (Nat.le_of_ble_eq_true rfl) (Nat.le_of_ble_eq_true rfl) (fun _ _ hx => noX_x hx) (fun v3 L1 hp3 => ?_)
  obtain ⟨rfl, rfl⟩ := hp3
  refine (show Go g κ 6 [some (.ref m), some (.int v)] [.int (nI (if inR v Ps.length = true then 1 else 0)), .ref m] [[(m, .inr (12, [.ref ls, .ref lb, .ref lk, .ref lp, .ref lr, .ref le, .ref lm, .ref lo, .int (nI th), .int z, .int (nI bo), .int (nI cm)]))], w1] 0 0 from ?_)
  refine g_if_eq (tgt := 13) (q := 9) B dX3_isNoPerson_6 rfl (by decide) (bo_eq) (fun c6 => ?_) (fun c6 => ?_)
  · skip
    refine g_iconst (v := nI 1) (q := 14) B dX3_isNoPerson_13 rfl (by decide) ?_
    refine g_callV (q := 17) (is := [0]) (kc2 := 0) (ks2 := 0) B [.int (nI 1)] (ct_X3_isWrong g J (m := m) (ls := ls) (lb := lb) (lk := lk) (lp := lp) (lr := lr) (le := le) (lm := lm) (lo := lo) (th := th) (z := z) (bo := bo) (cm := cm) (k := 1)  (by decide)) dX3_isNoPerson_14 rfl (rc_at B (ci := 12) rfl (k := 0) rfl) rfl q3103 q3105 qs49 q85 q3106 rfl rfl moX3_isWrong rfl rfl (by decide) (by decide) (Nat.le_of_ble_eq_true rfl) (Nat.le_of_ble_eq_true rfl) (Nat.le_of_ble_eq_true rfl) (fun _ _ hx => noX_x hx) (fun v14 L1 hp14 => ?_)
    obtain ⟨rfl, rfl⟩ := hp14
    refine (show Go g κ 17 [some (.ref m), some (.int v)] [.int (nI (if ¬ 1 = 0 then 1 else 0))] [w1, [(m, .inr (12, [.ref ls, .ref lb, .ref lk, .ref lp, .ref lr, .ref le, .ref lm, .ref lo, .int (nI 1), .int z, .int (nI bo), .int (nI cm)]))]] 0 0 from ?_)
    refine g_pk [1, 0] rfl rfl ?_
    refine (show Go g κ 17 [some (.ref m), some (.int v)] [.int (nI (if ¬ 1 = 0 then 1 else 0))] [[(m, .inr (12, [.ref ls, .ref lb, .ref lk, .ref lp, .ref lr, .ref le, .ref lm, .ref lo, .int (nI 1), .int z, .int (nI bo), .int (nI cm)]))], w1] 0 0 from ?_)
    exact g_zret B E dX3_isNoPerson_17 (by split <;> decide) (⟨1, (by first | (rw [if_pos c6]; rfl) | (rw [if_neg (not_not_intro c6)]; rfl) | (rw [if_neg c6]; rfl)), rfl, (by first | rw [if_pos c6] | rw [if_neg c6])⟩)
  · skip
    have c6 := Classical.not_not.mp c6
    refine g_iconst (v := nI 0) (q := 10) B dX3_isNoPerson_9 rfl (by decide) ?_
    refine g_goto (tgt := 14) B dX3_isNoPerson_10 (by decide) ?_
    refine g_callV (q := 17) (is := [0]) (kc2 := 0) (ks2 := 0) B [.int (nI 0)] (ct_X3_isWrong g J (m := m) (ls := ls) (lb := lb) (lk := lk) (lp := lp) (lr := lr) (le := le) (lm := lm) (lo := lo) (th := th) (z := z) (bo := bo) (cm := cm) (k := 0)  (by decide)) dX3_isNoPerson_14 rfl (rc_at B (ci := 12) rfl (k := 0) rfl) rfl q3103 q3105 qs49 q85 q3106 rfl rfl moX3_isWrong rfl rfl (by decide) (by decide) (Nat.le_of_ble_eq_true rfl) (Nat.le_of_ble_eq_true rfl) (Nat.le_of_ble_eq_true rfl) (fun _ _ hx => noX_x hx) (fun v14 L1 hp14 => ?_)
    obtain ⟨rfl, rfl⟩ := hp14
    refine (show Go g κ 17 [some (.ref m), some (.int v)] [.int (nI (if ¬ 0 = 0 then 1 else 0))] [w1, [(m, .inr (12, [.ref ls, .ref lb, .ref lk, .ref lp, .ref lr, .ref le, .ref lm, .ref lo, .int (nI 0), .int z, .int (nI bo), .int (nI cm)]))]] 0 0 from ?_)
    refine g_pk [1, 0] rfl rfl ?_
    refine (show Go g κ 17 [some (.ref m), some (.int v)] [.int (nI (if ¬ 0 = 0 then 1 else 0))] [[(m, .inr (12, [.ref ls, .ref lb, .ref lk, .ref lp, .ref lr, .ref le, .ref lm, .ref lo, .int (nI 0), .int z, .int (nI bo), .int (nI cm)]))], w1] 0 0 from ?_)
    exact g_zret B E dX3_isNoPerson_17 (by split <;> decide) (⟨0, (by first | (rw [if_pos c6]; rfl) | (rw [if_neg (not_not_intro c6)]; rfl) | (rw [if_neg c6]; rfl)), rfl, (by first | rw [if_pos c6] | rw [if_neg c6])⟩)
theorem ct_X3_newest (g : Gv) (J : Jd g) {m : Nat} {ls : Nat} {lb : Nat} {lk : Nat} {lp : Nat} {lr : Nat} {le : Nat} {lm : Nat} {lo : Nat} {th : Nat} {z : Int32} {bo : Nat} {cm : Nat} {Es : List MeS} {ecap : Nat} {Ep : MeS} {w1 : va_W} (hw1 : LhP g (EpP g) le Es ecap w1) (hT : Es[Es.length - 1]? = some Ep) (hn : Es.length < 2 ^ 31) : Ct g yX3_newest (ws_ yX3_newest cX3_newest 1 (some (.object "KeygroveModel$Epoch"))) 4 0 0 [.ref m] [[(m, .inr (12, [.ref ls, .ref lb, .ref lk, .ref lp, .ref lr, .ref le, .ref lm, .ref lo, .int (nI th), .int z, .int (nI bo), .int (nI cm)]))], w1] (fun (rv_ : Option Value) (rL_ : List va_W) => ∃ (e : Nat), rv_ = some (.ref e) ∧ rL_ = [[(m, .inr (12, [.ref ls, .ref lb, .ref lk, .ref lp, .ref lr, .ref le, .ref lm, .ref lo, .int (nI th), .int z, .int (nI bo), .int (nI cm)]))], w1] ∧ (Sub (EpP g e Ep) w1)) noX := by
  refine Ct.of "KeygroveModel" [some (.ref m)] rfl (by decide) rfl (Nat.le_of_ble_eq_true rfl) rfl ?_
  intro κ B E tb
  refine g_aload_n (q := 1) B dX3_newest_0 rfl rfl (rv_r _) ?_
  refine g_get (q := 4) B (ci := 12) (k := 0) (j := 5) in_X3 rfl dX3_newest_1 rfl rfl (Nat.le_of_ble_eq_true rfl) q3062 rfl rfl ?_
  refine g_aload_n (q := 5) B dX3_newest_4 rfl rfl (rv_r _) ?_
  refine g_get (q := 8) B (ci := 12) (k := 0) (j := 5) in_X3 rfl dX3_newest_5 rfl rfl (Nat.le_of_ble_eq_true rfl) q3062 rfl rfl ?_
  obtain ⟨ps_1, md_1, hli_1, hln_1, hel_1⟩ := LhP.at (Sub.self hw1)
  refine g_callV (q := 11) (is := [1]) (kc2 := 0) (ks2 := 0) B [] (ct_J2_size_s g J (p := le) (xs := ps_1) (md := md_1) (cap := ecap) (W0 := w1)  (hli_1)) dX3_newest_8 rfl (rc_in B (ci := 21) rfl (k := 1) rfl (LhP.hm hw1)) rfl q3102 q321 q3665 q81 q323 rfl rfl moJ2_size rfl rfl (by decide) (by decide) (Nat.le_of_ble_eq_true rfl) (Nat.le_of_ble_eq_true rfl) (Nat.le_of_ble_eq_true rfl) (fun _ _ hx => noX_x hx) (fun v8 L1 hp8 => ?_)
  obtain ⟨rfl, rfl⟩ := hp8
  refine (show Go g κ 11 [some (.ref m)] [.int (nI ps_1.length), .ref le] [[(m, .inr (12, [.ref ls, .ref lb, .ref lk, .ref lp, .ref lr, .ref le, .ref lm, .ref lo, .int (nI th), .int z, .int (nI bo), .int (nI cm)]))], w1] 0 0 from ?_)
  rw [hln_1.1]
  refine (show Go g κ 11 [some (.ref m)] [.int (nI Es.length), .ref le] [[(m, .inr (12, [.ref ls, .ref lb, .ref lk, .ref lp, .ref lr, .ref le, .ref lm, .ref lo, .int (nI th), .int z, .int (nI bo), .int (nI cm)]))], w1] 0 0 from ?_)
  refine g_iconst (v := nI 1) (q := 12) B dX3_newest_11 rfl (by decide) ?_
  refine g_isub (v := nI Es.length - nI 1) (q := 13) B dX3_newest_12 rfl rfl ?_
  rw [(show nI Es.length - nI 1 = nI (Es.length - 1) from pk_sub (by have := get_lt2 hT; omega))]
  refine (show Go g κ 13 [some (.ref m)] [.int (nI (Es.length - 1)), .ref le] [[(m, .inr (12, [.ref ls, .ref lb, .ref lk, .ref lp, .ref lr, .ref le, .ref lm, .ref lo, .int (nI th), .int z, .int (nI bo), .int (nI cm)]))], w1] 0 0 from ?_)
  obtain ⟨x13, hx13⟩ := get_ex (xs := ps_1) (i := Es.length - 1) (by have := get_lt2 (show Es[Es.length - 1]? = some Ep from hT); have := hln_1.1; omega)
  have hE_2 := hel_1 _ _ _ hx13 (show Es[Es.length - 1]? = some Ep from hT)
  refine g_callV (q := 16) (is := [1]) (kc2 := 0) (ks2 := 0) B [.int (nI (Es.length - 1))] (ct_J2_get_s g J (p := le) (xs := ps_1) (md := md_1) (cap := ecap) (i := Es.length - 1) (x := x13) (W0 := w1)  (hli_1) (hx13)) dX3_newest_13 rfl (rc_in B (ci := 21) rfl (k := 1) rfl (LhP.hm hw1)) rfl q3231 q1095 q3667 q81 q1097 rfl rfl moJ2_get rfl rfl (by decide) (by decide) (Nat.le_of_ble_eq_true rfl) (Nat.le_of_ble_eq_true rfl) (Nat.le_of_ble_eq_true rfl) (fun _ _ hx => noX_x hx) (fun v13 L1 hp13 => ?_)
  obtain ⟨rfl, rfl⟩ := hp13
  refine (show Go g κ 16 [some (.ref m)] [.ref x13] [[(m, .inr (12, [.ref ls, .ref lb, .ref lk, .ref lp, .ref lr, .ref le, .ref lm, .ref lo, .int (nI th), .int z, .int (nI bo), .int (nI cm)]))], w1] 0 0 from ?_)
  refine g_castRS (ci := 16) (q := 19) B rfl (rc_in B (ci := 16) rfl (k := 1) rfl (Sub.hm (hE_2) fun _ z => EpP.hm z)) dX3_newest_16 rfl q3243 ?_
  exact g_aret B E dX3_newest_19 (by first | exact Or.inl ⟨_, rfl⟩ | exact Or.inr ⟨_, rfl⟩) (rv_r _) (⟨x13, rfl, rfl, hE_2⟩)
theorem ct_X3_isNew (g : Gv) (J : Jd g) {m : Nat} {ls : Nat} {lb : Nat} {lk : Nat} {lp : Nat} {lr : Nat} {le : Nat} {lm : Nat} {lo : Nat} {th : Nat} {z : Int32} {bo : Nat} {cm : Nat} {mps : List Nat} {Ps : List MpS} {pcap : Nat} {Es : List MeS} {ecap : Nat} {i : Nat} {r : MpS} {w1 : va_W} {w2 : va_W} (hw1 : LoP g (MpP g) lp mps Ps pcap w1) (hw2 : LhP g (EpP g) le Es ecap w2) (hr : Ps[i]? = some r) (hn : Es.length < 2 ^ 31) (hi : i < 2 ^ 31) : Ct g yX3_isNew (ws_ yX3_isNew cX3_isNew 2 (some .boolean)) 3 0 0 [.ref m, .int (nI i)] [[(m, .inr (12, [.ref ls, .ref lb, .ref lk, .ref lp, .ref lr, .ref le, .ref lm, .ref lo, .int (nI th), .int z, .int (nI bo), .int (nI cm)]))], w1, w2] (fun (rv_ : Option Value) (rL_ : List va_W) => rv_ = some (.int (nI (if isF Es.length (mEp r) = true then 1 else 0))) ∧ rL_ = [[(m, .inr (12, [.ref ls, .ref lb, .ref lk, .ref lp, .ref lr, .ref le, .ref lm, .ref lo, .int (nI th), .int z, .int (nI bo), .int (nI cm)]))], w1, w2]) noX := by
  refine Ct.of "KeygroveModel" [some (.ref m), some (.int (nI i))] rfl (by decide) rfl (Nat.le_of_ble_eq_true rfl) rfl ?_
  intro κ B E tb
  refine g_aload_n (q := 1) B dX3_isNew_0 rfl rfl (rv_r _) ?_
  refine g_get (q := 4) B (ci := 12) (k := 0) (j := 5) in_X3 rfl dX3_isNew_1 rfl rfl (Nat.le_of_ble_eq_true rfl) q3062 rfl rfl ?_
  obtain ⟨ps_1, md_1, hli_1, hln_1, hel_1⟩ := LhP.at (Sub.self hw2)
  refine g_callV (q := 7) (is := [2]) (kc2 := 0) (ks2 := 0) B [] (ct_J2_isEmpty_s g J (p := le) (xs := ps_1) (md := md_1) (cap := ecap) (W0 := w2)  (hli_1)) dX3_isNew_4 rfl (rc_in B (ci := 21) rfl (k := 2) rfl (LhP.hm hw2)) rfl q3248 q1130 q3669 q81 q1132 rfl rfl moJ2_isEmpty rfl rfl (by decide) (by decide) (Nat.le_of_ble_eq_true rfl) (Nat.le_of_ble_eq_true rfl) (Nat.le_of_ble_eq_true rfl) (fun _ _ hx => noX_x hx) (fun v4 L1 hp4 => ?_)
  obtain ⟨rfl, rfl⟩ := hp4
  refine (show Go g κ 7 [some (.ref m), some (.int (nI i))] [.int (nI (if ps_1.length = 0 then 1 else 0))] [[(m, .inr (12, [.ref ls, .ref lb, .ref lk, .ref lp, .ref lr, .ref le, .ref lm, .ref lo, .int (nI th), .int z, .int (nI bo), .int (nI cm)]))], w1, w2] 0 0 from ?_)
  rw [hln_1.1]
  refine (show Go g κ 7 [some (.ref m), some (.int (nI i))] [.int (nI (if Es.length = 0 then 1 else 0))] [[(m, .inr (12, [.ref ls, .ref lb, .ref lk, .ref lp, .ref lr, .ref le, .ref lm, .ref lo, .int (nI th), .int z, .int (nI bo), .int (nI cm)]))], w1, w2] 0 0 from ?_)
  refine g_if_ne (tgt := 40) (q := 10) B dX3_isNew_7 rfl (by decide) (bo_ne) (fun c7 => ?_) (fun c7 => ?_)
  · skip
    refine g_iconst (v := nI 0) (q := 41) B dX3_isNew_40 rfl (by decide) ?_
    exact g_zret B E dX3_isNew_41 (by decide) (⟨bo0 (by first | exact c33 | (rw [show Es.length = 0 by omega]; exact isF_z _)), rfl⟩)
  · skip
    refine g_aload_n (q := 11) B dX3_isNew_10 rfl rfl (rv_r _) ?_
    refine g_get (q := 14) B (ci := 12) (k := 0) (j := 3) in_X3 rfl dX3_isNew_11 rfl rfl (Nat.le_of_ble_eq_true rfl) q3060 rfl rfl ?_
    refine g_iload_n (q := 15) B dX3_isNew_14 rfl rfl ?_
    obtain ⟨md_2, hli_2, hln_2, hel_2⟩ := LoP.at (Sub.self hw1)
    obtain ⟨x15, hx15⟩ := get_ex (xs := mps) (i := i) (by have := get_lt2 (show Ps[i]? = some r from hr); have := hln_2.1; omega)
    have hE_3 := hel_2 _ _ _ hx15 (show Ps[i]? = some r from hr)
    refine g_callV (q := 18) (is := [1]) (kc2 := 0) (ks2 := 0) B [.int (nI i)] (ct_J2_get_s g J (p := lp) (xs := mps) (md := md_2) (cap := pcap) (i := i) (x := x15) (W0 := w1)  (hli_2) (hx15)) dX3_isNew_15 rfl (rc_in B (ci := 21) rfl (k := 1) rfl (LoP.hm hw1)) rfl q3231 q1095 q3667 q81 q1097 rfl rfl moJ2_get rfl rfl (by decide) (by decide) (Nat.le_of_ble_eq_true rfl) (Nat.le_of_ble_eq_true rfl) (Nat.le_of_ble_eq_true rfl) (fun _ _ hx => noX_x hx) (fun v15 L1 hp15 => ?_)
    obtain ⟨rfl, rfl⟩ := hp15
    refine (show Go g κ 18 [some (.ref m), some (.int (nI i))] [.ref x15] [[(m, .inr (12, [.ref ls, .ref lb, .ref lk, .ref lp, .ref lr, .ref le, .ref lm, .ref lo, .int (nI th), .int z, .int (nI bo), .int (nI cm)]))], w2, w1] 0 0 from ?_)
    refine g_castRS (ci := 13) (q := 21) B rfl (rc_in B (ci := 13) rfl (k := 2) rfl (Sub.hm (hE_3) fun _ z => MpP.hm z)) dX3_isNew_18 rfl q3107 ?_
    have hMB9 : MpB r := by
      obtain ⟨w9, R9, -, h9⟩ := hE_3
      obtain ⟨_, _, _, _, _, _, _, _, h8, -⟩ := h9
      exact h8
    obtain ⟨nd_4, ch_4, ev_4, cv_4, fn_4, fc_4, hM_4, hfn_4, hoc_4, hcv_4, hc_4_0, hc_4_1, hc_4_2, hs_4_0, hs_4_1⟩ := MpP.at (hE_3)
    refine g_getNM (q := 24) B (ci := 13) (k := 2) (j := 0) in_X5 rfl dX3_isNew_21 rfl rfl (hc_4_0) (Nat.le_of_ble_eq_true rfl) q3118 rfl rfl ?_
    refine g_aload_n (q := 25) B dX3_isNew_24 rfl rfl (rv_r _) ?_
    refine g_get (q := 28) B (ci := 12) (k := 0) (j := 5) in_X3 rfl dX3_isNew_25 rfl rfl (Nat.le_of_ble_eq_true rfl) q3062 rfl rfl ?_
    refine g_callV (q := 31) (is := [1]) (kc2 := 0) (ks2 := 0) B [] (ct_J2_size_s g J (p := le) (xs := ps_1) (md := md_1) (cap := ecap) (W0 := w2)  (hli_1)) dX3_isNew_28 rfl (rc_in B (ci := 21) rfl (k := 1) rfl (LhP.hm hw2)) rfl q3102 q321 q3665 q81 q323 rfl rfl moJ2_size rfl rfl (by decide) (by decide) (Nat.le_of_ble_eq_true rfl) (Nat.le_of_ble_eq_true rfl) (Nat.le_of_ble_eq_true rfl) (fun _ _ hx => noX_x hx) (fun v28 L1 hp28 => ?_)
    obtain ⟨rfl, rfl⟩ := hp28
    refine (show Go g κ 31 [some (.ref m), some (.int (nI i))] [.int (nI ps_1.length), .int (oI (mEp r))] [[(m, .inr (12, [.ref ls, .ref lb, .ref lk, .ref lp, .ref lr, .ref le, .ref lm, .ref lo, .int (nI th), .int z, .int (nI bo), .int (nI cm)]))], w1, w2] 0 0 from ?_)
    rw [hln_1.1]
    refine (show Go g κ 31 [some (.ref m), some (.int (nI i))] [.int (nI Es.length), .int (oI (mEp r))] [[(m, .inr (12, [.ref ls, .ref lb, .ref lk, .ref lp, .ref lr, .ref le, .ref lm, .ref lo, .int (nI th), .int z, .int (nI bo), .int (nI cm)]))], w1, w2] 0 0 from ?_)
    refine g_iconst (v := nI 1) (q := 32) B dX3_isNew_31 rfl (by decide) ?_
    refine g_isub (v := nI Es.length - nI 1) (q := 33) B dX3_isNew_32 rfl rfl ?_
    refine g_icmp_ne (tgt := 40) (q := 36) B dX3_isNew_33 rfl (by decide) (isF_if2 (by omega) (by omega) (fun n h => by have := hMB9.1 n h; omega)) (fun c33 => ?_) (fun c33 => ?_)
    · skip
      refine g_iconst (v := nI 0) (q := 41) B dX3_isNew_40 rfl (by decide) ?_
      exact g_zret B E dX3_isNew_41 (by decide) (⟨bo0 (by first | exact c33 | (rw [show Es.length = 0 by omega]; exact isF_z _)), rfl⟩)
    · skip
      refine g_iconst (v := nI 1) (q := 37) B dX3_isNew_36 rfl (by decide) ?_
      refine g_goto (tgt := 41) B dX3_isNew_37 (by decide) ?_
      exact g_zret B E dX3_isNew_41 (by decide) (⟨bo1 (Classical.not_not.mp c33), rfl⟩)
theorem moX3_newest : Mo yX3_newest 0 := by
  refine ⟨by decide, by decide, by decide +kernel⟩
theorem ct_X3_isNode (g : Gv) (J : Jd g) {m : Nat} {ls : Nat} {lb : Nat} {lk : Nat} {lp : Nat} {lr : Nat} {le : Nat} {lm : Nat} {lo : Nat} {th : Nat} {z : Int32} {bo : Nat} {cm : Nat} {Es : List MeS} {ecap : Nat} {Ep : MeS} {v : Int32} {w1 : va_W} (hw1 : LhP g (EpP g) le Es ecap w1) (hT : Es ≠ [] → Es[Es.length - 1]? = some Ep) (hn : Es.length < 2 ^ 31) : Ct g yX3_isNode (ws_ yX3_isNode cX3_isNode 2 (some .boolean)) 5 0 0 [.ref m, .int v] [[(m, .inr (12, [.ref ls, .ref lb, .ref lk, .ref lp, .ref lr, .ref le, .ref lm, .ref lo, .int (nI th), .int z, .int (nI bo), .int (nI cm)]))], w1] (fun (rv_ : Option Value) (rL_ : List va_W) => rv_ = some (.int (nI (if Es ≠ [] ∧ inR v (2 * 2 ^ (eTr Ep).1 - 1) = true then 1 else 0))) ∧ rL_ = [[(m, .inr (12, [.ref ls, .ref lb, .ref lk, .ref lp, .ref lr, .ref le, .ref lm, .ref lo, .int (nI th), .int z, .int (nI bo), .int (nI cm)]))], w1]) noX := by
  refine Ct.of "KeygroveModel" [some (.ref m), some (.int v)] rfl (by decide) rfl (Nat.le_of_ble_eq_true rfl) rfl ?_
  intro κ B E tb
  refine g_aload_n (q := 1) B dX3_isNode_0 rfl rfl (rv_r _) ?_
  refine g_get (q := 4) B (ci := 12) (k := 0) (j := 5) in_X3 rfl dX3_isNode_1 rfl rfl (Nat.le_of_ble_eq_true rfl) q3062 rfl rfl ?_
  obtain ⟨ps_1, md_1, hli_1, hln_1, hel_1⟩ := LhP.at (Sub.self hw1)
  refine g_callV (q := 7) (is := [1]) (kc2 := 0) (ks2 := 0) B [] (ct_J2_isEmpty_s g J (p := le) (xs := ps_1) (md := md_1) (cap := ecap) (W0 := w1)  (hli_1)) dX3_isNode_4 rfl (rc_in B (ci := 21) rfl (k := 1) rfl (LhP.hm hw1)) rfl q3248 q1130 q3669 q81 q1132 rfl rfl moJ2_isEmpty rfl rfl (by decide) (by decide) (Nat.le_of_ble_eq_true rfl) (Nat.le_of_ble_eq_true rfl) (Nat.le_of_ble_eq_true rfl) (fun _ _ hx => noX_x hx) (fun v4 L1 hp4 => ?_)
  obtain ⟨rfl, rfl⟩ := hp4
  refine (show Go g κ 7 [some (.ref m), some (.int v)] [.int (nI (if ps_1.length = 0 then 1 else 0))] [[(m, .inr (12, [.ref ls, .ref lb, .ref lk, .ref lp, .ref lr, .ref le, .ref lm, .ref lo, .int (nI th), .int z, .int (nI bo), .int (nI cm)]))], w1] 0 0 from ?_)
  rw [hln_1.1]
  refine (show Go g κ 7 [some (.ref m), some (.int v)] [.int (nI (if Es.length = 0 then 1 else 0))] [[(m, .inr (12, [.ref ls, .ref lb, .ref lk, .ref lp, .ref lr, .ref le, .ref lm, .ref lo, .int (nI th), .int z, .int (nI bo), .int (nI cm)]))], w1] 0 0 from ?_)
  refine g_if_ne (tgt := 31) (q := 10) B dX3_isNode_7 rfl (by decide) (bo_ne) (fun c7 => ?_) (fun c7 => ?_)
  · skip
    refine g_iconst (v := nI 0) (q := 32) B dX3_isNode_31 rfl (by decide) ?_
    exact g_zret B E dX3_isNode_32 (by decide) (⟨bo0 (by rintro ⟨z1, z2⟩; first | exact c24 z2 | exact z1 (List.length_eq_zero_iff.mp c7)), rfl⟩)
  · skip
    have hne : Es ≠ [] := fun z => c7 (by rw [z]; rfl)
    refine g_iload_n (q := 11) B dX3_isNode_10 rfl rfl ?_
    refine g_iconst (v := nI 0) (q := 12) B dX3_isNode_11 rfl (by decide) ?_
    refine g_aload_n (q := 13) B dX3_isNode_12 rfl rfl (rv_r _) ?_
    refine g_callV (q := 16) (is := [0, 0]) (kc2 := 0) (ks2 := 0) B [] (ct_X3_newest g J (m := m) (ls := ls) (lb := lb) (lk := lk) (lp := lp) (lr := lr) (le := le) (lm := lm) (lo := lo) (th := th) (z := z) (bo := bo) (cm := cm) (Es := Es) (ecap := ecap) (Ep := Ep) hw1 (hT hne) (by first | assumption | omega | rfl)) dX3_isNode_13 rfl (rc_at B (ci := 12) rfl (k := 0) rfl) rfl q3374 q3376 qs63 q85 q3377 rfl rfl moX3_newest rfl rfl (by decide) (by decide) (Nat.le_of_ble_eq_true rfl) (Nat.le_of_ble_eq_true rfl) (Nat.le_of_ble_eq_true rfl) (fun _ _ hx => noX_x hx) (fun v13 L1 hp13 => ?_)
    obtain ⟨e13, rfl, rfl, hE_13⟩ := hp13
    refine (show Go g κ 16 [some (.ref m), some (.int v)] [.ref e13, .int (nI 0), .int v] [[(m, .inr (12, [.ref ls, .ref lb, .ref lk, .ref lp, .ref lr, .ref le, .ref lm, .ref lo, .int (nI th), .int z, .int (nI bo), .int (nI cm)]))], w1] 0 0 from ?_)
    have hEB13 := EpP.b2 hE_13
    have hTB13 := hEB13.2.1
    have hp213 := p2_4 hTB13.1
    refine g_callV (q := 19) (is := [1]) (kc2 := 0) (ks2 := 0) B [] (ct_X13_nodes_s g J (e := e13) (r := Ep) (W0 := w1)  (hE_13)) dX3_isNode_16 rfl (rc_in B (ci := 16) rfl (k := 1) rfl (Sub.hm (hE_13) fun _ z => EpP.hm z)) rfl q3434 q3435 q3436 q137 q3437 rfl rfl moX13_nodes rfl rfl (by decide) (by decide) (Nat.le_of_ble_eq_true rfl) (Nat.le_of_ble_eq_true rfl) (Nat.le_of_ble_eq_true rfl) (fun _ _ hx => noX_x hx) (fun v16 L1 hp16 => ?_)
    obtain ⟨rfl, rfl⟩ := hp16
    refine (show Go g κ 19 [some (.ref m), some (.int v)] [.int (nI (2 * 2 ^ (eTr Ep).1 - 1)), .int (nI 0), .int v] [[(m, .inr (12, [.ref ls, .ref lb, .ref lk, .ref lp, .ref lr, .ref le, .ref lm, .ref lo, .int (nI th), .int z, .int (nI bo), .int (nI cm)]))], w1] 0 0 from ?_)
    refine g_iconst (v := nI 1) (q := 20) B dX3_isNode_19 rfl (by decide) ?_
    refine g_isub (v := nI (2 * 2 ^ (eTr Ep).1 - 1) - nI 1) (q := 21) B dX3_isNode_20 rfl rfl ?_
    refine g_callS (q := 24) (is := []) (kc2 := 0) (ks2 := 0) B [.int v, .int (nI 0), .int (nI (2 * 2 ^ (eTr Ep).1 - 1) - nI 1)] (ct_X3_isBetween g J (v := v) (n := 2 * 2 ^ (eTr Ep).1 - 1)  (by omega)) dX3_isNode_21 rfl q3157 q3158 q85 q3159 rfl rfl moX3_isBetween rfl rfl (by decide) (by decide) (Nat.le_of_ble_eq_true rfl) (Nat.le_of_ble_eq_true rfl) (Nat.le_of_ble_eq_true rfl) (fun _ _ hx => noX_x hx) (fun v21 L1 hp21 => ?_)
    obtain ⟨rfl, rfl⟩ := hp21
    refine (show Go g κ 24 [some (.ref m), some (.int v)] [.int (nI (if inR v (2 * 2 ^ (eTr Ep).1 - 1) = true then 1 else 0))] [[(m, .inr (12, [.ref ls, .ref lb, .ref lk, .ref lp, .ref lr, .ref le, .ref lm, .ref lo, .int (nI th), .int z, .int (nI bo), .int (nI cm)]))], w1] 0 0 from ?_)
    refine g_if_eq (tgt := 31) (q := 27) B dX3_isNode_24 rfl (by decide) (bo_eq) (fun c24 => ?_) (fun c24 => ?_)
    · skip
      refine g_iconst (v := nI 0) (q := 32) B dX3_isNode_31 rfl (by decide) ?_
      exact g_zret B E dX3_isNode_32 (by decide) (⟨bo0 (by rintro ⟨z1, z2⟩; first | exact c24 z2 | exact z1 (List.length_eq_zero_iff.mp c7)), rfl⟩)
    · skip
      have c24 := Classical.not_not.mp c24
      refine g_iconst (v := nI 1) (q := 28) B dX3_isNode_27 rfl (by decide) ?_
      refine g_goto (tgt := 32) B dX3_isNode_28 (by decide) ?_
      exact g_zret B E dX3_isNode_32 (by decide) (⟨bo1 (⟨hne, c24⟩), rfl⟩)
theorem moX3_isNode : Mo yX3_isNode 1 := by
  refine ⟨by decide, by decide, by decide +kernel⟩
theorem ct_X3_isNoNode (g : Gv) (J : Jd g) {m : Nat} {ls : Nat} {lb : Nat} {lk : Nat} {lp : Nat} {lr : Nat} {le : Nat} {lm : Nat} {lo : Nat} {th : Nat} {z : Int32} {bo : Nat} {cm : Nat} {Es : List MeS} {ecap : Nat} {Ep : MeS} {v : Int32} {w1 : va_W} (hw1 : LhP g (EpP g) le Es ecap w1) (hT : Es ≠ [] → Es[Es.length - 1]? = some Ep) (hn : Es.length < 2 ^ 31) : Ct g yX3_isNoNode (ws_ yX3_isNoNode cX3_isNoNode 2 (some .boolean)) 6 0 0 [.ref m, .int v] [[(m, .inr (12, [.ref ls, .ref lb, .ref lk, .ref lp, .ref lr, .ref le, .ref lm, .ref lo, .int (nI th), .int z, .int (nI bo), .int (nI cm)]))], w1] (fun (rv_ : Option Value) (rL_ : List va_W) => ∃ (k : Nat), rv_ = some (.int (nI (if ¬ (Es ≠ [] ∧ inR v (2 * 2 ^ (eTr Ep).1 - 1) = true) then 1 else 0))) ∧ rL_ = [[(m, .inr (12, [.ref ls, .ref lb, .ref lk, .ref lp, .ref lr, .ref le, .ref lm, .ref lo, .int (nI k), .int z, .int (nI bo), .int (nI cm)]))], w1] ∧ ((k = 0 ∧ (Es ≠ [] ∧ inR v (2 * 2 ^ (eTr Ep).1 - 1) = true)) ∨ (k = 1 ∧ ¬ (Es ≠ [] ∧ inR v (2 * 2 ^ (eTr Ep).1 - 1) = true)))) noX := by
  refine Ct.of "KeygroveModel" [some (.ref m), some (.int v)] rfl (by decide) rfl (Nat.le_of_ble_eq_true rfl) rfl ?_
  intro κ B E tb
  refine g_aload_n (q := 1) B dX3_isNoNode_0 rfl rfl (rv_r _) ?_
  refine g_aload_n (q := 2) B dX3_isNoNode_1 rfl rfl (rv_r _) ?_
  refine g_iload_n (q := 3) B dX3_isNoNode_2 rfl rfl ?_
  refine g_callV (q := 6) (is := [0, 0]) (kc2 := 0) (ks2 := 0) B [.int v] (ct_X3_isNode g J (m := m) (ls := ls) (lb := lb) (lk := lk) (lp := lp) (lr := lr) (le := le) (lm := lm) (lo := lo) (th := th) (z := z) (bo := bo) (cm := cm) (Es := Es) (ecap := ecap) (Ep := Ep) (v := v) hw1 (by first | assumption | omega | rfl) (by first | assumption | omega | rfl)) dX3_isNoNode_3 rfl (rc_at B (ci := 12) rfl (k := 0) rfl) rfl q3522 q3524 qs72 q85 q3525 rfl rfl moX3_isNode rfl rfl (by decide) (by decide) (Nat.le_of_ble_eq_true rfl) (Nat.le_of_ble_eq_true rfl) (Nat.le_of_ble_eq_true rfl) (fun _ _ hx => noX_x hx) (fun v3 L1 hp3 => ?_)
  obtain ⟨rfl, rfl⟩ := hp3
  refine (show Go g κ 6 [some (.ref m), some (.int v)] [.int (nI (if Es ≠ [] ∧ inR v (2 * 2 ^ (eTr Ep).1 - 1) = true then 1 else 0)), .ref m] [[(m, .inr (12, [.ref ls, .ref lb, .ref lk, .ref lp, .ref lr, .ref le, .ref lm, .ref lo, .int (nI th), .int z, .int (nI bo), .int (nI cm)]))], w1] 0 0 from ?_)
  refine g_if_eq (tgt := 13) (q := 9) B dX3_isNoNode_6 rfl (by decide) (bo_eq) (fun c6 => ?_) (fun c6 => ?_)
  · skip
    refine g_iconst (v := nI 1) (q := 14) B dX3_isNoNode_13 rfl (by decide) ?_
    refine g_callV (q := 17) (is := [0]) (kc2 := 0) (ks2 := 0) B [.int (nI 1)] (ct_X3_isWrong g J (m := m) (ls := ls) (lb := lb) (lk := lk) (lp := lp) (lr := lr) (le := le) (lm := lm) (lo := lo) (th := th) (z := z) (bo := bo) (cm := cm) (k := 1)  (by decide)) dX3_isNoNode_14 rfl (rc_at B (ci := 12) rfl (k := 0) rfl) rfl q3103 q3105 qs49 q85 q3106 rfl rfl moX3_isWrong rfl rfl (by decide) (by decide) (Nat.le_of_ble_eq_true rfl) (Nat.le_of_ble_eq_true rfl) (Nat.le_of_ble_eq_true rfl) (fun _ _ hx => noX_x hx) (fun v14 L1 hp14 => ?_)
    obtain ⟨rfl, rfl⟩ := hp14
    refine (show Go g κ 17 [some (.ref m), some (.int v)] [.int (nI (if ¬ 1 = 0 then 1 else 0))] [w1, [(m, .inr (12, [.ref ls, .ref lb, .ref lk, .ref lp, .ref lr, .ref le, .ref lm, .ref lo, .int (nI 1), .int z, .int (nI bo), .int (nI cm)]))]] 0 0 from ?_)
    refine g_pk [1, 0] rfl rfl ?_
    refine (show Go g κ 17 [some (.ref m), some (.int v)] [.int (nI (if ¬ 1 = 0 then 1 else 0))] [[(m, .inr (12, [.ref ls, .ref lb, .ref lk, .ref lp, .ref lr, .ref le, .ref lm, .ref lo, .int (nI 1), .int z, .int (nI bo), .int (nI cm)]))], w1] 0 0 from ?_)
    exact g_zret B E dX3_isNoNode_17 (by split <;> decide) (⟨1, (by first | (rw [if_pos c6]; rfl) | (rw [if_neg (not_not_intro c6)]; rfl) | (rw [if_neg c6]; rfl)), rfl, (by first | exact Or.inl ⟨rfl, c6⟩ | exact Or.inr ⟨rfl, c6⟩)⟩)
  · skip
    have c6 := Classical.not_not.mp c6
    refine g_iconst (v := nI 0) (q := 10) B dX3_isNoNode_9 rfl (by decide) ?_
    refine g_goto (tgt := 14) B dX3_isNoNode_10 (by decide) ?_
    refine g_callV (q := 17) (is := [0]) (kc2 := 0) (ks2 := 0) B [.int (nI 0)] (ct_X3_isWrong g J (m := m) (ls := ls) (lb := lb) (lk := lk) (lp := lp) (lr := lr) (le := le) (lm := lm) (lo := lo) (th := th) (z := z) (bo := bo) (cm := cm) (k := 0)  (by decide)) dX3_isNoNode_14 rfl (rc_at B (ci := 12) rfl (k := 0) rfl) rfl q3103 q3105 qs49 q85 q3106 rfl rfl moX3_isWrong rfl rfl (by decide) (by decide) (Nat.le_of_ble_eq_true rfl) (Nat.le_of_ble_eq_true rfl) (Nat.le_of_ble_eq_true rfl) (fun _ _ hx => noX_x hx) (fun v14 L1 hp14 => ?_)
    obtain ⟨rfl, rfl⟩ := hp14
    refine (show Go g κ 17 [some (.ref m), some (.int v)] [.int (nI (if ¬ 0 = 0 then 1 else 0))] [w1, [(m, .inr (12, [.ref ls, .ref lb, .ref lk, .ref lp, .ref lr, .ref le, .ref lm, .ref lo, .int (nI 0), .int z, .int (nI bo), .int (nI cm)]))]] 0 0 from ?_)
    refine g_pk [1, 0] rfl rfl ?_
    refine (show Go g κ 17 [some (.ref m), some (.int v)] [.int (nI (if ¬ 0 = 0 then 1 else 0))] [[(m, .inr (12, [.ref ls, .ref lb, .ref lk, .ref lp, .ref lr, .ref le, .ref lm, .ref lo, .int (nI 0), .int z, .int (nI bo), .int (nI cm)]))], w1] 0 0 from ?_)
    exact g_zret B E dX3_isNoNode_17 (by split <;> decide) (⟨0, (by first | (rw [if_pos c6]; rfl) | (rw [if_neg (not_not_intro c6)]; rfl) | (rw [if_neg c6]; rfl)), rfl, (by first | exact Or.inl ⟨rfl, c6⟩ | exact Or.inr ⟨rfl, c6⟩)⟩)
theorem ct_X3_isInNone (g : Gv) (J : Jd g) {m : Nat} {ls : Nat} {lb : Nat} {lk : Nat} {lp : Nat} {lr : Nat} {le : Nat} {lm : Nat} {lo : Nat} {th : Nat} {z : Int32} {bo : Nat} {cm : Nat} {mps : List Nat} {Ps : List MpS} {pcap : Nat} {v : Int32} {w1 : va_W} (hw1 : LoP g (MpP g) lp mps Ps pcap w1) (hn : Ps.length < 2 ^ 31) : Ct g yX3_isInNone (ws_ yX3_isInNone cX3_isInNone 2 (some .boolean)) 5 0 0 [.ref m, .int v] [[(m, .inr (12, [.ref ls, .ref lb, .ref lk, .ref lp, .ref lr, .ref le, .ref lm, .ref lo, .int (nI th), .int z, .int (nI bo), .int (nI cm)]))], w1] (fun (rv_ : Option Value) (rL_ : List va_W) => ∃ (k : Nat), rv_ = some (.int (nI (if ¬ k = 0 then 1 else 0))) ∧ rL_ = [[(m, .inr (12, [.ref ls, .ref lb, .ref lk, .ref lp, .ref lr, .ref le, .ref lm, .ref lo, .int (nI k), .int z, .int (nI bo), .int (nI cm)]))], w1] ∧ ((k = 1 ∧ ¬ inR v Ps.length = true) ∨ ∃ (i : Nat) (r : MpS), v = nI i ∧ Ps[i]? = some r ∧ ((k = 2 ∧ mEp r = none) ∨ (k = 0 ∧ ¬ mEp r = none)))) noX := by
  refine Ct.of "KeygroveModel" [some (.ref m), some (.int v)] rfl (by decide) rfl (Nat.le_of_ble_eq_true rfl) rfl ?_
  intro κ B E tb
  refine g_aload_n (q := 1) B dX3_isInNone_0 rfl rfl (rv_r _) ?_
  refine g_aload_n (q := 2) B dX3_isInNone_1 rfl rfl (rv_r _) ?_
  refine g_iload_n (q := 3) B dX3_isInNone_2 rfl rfl ?_
  refine g_callV (q := 6) (is := [0, 0]) (kc2 := 0) (ks2 := 0) B [.int v] (ct_X3_isPerson g J (m := m) (ls := ls) (lb := lb) (lk := lk) (lp := lp) (lr := lr) (le := le) (lm := lm) (lo := lo) (th := th) (z := z) (bo := bo) (cm := cm) (mps := mps) (Ps := Ps) (pcap := pcap) (v := v) hw1 (by first | assumption | omega | rfl)) dX3_isInNone_3 rfl (rc_at B (ci := 12) rfl (k := 0) rfl) rfl q3153 q3155 qs51 q85 q3156 rfl rfl moX3_isPerson rfl rfl (by decide) (by decide) (Nat.le_of_ble_eq_true rfl) (Nat.le_of_ble_eq_true rfl) (Nat.le_of_ble_eq_true rfl) (fun _ _ hx => noX_x hx) (fun v3 L1 hp3 => ?_)
  obtain ⟨rfl, rfl⟩ := hp3
  refine (show Go g κ 6 [some (.ref m), some (.int v)] [.int (nI (if inR v Ps.length = true then 1 else 0)), .ref m] [[(m, .inr (12, [.ref ls, .ref lb, .ref lk, .ref lp, .ref lr, .ref le, .ref lm, .ref lo, .int (nI th), .int z, .int (nI bo), .int (nI cm)]))], w1] 0 0 from ?_)
  refine g_if_ne (tgt := 13) (q := 9) B dX3_isInNone_6 rfl (by decide) (bo_ne) (fun c6 => ?_) (fun c6 => ?_)
  · skip
    obtain ⟨i, hii, rfl⟩ := inR_t c6
    refine (show Go g κ 13 [some (.ref m), some (.int (nI i))] [.ref m] [[(m, .inr (12, [.ref ls, .ref lb, .ref lk, .ref lp, .ref lr, .ref le, .ref lm, .ref lo, .int (nI th), .int z, .int (nI bo), .int (nI cm)]))], w1] 0 0 from ?_)
    refine g_aload_n (q := 14) B dX3_isInNone_13 rfl rfl (rv_r _) ?_
    refine g_get (q := 17) B (ci := 12) (k := 0) (j := 3) in_X3 rfl dX3_isInNone_14 rfl rfl (Nat.le_of_ble_eq_true rfl) q3060 rfl rfl ?_
    refine g_iload_n (q := 18) B dX3_isInNone_17 rfl rfl ?_
    obtain ⟨md_1, hli_1, hln_1, hel_1⟩ := LoP.at (Sub.self hw1)
    obtain ⟨r18, hr18⟩ := get_ex (xs := Ps) (i := i) (by omega)
    obtain ⟨x18, hx18⟩ := get_ex (xs := mps) (i := i) (by have := get_lt2 hr18; have := hln_1.1; omega)
    have hE_2 := hel_1 _ _ _ hx18 hr18
    refine g_callV (q := 21) (is := [1]) (kc2 := 0) (ks2 := 0) B [.int (nI i)] (ct_J2_get_s g J (p := lp) (xs := mps) (md := md_1) (cap := pcap) (i := i) (x := x18) (W0 := w1)  (hli_1) (hx18)) dX3_isInNone_18 rfl (rc_in B (ci := 21) rfl (k := 1) rfl (LoP.hm hw1)) rfl q3231 q1095 q3667 q81 q1097 rfl rfl moJ2_get rfl rfl (by decide) (by decide) (Nat.le_of_ble_eq_true rfl) (Nat.le_of_ble_eq_true rfl) (Nat.le_of_ble_eq_true rfl) (fun _ _ hx => noX_x hx) (fun v18 L1 hp18 => ?_)
    obtain ⟨rfl, rfl⟩ := hp18
    refine (show Go g κ 21 [some (.ref m), some (.int (nI i))] [.ref x18, .ref m] [[(m, .inr (12, [.ref ls, .ref lb, .ref lk, .ref lp, .ref lr, .ref le, .ref lm, .ref lo, .int (nI th), .int z, .int (nI bo), .int (nI cm)]))], w1] 0 0 from ?_)
    refine g_castRS (ci := 13) (q := 24) B rfl (rc_in B (ci := 13) rfl (k := 1) rfl (Sub.hm (hE_2) fun _ z => MpP.hm z)) dX3_isInNone_21 rfl q3107 ?_
    obtain ⟨nd_3, ch_3, ev_3, cv_3, fn_3, fc_3, hM_3, hfn_3, hoc_3, hcv_3, hc_3_0, hc_3_1, hc_3_2, hs_3_0, hs_3_1⟩ := MpP.at (hE_2)
    refine g_getNM (q := 27) B (ci := 13) (k := 1) (j := 0) in_X5 rfl dX3_isInNone_24 rfl rfl (hc_3_0) (Nat.le_of_ble_eq_true rfl) q3118 rfl rfl ?_
    refine g_iconst (v := -1) (q := 28) B dX3_isInNone_27 rfl (by decide) ?_
    refine g_icmp_ne (tgt := 35) (q := 31) B dX3_isInNone_28 rfl (by decide) (oI_nn ((fun n h => by have := hM_3.1 _ h; omega))) (fun c28 => ?_) (fun c28 => ?_)
    · skip
      obtain ⟨v28, ev28⟩ := Option.ne_none_iff_exists'.mp c28
      refine g_iconst (v := nI 0) (q := 36) B dX3_isInNone_35 rfl (by decide) ?_
      refine g_callV (q := 39) (is := [0]) (kc2 := 0) (ks2 := 0) B [.int (nI 0)] (ct_X3_isWrong g J (m := m) (ls := ls) (lb := lb) (lk := lk) (lp := lp) (lr := lr) (le := le) (lm := lm) (lo := lo) (th := th) (z := z) (bo := bo) (cm := cm) (k := 0)  (by decide)) dX3_isInNone_36 rfl (rc_at B (ci := 12) rfl (k := 0) rfl) rfl q3103 q3105 qs49 q85 q3106 rfl rfl moX3_isWrong rfl rfl (by decide) (by decide) (Nat.le_of_ble_eq_true rfl) (Nat.le_of_ble_eq_true rfl) (Nat.le_of_ble_eq_true rfl) (fun _ _ hx => noX_x hx) (fun v36 L1 hp36 => ?_)
      obtain ⟨rfl, rfl⟩ := hp36
      refine (show Go g κ 39 [some (.ref m), some (.int (nI i))] [.int (nI (if ¬ 0 = 0 then 1 else 0))] [w1, [(m, .inr (12, [.ref ls, .ref lb, .ref lk, .ref lp, .ref lr, .ref le, .ref lm, .ref lo, .int (nI 0), .int z, .int (nI bo), .int (nI cm)]))]] 0 0 from ?_)
      refine g_pk [1, 0] rfl rfl ?_
      refine (show Go g κ 39 [some (.ref m), some (.int (nI i))] [.int (nI (if ¬ 0 = 0 then 1 else 0))] [[(m, .inr (12, [.ref ls, .ref lb, .ref lk, .ref lp, .ref lr, .ref le, .ref lm, .ref lo, .int (nI 0), .int z, .int (nI bo), .int (nI cm)]))], w1] 0 0 from ?_)
      exact g_zret B E dX3_isInNone_39 (by split <;> decide) (⟨0, bo0 (by decide), rfl, Or.inr ⟨i, r18, rfl, hr18, Or.inr ⟨rfl, c28⟩⟩⟩)
    · skip
      have c28 := Classical.not_not.mp c28
      refine g_iconst (v := nI 2) (q := 32) B dX3_isInNone_31 rfl (by decide) ?_
      refine g_goto (tgt := 36) B dX3_isInNone_32 (by decide) ?_
      refine g_callV (q := 39) (is := [0]) (kc2 := 0) (ks2 := 0) B [.int (nI 2)] (ct_X3_isWrong g J (m := m) (ls := ls) (lb := lb) (lk := lk) (lp := lp) (lr := lr) (le := le) (lm := lm) (lo := lo) (th := th) (z := z) (bo := bo) (cm := cm) (k := 2)  (by decide)) dX3_isInNone_36 rfl (rc_at B (ci := 12) rfl (k := 0) rfl) rfl q3103 q3105 qs49 q85 q3106 rfl rfl moX3_isWrong rfl rfl (by decide) (by decide) (Nat.le_of_ble_eq_true rfl) (Nat.le_of_ble_eq_true rfl) (Nat.le_of_ble_eq_true rfl) (fun _ _ hx => noX_x hx) (fun v36 L1 hp36 => ?_)
      obtain ⟨rfl, rfl⟩ := hp36
      refine (show Go g κ 39 [some (.ref m), some (.int (nI i))] [.int (nI (if ¬ 2 = 0 then 1 else 0))] [w1, [(m, .inr (12, [.ref ls, .ref lb, .ref lk, .ref lp, .ref lr, .ref le, .ref lm, .ref lo, .int (nI 2), .int z, .int (nI bo), .int (nI cm)]))]] 0 0 from ?_)
      refine g_pk [1, 0] rfl rfl ?_
      refine (show Go g κ 39 [some (.ref m), some (.int (nI i))] [.int (nI (if ¬ 2 = 0 then 1 else 0))] [[(m, .inr (12, [.ref ls, .ref lb, .ref lk, .ref lp, .ref lr, .ref le, .ref lm, .ref lo, .int (nI 2), .int z, .int (nI bo), .int (nI cm)]))], w1] 0 0 from ?_)
      exact g_zret B E dX3_isInNone_39 (by split <;> decide) (⟨2, bo1 (by decide), rfl, Or.inr ⟨i, r18, rfl, hr18, Or.inl ⟨rfl, c28⟩⟩⟩)
  · skip
    refine g_iconst (v := nI 1) (q := 10) B dX3_isInNone_9 rfl (by decide) ?_
    refine g_goto (tgt := 36) B dX3_isInNone_10 (by decide) ?_
    refine g_callV (q := 39) (is := [0]) (kc2 := 0) (ks2 := 0) B [.int (nI 1)] (ct_X3_isWrong g J (m := m) (ls := ls) (lb := lb) (lk := lk) (lp := lp) (lr := lr) (le := le) (lm := lm) (lo := lo) (th := th) (z := z) (bo := bo) (cm := cm) (k := 1)  (by decide)) dX3_isInNone_36 rfl (rc_at B (ci := 12) rfl (k := 0) rfl) rfl q3103 q3105 qs49 q85 q3106 rfl rfl moX3_isWrong rfl rfl (by decide) (by decide) (Nat.le_of_ble_eq_true rfl) (Nat.le_of_ble_eq_true rfl) (Nat.le_of_ble_eq_true rfl) (fun _ _ hx => noX_x hx) (fun v36 L1 hp36 => ?_)
    obtain ⟨rfl, rfl⟩ := hp36
    refine (show Go g κ 39 [some (.ref m), some (.int v)] [.int (nI (if ¬ 1 = 0 then 1 else 0))] [w1, [(m, .inr (12, [.ref ls, .ref lb, .ref lk, .ref lp, .ref lr, .ref le, .ref lm, .ref lo, .int (nI 1), .int z, .int (nI bo), .int (nI cm)]))]] 0 0 from ?_)
    refine g_pk [1, 0] rfl rfl ?_
    refine (show Go g κ 39 [some (.ref m), some (.int v)] [.int (nI (if ¬ 1 = 0 then 1 else 0))] [[(m, .inr (12, [.ref ls, .ref lb, .ref lk, .ref lp, .ref lr, .ref le, .ref lm, .ref lo, .int (nI 1), .int z, .int (nI bo), .int (nI cm)]))], w1] 0 0 from ?_)
    exact g_zret B E dX3_isInNone_39 (by split <;> decide) (⟨1, bo1 (by decide), rfl, Or.inl ⟨rfl, c6⟩⟩)
theorem ct_X3_isIn (g : Gv) (J : Jd g) {m : Nat} {ls : Nat} {lb : Nat} {lk : Nat} {lp : Nat} {lr : Nat} {le : Nat} {lm : Nat} {lo : Nat} {th : Nat} {z : Int32} {bo : Nat} {cm : Nat} {p : Nat} {e : Nat} {Ep : MeS} {we : va_W} (hE : Sub (EpP g e Ep) we) (hp : p < 2 ^ 31) (h16 : ∀ l, 2 ^ (eTr Ep).1 ≤ l → (eTr Ep).2.2.2 l = none) : Ct g yX3_isIn (ws_ yX3_isIn cX3_isIn 7 (some .boolean)) 0 0 0 [.ref m, .int (nI p), .ref e] [[(m, .inr (12, [.ref ls, .ref lb, .ref lk, .ref lp, .ref lr, .ref le, .ref lm, .ref lo, .int (nI th), .int z, .int (nI bo), .int (nI cm)]))], we] (fun (rv_ : Option Value) (rL_ : List va_W) => rv_ = some (.int (nI (if ¬ lof (eTr Ep) p = none then 1 else 0))) ∧ rL_ = [[(m, .inr (12, [.ref ls, .ref lb, .ref lk, .ref lp, .ref lr, .ref le, .ref lm, .ref lo, .int (nI th), .int z, .int (nI bo), .int (nI cm)]))], we]) noX := by
  refine Ct.of "KeygroveModel" [some (.ref m), some (.int (nI p)), some (.ref e), none, none, none, none] rfl (by decide) rfl (Nat.le_of_ble_eq_true rfl) rfl ?_
  intro κ B E tb
  have hEB := EpP.b2 hE
  have hTB := hEB.2.1
  have hp2 := p2_4 hTB.1
  refine g_aload_n (q := 1) B dX3_isIn_0 rfl rfl (rv_r _) ?_
  obtain ⟨ap_1, an_1, al_1, ac_1, aw_1, am_1, ak_1, fp_1, fn_1, fl_1, fc_1, fw_1, fm_1, fk_1, hE_1, hfp_1, hfn_1, hfl_1, hfc_1, hfw_1, hfm_1, hfk_1, hc_1_0, hc_1_1, hc_1_2, hc_1_3, hc_1_4, hc_1_5, hc_1_6, hc_1_7⟩ := EpP.at (hE)
  refine g_getNM (q := 4) B (ci := 16) (k := 1) (j := 4) in_X13 rfl dX3_isIn_1 rfl rfl (hc_1_0) (Nat.le_of_ble_eq_true rfl) q3261 rfl rfl ?_
  refine g_astore_n (q := 5) (lv2 := [some (.ref m), some (.int (nI p)), some (.ref e), some (.ref ap_1), none, none, none]) B dX3_isIn_4 rfl (Nat.le_of_ble_eq_true rfl) (rv_r _) rfl ?_
  refine g_aload_n (q := 6) B dX3_isIn_5 rfl rfl (rv_r _) ?_
  refine g_alenM (v := nI 16) (q := 7) B (k := 1) (t := 0) dX3_isIn_6 rfl rfl (hc_1_1) rfl rfl ?_
  refine g_istore (q := 9) (lv2 := [some (.ref m), some (.int (nI p)), some (.ref e), some (.ref ap_1), some (.int (nI 16)), none, none]) B dX3_isIn_7 rfl (Nat.le_of_ble_eq_true rfl) rfl ?_
  refine g_iconst (v := nI 0) (q := 10) B dX3_isIn_9 rfl (by decide) ?_
  refine g_istore (q := 12) (lv2 := [some (.ref m), some (.int (nI p)), some (.ref e), some (.ref ap_1), some (.int (nI 16)), some (.int (nI 0)), none]) B dX3_isIn_10 rfl (Nat.le_of_ble_eq_true rfl) rfl ?_
  have lp12 : ∀ (n12 : Nat) (k : Nat) , (k ≤ 16) → (∀ i, i < k → ¬ (eTr Ep).2.2.2 i = some p) → 16 - k = n12 → Go g κ 12 [some (.ref m), some (.int (nI p)), some (.ref e), some (.ref ap_1), some (.int (nI 16)), some (.int (nI k)), none] [] [[(m, .inr (12, [.ref ls, .ref lb, .ref lk, .ref lp, .ref lr, .ref le, .ref lm, .ref lo, .int (nI th), .int z, .int (nI bo), .int (nI cm)]))], we] 0 0 := by
    intro n12
    induction n12 using Nat.strongRecOn with
    | _ n12 ih12 =>
    intro k  hk hnb hmu12
    refine g_iload (q := 14) B dX3_isIn_12 rfl rfl ?_
    refine g_iload (q := 16) B dX3_isIn_14 rfl rfl ?_
    refine g_icmp_ge (tgt := 39) (q := 19) B dX3_isIn_16 rfl (by decide) (nI_leI (by omega) (by omega)) (fun c16 => ?_) (fun c16 => ?_)
    · skip
      refine g_iconst (v := nI 0) (q := 40) B dX3_isIn_39 rfl (by decide) ?_
      exact g_zret B E dX3_isIn_40 (by decide) (⟨bo0 (fun z => z (lof_n fun l hl => hnb l (by omega))), rfl⟩)
    · skip
      refine g_aload_n (q := 20) B dX3_isIn_19 rfl rfl (rv_r _) ?_
      refine g_iload (q := 22) B dX3_isIn_20 rfl rfl ?_
      refine g_ialdM (v := oI (((eTr Ep).2.2.2) k)) (q := 23) B (k := 1) dX3_isIn_22 rfl rfl (hc_1_1) (vp_in_nI (by omega) (by omega)) (by rw [nI_clamp (by omega)]; exact hfp_1 _ (by omega)) ?_
      refine g_istore (q := 25) (lv2 := [some (.ref m), some (.int (nI p)), some (.ref e), some (.ref ap_1), some (.int (nI 16)), some (.int (nI k)), some (.int (oI (((eTr Ep).2.2.2) k)))]) B dX3_isIn_23 rfl (Nat.le_of_ble_eq_true rfl) rfl ?_
      refine g_iload (q := 27) B dX3_isIn_25 rfl rfl ?_
      refine g_iload_n (q := 28) B dX3_isIn_27 rfl rfl ?_
      refine g_icmp_ne (tgt := 33) (q := 31) B dX3_isIn_28 rfl (by decide) (oI_ne ((fun n h => by have := hE_1.2.1.2.2.2 _ _ h; omega)) (by omega)) (fun c28 => ?_) (fun c28 => ?_)
      · skip
        refine g_iinc (v := nI (k + 1)) (q := 36) (lv2 := [some (.ref m), some (.int (nI p)), some (.ref e), some (.ref ap_1), some (.int (nI 16)), some (.int (nI (k + 1))), some (.int (oI (((eTr Ep).2.2.2) k)))]) B dX3_isIn_33 rfl rfl (nI_add _ 1) (Nat.le_of_ble_eq_true rfl) rfl ?_
        refine g_goto (tgt := 12) B dX3_isIn_36 (by decide) ?_
        refine g_fg 6 rfl ?_
        exact ih12 _ (by omega) (k + 1) (by omega) (fun i hi => by rcases Nat.lt_or_ge i k with z | z; exact hnb i z; rw [show i = k by omega]; exact c28) rfl
      · skip
        have c28 := Classical.not_not.mp c28
        refine g_lvs (lv2 := [some (.ref m), some (.int (nI p)), some (.ref e), some (.ref ap_1), some (.int (nI 16)), some (.int (nI k)), some (.int (nI p))]) (st2 := []) (by rw [(show oI (((eTr Ep).2.2.2) k) = nI p from by rw [c28]; rfl)]) (by first | rfl | rw [(show oI (((eTr Ep).2.2.2) k) = nI p from by rw [c28]; rfl)]) ?_
        refine g_iconst (v := nI 1) (q := 32) B dX3_isIn_31 rfl (by decide) ?_
        exact g_zret B E dX3_isIn_32 (by decide) (⟨bo1 (by intro z; unfold lof at z; rw [List.find?_eq_none] at z; have hkl : k < 2 ^ (eTr Ep).1 := Classical.byContradiction (fun y => by rw [h16 k (by omega)] at c28; cases c28); exact z k (List.mem_range.mpr hkl) (by simp [c28])), rfl⟩)
  exact lp12 _ 0 (Nat.zero_le _) (fun i h => absurd h (Nat.not_lt_zero i)) rfl
def prR (Rs : List MrS) (w : Nat) : Bool := Rs.any fun r => r.1 == 114 && r.2.2 == w
def prN (Rs : List MrS) (p : Nat) : Bool := Rs.any fun r => r.1 == 110 && r.2.1 == p
def prA (Ks : List MkS) (Rs : List MrS) (p : Nat) : Bool := Rs.any fun r => r.1 == 97 && (match Ks[r.2.2]? with
  | some q => q.1 == p
  | none => false)
theorem any_t {α : Type} {l : List α} {f : α → Bool} {k : Nat} {r : α} (h : l[k]? = some r) (hf : f r = true) : l.any f = true := List.any_eq_true.mpr ⟨r, List.mem_of_getElem? h, hf⟩
theorem any_s {α : Type} {l : List α} {f : α → Bool} {k : Nat} {r : α} (hn : ∀ i q, i < k → l[i]? = some q → ¬ f q = true) (h : l[k]? = some r) (hf : ¬ f r = true) : ∀ i q, i < k + 1 → l[i]? = some q → ¬ f q = true := by
  intro i q hi hq
  rcases Nat.lt_or_ge i k with z | z
  · exact hn i q z hq
  · rw [show i = k by omega, h] at hq; cases hq; exact hf
theorem any_f {α : Type} {l : List α} {f : α → Bool} {k : Nat} (hn : ∀ i q, i < k → l[i]? = some q → ¬ f q = true) (hk : k = l.length) : ¬ l.any f = true := by
  intro h
  obtain ⟨r, h1, h2⟩ := List.any_eq_true.mp h
  obtain ⟨i, hi⟩ := List.getElem?_of_mem h1
  exact hn i r (by have := get_lt2 hi; omega) hi h2
theorem ct_X3_isProposed_114 (g : Gv) (J : Jd g) {m : Nat} {ls : Nat} {lb : Nat} {lk : Nat} {lp : Nat} {lr : Nat} {le : Nat} {lm : Nat} {lo : Nat} {th : Nat} {z : Int32} {bo : Nat} {cm : Nat} {w : Nat} {Rs : List MrS} {rcap : Nat} {mks : List Nat} {Ks : List MkS} {kcap : Nat} {w1 : va_W} {w2 : va_W} (hw1 : LhP g (MrP g) lr Rs rcap w1) (hw2 : LoP g (MqP g) lk mks Ks kcap w2) (hRb : ∀ q ∈ Rs, q.1 < 200 ∧ q.2.1 < 16 ∧ q.2.2 < 1000) (hw : w < 1000) : Ct g yX3_isProposed (ws_ yX3_isProposed cX3_isProposed 5 (some .boolean)) 3 1 4 [.ref m, .int (nI 114), .int (nI w)] [[(m, .inr (12, [.ref ls, .ref lb, .ref lk, .ref lp, .ref lr, .ref le, .ref lm, .ref lo, .int (nI th), .int z, .int (nI bo), .int (nI cm)]))], w1, w2] (fun (rv_ : Option Value) (rL_ : List va_W) => rv_ = some (.int (nI (if prR Rs w = true then 1 else 0))) ∧ rL_ = [[(m, .inr (12, [.ref ls, .ref lb, .ref lk, .ref lp, .ref lr, .ref le, .ref lm, .ref lo, .int (nI th), .int z, .int (nI bo), .int (nI cm)]))], w1, w2]) noX := by
  refine Ct.of "KeygroveModel" [some (.ref m), some (.int (nI 114)), some (.int (nI w)), none, none] rfl (by decide) rfl (Nat.le_of_ble_eq_true rfl) rfl ?_
  intro κ B E tb
  refine g_aload_n (q := 1) B dX3_isProposed_0 rfl rfl (rv_r _) ?_
  refine g_get (q := 4) B (ci := 12) (k := 0) (j := 4) in_X3 rfl dX3_isProposed_1 rfl rfl (Nat.le_of_ble_eq_true rfl) q3061 rfl rfl ?_
  obtain ⟨ps_1, md_1, hli_1, hln_1, hel_1⟩ := LhP.at (Sub.self hw1)
  refine g_callV (q := 7) (is := [1]) (kc2 := 0) (ks2 := 0) B [] (ct_J2_iterator_s g J (p := lr) (xs := ps_1) (md := md_1) (cap := rcap) (W0 := w1)  (hli_1)) dX3_isProposed_4 rfl (rc_in B (ci := 21) rfl (k := 1) rfl (LhP.hm hw1)) rfl q3232 q805 q3668 q81 q807 rfl rfl moJ2_iterator rfl rfl (by decide) (by decide) (Nat.le_of_ble_eq_true rfl) (Nat.le_of_ble_eq_true rfl) (Nat.le_of_ble_eq_true rfl) (fun _ _ hx => noX_x hx) (fun v4 L1 hp4 => ?_)
  obtain ⟨it4, rfl, rfl⟩ := hp4
  refine (show Go g κ 7 [some (.ref m), some (.int (nI 114)), some (.int (nI w)), none, none] [.ref it4] [[(m, .inr (12, [.ref ls, .ref lb, .ref lk, .ref lp, .ref lr, .ref le, .ref lm, .ref lo, .int (nI th), .int z, .int (nI bo), .int (nI cm)]))], w2, [(it4, .inr (22, [.int (nI 0), .int (-1), .int md_1, .ref lr]))], w1] 0 0 from ?_)
  refine g_astore_n (q := 8) (lv2 := [some (.ref m), some (.int (nI 114)), some (.int (nI w)), some (.ref it4), none]) B dX3_isProposed_7 rfl (Nat.le_of_ble_eq_true rfl) (rv_r _) rfl ?_
  have lp8 : ∀ (n8 : Nat) (k : Nat) (lrt : Int32) , (k ≤ Rs.length) → (∀ i q, i < k → Rs[i]? = some q → ¬ (fun r => r.1 == 114 && r.2.2 == w) q = true) → Rs.length - k = n8 → Go g κ 8 [some (.ref m), some (.int (nI 114)), some (.int (nI w)), some (.ref it4), none] [] [[(m, .inr (12, [.ref ls, .ref lb, .ref lk, .ref lp, .ref lr, .ref le, .ref lm, .ref lo, .int (nI th), .int z, .int (nI bo), .int (nI cm)]))], w2, [(it4, .inr (22, [.int (nI k), .int lrt, .int md_1, .ref lr]))], w1] 0 0 := by
    intro n8
    induction n8 using Nat.strongRecOn with
    | _ n8 ih8 =>
    intro k lrt  hk hno hmu8
    refine g_aload_n (q := 9) B dX3_isProposed_8 rfl rfl (rv_r _) ?_
    refine g_callF (q := 14) (is := [2, 2]) (kc2 := 0) (ks2 := 0) B [] (ct_J19_hasNext_s g J (p := lr) (xs := ps_1) (md := md_1) (cap := rcap) (it := it4) (c := k) (lr := lrt) (W1 := w1)  (hli_1) (by have := hln_1.1; omega)) dX3_isProposed_9 rfl (ci := 22) rfl (rc_at B (ci := 22) rfl (k := 2) rfl) q3234 q940 q942 q104 q944 q938 q937 q943 q941 q939 rfl rfl mojava_util_Iterator_hasNext___Z rfl rfl (by decide) (by decide) (Nat.le_of_ble_eq_true rfl) (Nat.le_of_ble_eq_true rfl) (Nat.le_of_ble_eq_true rfl) (fun _ _ hx => noX_x hx) (fun v9 L1 hp9 => ?_)
    obtain ⟨rfl, rfl⟩ := hp9
    refine (show Go g κ 14 [some (.ref m), some (.int (nI 114)), some (.int (nI w)), some (.ref it4), none] [.int (nI (if ¬ k = ps_1.length then 1 else 0))] [[(m, .inr (12, [.ref ls, .ref lb, .ref lk, .ref lp, .ref lr, .ref le, .ref lm, .ref lo, .int (nI th), .int z, .int (nI bo), .int (nI cm)]))], w2, [(it4, .inr (22, [.int (nI k), .int lrt, .int md_1, .ref lr]))], w1] 0 0 from ?_)
    rw [hln_1.1]
    refine (show Go g κ 14 [some (.ref m), some (.int (nI 114)), some (.int (nI w)), some (.ref it4), none] [.int (nI (if ¬ k = Rs.length then 1 else 0))] [[(m, .inr (12, [.ref ls, .ref lb, .ref lk, .ref lp, .ref lr, .ref le, .ref lm, .ref lo, .int (nI th), .int z, .int (nI bo), .int (nI cm)]))], w2, [(it4, .inr (22, [.int (nI k), .int lrt, .int md_1, .ref lr]))], w1] 0 0 from ?_)
    refine g_if_eq (tgt := 113) (q := 17) B dX3_isProposed_14 rfl (by decide) (bo_eq) (fun c14 => ?_) (fun c14 => ?_)
    · skip
      refine g_iconst (v := nI 0) (q := 114) B dX3_isProposed_113 rfl (by decide) ?_
      refine g_pk [0, 2, 0] rfl rfl ?_
      refine (show Go g κ 114 [some (.ref m), some (.int (nI 114)), some (.int (nI w)), some (.ref it4), none] [.int (nI 0)] [[(m, .inr (12, [.ref ls, .ref lb, .ref lk, .ref lp, .ref lr, .ref le, .ref lm, .ref lo, .int (nI th), .int z, .int (nI bo), .int (nI cm)]))], w1, w2] 0 0 from ?_)
      exact g_zret B E dX3_isProposed_114 (by decide) (⟨bo0 (any_f hno (by omega)), rfl⟩)
    · skip
      have c14 := Classical.not_not.mp c14
      refine g_aload_n (q := 18) B dX3_isProposed_17 rfl rfl (rv_r _) ?_
      obtain ⟨r18, hr18⟩ := get_ex (xs := Rs) (i := k) (by omega)
      obtain ⟨x18, hx18⟩ := get_ex (xs := ps_1) (i := k) (by have := get_lt2 hr18; have := hln_1.1; omega)
      have hE_2 := hel_1 _ _ _ hx18 hr18
      refine g_callF (q := 23) (is := [2, 2]) (kc2 := 0) (ks2 := 0) B [] (ct_J19_next_s g J (p := lr) (xs := ps_1) (md := md_1) (cap := rcap) (it := it4) (c := k) (lr := lrt) (x := x18) (W1 := w1)  (hli_1) (hx18)) dX3_isProposed_18 rfl (ci := 22) rfl (rc_at B (ci := 22) rfl (k := 2) rfl) q3236 q967 q969 q104 q971 q966 q965 q970 q968 q939 rfl rfl mojava_util_Iterator_next___Ljava_lang_Object_ rfl rfl (by decide) (by decide) (Nat.le_of_ble_eq_true rfl) (Nat.le_of_ble_eq_true rfl) (Nat.le_of_ble_eq_true rfl) (fun _ _ hx => noX_x hx) (fun v18 L1 hp18 => ?_)
      obtain ⟨rfl, rfl⟩ := hp18
      refine (show Go g κ 23 [some (.ref m), some (.int (nI 114)), some (.int (nI w)), some (.ref it4), none] [.ref x18] [[(m, .inr (12, [.ref ls, .ref lb, .ref lk, .ref lp, .ref lr, .ref le, .ref lm, .ref lo, .int (nI th), .int z, .int (nI bo), .int (nI cm)]))], w2, [(it4, .inr (22, [.int (nI (k + 1)), .int (nI k), .int md_1, .ref lr]))], w1] 0 0 from ?_)
      refine g_castRS (ci := 18) (q := 26) B rfl (rc_in B (ci := 18) rfl (k := 3) rfl (Sub.hm (hE_2) fun _ z => MrP.hm z)) dX3_isProposed_23 rfl q3382 ?_
      refine g_astore (q := 28) (lv2 := [some (.ref m), some (.int (nI 114)), some (.int (nI w)), some (.ref it4), some (.ref x18)]) B dX3_isProposed_26 rfl (Nat.le_of_ble_eq_true rfl) (rv_r _) rfl ?_
      obtain ⟨hb1, hb2, hb3⟩ := hRb _ (List.mem_of_getElem? hr18)
      refine g_aload (q := 30) B dX3_isProposed_28 rfl rfl (rv_r _) ?_
      have hc_3_0 := MrP.at (hE_2)
      refine g_getNM (q := 33) B (ci := 18) (k := 3) (j := 0) in_X17 rfl dX3_isProposed_30 rfl rfl (hc_3_0) (Nat.le_of_ble_eq_true rfl) q3393 rfl rfl ?_
      refine g_iload_n (q := 34) B dX3_isProposed_33 rfl rfl ?_
      refine g_icmp_ne (tgt := 110) (q := 37) B dX3_isProposed_34 rfl (by decide) (not_congr (nI_eq (by omega) (by omega))) (fun c34 => ?_) (fun c34 => ?_)
      · skip
        refine g_goto (tgt := 8) B dX3_isProposed_110 (by decide) ?_
        refine g_fg 4 rfl ?_
        exact ih8 _ (by have := get_lt2 hr18; omega) (k + 1) (nI k) (by first | assumption | omega | rfl) (any_s hno hr18 (by rintro z; simp at z; first | exact c34 z.1 | exact c93 z.2)) rfl
      · skip
        have c34 := Classical.not_not.mp c34
        refine g_iload_n (q := 38) B dX3_isProposed_37 rfl rfl ?_
        refine g_bipush (v := nI 97) (q := 40) B dX3_isProposed_38 rfl (by decide) ?_
        refine g_icmp_ne (tgt := 81) (q := 43) B dX3_isProposed_40 rfl (by decide) (iff_true_intro (by decide)) (fun _ => ?_) (fun z => absurd trivial z)
        refine g_iload_n (q := 82) B dX3_isProposed_81 rfl rfl ?_
        refine g_bipush (v := nI 114) (q := 84) B dX3_isProposed_82 rfl (by decide) ?_
        refine g_icmp_ne (tgt := 99) (q := 87) B dX3_isProposed_84 rfl (by decide) (iff_false_intro (by decide)) (fun z => z.elim) (fun _ => ?_)
        refine g_aload (q := 89) B dX3_isProposed_87 rfl rfl (rv_r _) ?_
        refine g_getNM (q := 92) B (ci := 18) (k := 3) (j := 2) in_X17 rfl dX3_isProposed_89 rfl rfl (hc_3_0) (Nat.le_of_ble_eq_true rfl) q3397 rfl rfl ?_
        refine g_iload_n (q := 93) B dX3_isProposed_92 rfl rfl ?_
        refine g_icmp_ne (tgt := 110) (q := 96) B dX3_isProposed_93 rfl (by decide) (not_congr (nI_eq (by omega) (by omega))) (fun c93 => ?_) (fun c93 => ?_)
        · skip
          refine g_goto (tgt := 8) B dX3_isProposed_110 (by decide) ?_
          refine g_fg 4 rfl ?_
          exact ih8 _ (by have := get_lt2 hr18; omega) (k + 1) (nI k) (by first | assumption | omega | rfl) (any_s hno hr18 (by rintro z; simp at z; first | exact c34 z.1 | exact c93 z.2)) rfl
        · skip
          have c93 := Classical.not_not.mp c93
          refine g_goto (tgt := 108) B dX3_isProposed_96 (by decide) ?_
          refine g_iconst (v := nI 1) (q := 109) B dX3_isProposed_108 rfl (by decide) ?_
          refine g_pk [0, 2, 0] rfl rfl ?_
          refine (show Go g κ 109 [some (.ref m), some (.int (nI 114)), some (.int (nI w)), some (.ref it4), some (.ref x18)] [.int (nI 1)] [[(m, .inr (12, [.ref ls, .ref lb, .ref lk, .ref lp, .ref lr, .ref le, .ref lm, .ref lo, .int (nI th), .int z, .int (nI bo), .int (nI cm)]))], w1, w2] 0 0 from ?_)
          exact g_zret B E dX3_isProposed_109 (by decide) (⟨bo1 (any_t (k := k) hr18 (by simp [c34, c93])), rfl⟩)
  exact lp8 _ 0 (-1) (Nat.zero_le _) (fun i q h => absurd h (Nat.not_lt_zero i)) rfl
theorem ct_X3_isProposed_110 (g : Gv) (J : Jd g) {m : Nat} {ls : Nat} {lb : Nat} {lk : Nat} {lp : Nat} {lr : Nat} {le : Nat} {lm : Nat} {lo : Nat} {th : Nat} {z : Int32} {bo : Nat} {cm : Nat} {w : Nat} {Rs : List MrS} {rcap : Nat} {mks : List Nat} {Ks : List MkS} {kcap : Nat} {w1 : va_W} {w2 : va_W} (hw1 : LhP g (MrP g) lr Rs rcap w1) (hw2 : LoP g (MqP g) lk mks Ks kcap w2) (hRb : ∀ q ∈ Rs, q.1 < 200 ∧ q.2.1 < 16 ∧ q.2.2 < 1000) (hw : w < 1000) : Ct g yX3_isProposed (ws_ yX3_isProposed cX3_isProposed 5 (some .boolean)) 3 1 4 [.ref m, .int (nI 110), .int (nI w)] [[(m, .inr (12, [.ref ls, .ref lb, .ref lk, .ref lp, .ref lr, .ref le, .ref lm, .ref lo, .int (nI th), .int z, .int (nI bo), .int (nI cm)]))], w1, w2] (fun (rv_ : Option Value) (rL_ : List va_W) => rv_ = some (.int (nI (if prN Rs w = true then 1 else 0))) ∧ rL_ = [[(m, .inr (12, [.ref ls, .ref lb, .ref lk, .ref lp, .ref lr, .ref le, .ref lm, .ref lo, .int (nI th), .int z, .int (nI bo), .int (nI cm)]))], w1, w2]) noX := by
  refine Ct.of "KeygroveModel" [some (.ref m), some (.int (nI 110)), some (.int (nI w)), none, none] rfl (by decide) rfl (Nat.le_of_ble_eq_true rfl) rfl ?_
  intro κ B E tb
  refine g_aload_n (q := 1) B dX3_isProposed_0 rfl rfl (rv_r _) ?_
  refine g_get (q := 4) B (ci := 12) (k := 0) (j := 4) in_X3 rfl dX3_isProposed_1 rfl rfl (Nat.le_of_ble_eq_true rfl) q3061 rfl rfl ?_
  obtain ⟨ps_1, md_1, hli_1, hln_1, hel_1⟩ := LhP.at (Sub.self hw1)
  refine g_callV (q := 7) (is := [1]) (kc2 := 0) (ks2 := 0) B [] (ct_J2_iterator_s g J (p := lr) (xs := ps_1) (md := md_1) (cap := rcap) (W0 := w1)  (hli_1)) dX3_isProposed_4 rfl (rc_in B (ci := 21) rfl (k := 1) rfl (LhP.hm hw1)) rfl q3232 q805 q3668 q81 q807 rfl rfl moJ2_iterator rfl rfl (by decide) (by decide) (Nat.le_of_ble_eq_true rfl) (Nat.le_of_ble_eq_true rfl) (Nat.le_of_ble_eq_true rfl) (fun _ _ hx => noX_x hx) (fun v4 L1 hp4 => ?_)
  obtain ⟨it4, rfl, rfl⟩ := hp4
  refine (show Go g κ 7 [some (.ref m), some (.int (nI 110)), some (.int (nI w)), none, none] [.ref it4] [[(m, .inr (12, [.ref ls, .ref lb, .ref lk, .ref lp, .ref lr, .ref le, .ref lm, .ref lo, .int (nI th), .int z, .int (nI bo), .int (nI cm)]))], w2, [(it4, .inr (22, [.int (nI 0), .int (-1), .int md_1, .ref lr]))], w1] 0 0 from ?_)
  refine g_astore_n (q := 8) (lv2 := [some (.ref m), some (.int (nI 110)), some (.int (nI w)), some (.ref it4), none]) B dX3_isProposed_7 rfl (Nat.le_of_ble_eq_true rfl) (rv_r _) rfl ?_
  have lp8 : ∀ (n8 : Nat) (k : Nat) (lrt : Int32) , (k ≤ Rs.length) → (∀ i q, i < k → Rs[i]? = some q → ¬ (fun r => r.1 == 110 && r.2.1 == w) q = true) → Rs.length - k = n8 → Go g κ 8 [some (.ref m), some (.int (nI 110)), some (.int (nI w)), some (.ref it4), none] [] [[(m, .inr (12, [.ref ls, .ref lb, .ref lk, .ref lp, .ref lr, .ref le, .ref lm, .ref lo, .int (nI th), .int z, .int (nI bo), .int (nI cm)]))], w2, [(it4, .inr (22, [.int (nI k), .int lrt, .int md_1, .ref lr]))], w1] 0 0 := by
    intro n8
    induction n8 using Nat.strongRecOn with
    | _ n8 ih8 =>
    intro k lrt  hk hno hmu8
    refine g_aload_n (q := 9) B dX3_isProposed_8 rfl rfl (rv_r _) ?_
    refine g_callF (q := 14) (is := [2, 2]) (kc2 := 0) (ks2 := 0) B [] (ct_J19_hasNext_s g J (p := lr) (xs := ps_1) (md := md_1) (cap := rcap) (it := it4) (c := k) (lr := lrt) (W1 := w1)  (hli_1) (by have := hln_1.1; omega)) dX3_isProposed_9 rfl (ci := 22) rfl (rc_at B (ci := 22) rfl (k := 2) rfl) q3234 q940 q942 q104 q944 q938 q937 q943 q941 q939 rfl rfl mojava_util_Iterator_hasNext___Z rfl rfl (by decide) (by decide) (Nat.le_of_ble_eq_true rfl) (Nat.le_of_ble_eq_true rfl) (Nat.le_of_ble_eq_true rfl) (fun _ _ hx => noX_x hx) (fun v9 L1 hp9 => ?_)
    obtain ⟨rfl, rfl⟩ := hp9
    refine (show Go g κ 14 [some (.ref m), some (.int (nI 110)), some (.int (nI w)), some (.ref it4), none] [.int (nI (if ¬ k = ps_1.length then 1 else 0))] [[(m, .inr (12, [.ref ls, .ref lb, .ref lk, .ref lp, .ref lr, .ref le, .ref lm, .ref lo, .int (nI th), .int z, .int (nI bo), .int (nI cm)]))], w2, [(it4, .inr (22, [.int (nI k), .int lrt, .int md_1, .ref lr]))], w1] 0 0 from ?_)
    rw [hln_1.1]
    refine (show Go g κ 14 [some (.ref m), some (.int (nI 110)), some (.int (nI w)), some (.ref it4), none] [.int (nI (if ¬ k = Rs.length then 1 else 0))] [[(m, .inr (12, [.ref ls, .ref lb, .ref lk, .ref lp, .ref lr, .ref le, .ref lm, .ref lo, .int (nI th), .int z, .int (nI bo), .int (nI cm)]))], w2, [(it4, .inr (22, [.int (nI k), .int lrt, .int md_1, .ref lr]))], w1] 0 0 from ?_)
    refine g_if_eq (tgt := 113) (q := 17) B dX3_isProposed_14 rfl (by decide) (bo_eq) (fun c14 => ?_) (fun c14 => ?_)
    · skip
      refine g_iconst (v := nI 0) (q := 114) B dX3_isProposed_113 rfl (by decide) ?_
      refine g_pk [0, 2, 0] rfl rfl ?_
      refine (show Go g κ 114 [some (.ref m), some (.int (nI 110)), some (.int (nI w)), some (.ref it4), none] [.int (nI 0)] [[(m, .inr (12, [.ref ls, .ref lb, .ref lk, .ref lp, .ref lr, .ref le, .ref lm, .ref lo, .int (nI th), .int z, .int (nI bo), .int (nI cm)]))], w1, w2] 0 0 from ?_)
      exact g_zret B E dX3_isProposed_114 (by decide) (⟨bo0 (any_f hno (by omega)), rfl⟩)
    · skip
      have c14 := Classical.not_not.mp c14
      refine g_aload_n (q := 18) B dX3_isProposed_17 rfl rfl (rv_r _) ?_
      obtain ⟨r18, hr18⟩ := get_ex (xs := Rs) (i := k) (by omega)
      obtain ⟨x18, hx18⟩ := get_ex (xs := ps_1) (i := k) (by have := get_lt2 hr18; have := hln_1.1; omega)
      have hE_2 := hel_1 _ _ _ hx18 hr18
      refine g_callF (q := 23) (is := [2, 2]) (kc2 := 0) (ks2 := 0) B [] (ct_J19_next_s g J (p := lr) (xs := ps_1) (md := md_1) (cap := rcap) (it := it4) (c := k) (lr := lrt) (x := x18) (W1 := w1)  (hli_1) (hx18)) dX3_isProposed_18 rfl (ci := 22) rfl (rc_at B (ci := 22) rfl (k := 2) rfl) q3236 q967 q969 q104 q971 q966 q965 q970 q968 q939 rfl rfl mojava_util_Iterator_next___Ljava_lang_Object_ rfl rfl (by decide) (by decide) (Nat.le_of_ble_eq_true rfl) (Nat.le_of_ble_eq_true rfl) (Nat.le_of_ble_eq_true rfl) (fun _ _ hx => noX_x hx) (fun v18 L1 hp18 => ?_)
      obtain ⟨rfl, rfl⟩ := hp18
      refine (show Go g κ 23 [some (.ref m), some (.int (nI 110)), some (.int (nI w)), some (.ref it4), none] [.ref x18] [[(m, .inr (12, [.ref ls, .ref lb, .ref lk, .ref lp, .ref lr, .ref le, .ref lm, .ref lo, .int (nI th), .int z, .int (nI bo), .int (nI cm)]))], w2, [(it4, .inr (22, [.int (nI (k + 1)), .int (nI k), .int md_1, .ref lr]))], w1] 0 0 from ?_)
      refine g_castRS (ci := 18) (q := 26) B rfl (rc_in B (ci := 18) rfl (k := 3) rfl (Sub.hm (hE_2) fun _ z => MrP.hm z)) dX3_isProposed_23 rfl q3382 ?_
      refine g_astore (q := 28) (lv2 := [some (.ref m), some (.int (nI 110)), some (.int (nI w)), some (.ref it4), some (.ref x18)]) B dX3_isProposed_26 rfl (Nat.le_of_ble_eq_true rfl) (rv_r _) rfl ?_
      obtain ⟨hb1, hb2, hb3⟩ := hRb _ (List.mem_of_getElem? hr18)
      refine g_aload (q := 30) B dX3_isProposed_28 rfl rfl (rv_r _) ?_
      have hc_3_0 := MrP.at (hE_2)
      refine g_getNM (q := 33) B (ci := 18) (k := 3) (j := 0) in_X17 rfl dX3_isProposed_30 rfl rfl (hc_3_0) (Nat.le_of_ble_eq_true rfl) q3393 rfl rfl ?_
      refine g_iload_n (q := 34) B dX3_isProposed_33 rfl rfl ?_
      refine g_icmp_ne (tgt := 110) (q := 37) B dX3_isProposed_34 rfl (by decide) (not_congr (nI_eq (by omega) (by omega))) (fun c34 => ?_) (fun c34 => ?_)
      · skip
        refine g_goto (tgt := 8) B dX3_isProposed_110 (by decide) ?_
        refine g_fg 4 rfl ?_
        exact ih8 _ (by have := get_lt2 hr18; omega) (k + 1) (nI k) (by first | assumption | omega | rfl) (any_s hno hr18 (by rintro z; simp at z; first | exact c34 z.1 | exact c105 z.2)) rfl
      · skip
        have c34 := Classical.not_not.mp c34
        refine g_iload_n (q := 38) B dX3_isProposed_37 rfl rfl ?_
        refine g_bipush (v := nI 97) (q := 40) B dX3_isProposed_38 rfl (by decide) ?_
        refine g_icmp_ne (tgt := 81) (q := 43) B dX3_isProposed_40 rfl (by decide) (iff_true_intro (by decide)) (fun _ => ?_) (fun z => absurd trivial z)
        refine g_iload_n (q := 82) B dX3_isProposed_81 rfl rfl ?_
        refine g_bipush (v := nI 114) (q := 84) B dX3_isProposed_82 rfl (by decide) ?_
        refine g_icmp_ne (tgt := 99) (q := 87) B dX3_isProposed_84 rfl (by decide) (iff_true_intro (by decide)) (fun _ => ?_) (fun z => absurd trivial z)
        refine g_aload (q := 101) B dX3_isProposed_99 rfl rfl (rv_r _) ?_
        refine g_getNM (q := 104) B (ci := 18) (k := 3) (j := 1) in_X17 rfl dX3_isProposed_101 rfl rfl (hc_3_0) (Nat.le_of_ble_eq_true rfl) q3395 rfl rfl ?_
        refine g_iload_n (q := 105) B dX3_isProposed_104 rfl rfl ?_
        refine g_icmp_ne (tgt := 110) (q := 108) B dX3_isProposed_105 rfl (by decide) (not_congr (nI_eq (by omega) (by omega))) (fun c105 => ?_) (fun c105 => ?_)
        · skip
          refine g_goto (tgt := 8) B dX3_isProposed_110 (by decide) ?_
          refine g_fg 4 rfl ?_
          exact ih8 _ (by have := get_lt2 hr18; omega) (k + 1) (nI k) (by first | assumption | omega | rfl) (any_s hno hr18 (by rintro z; simp at z; first | exact c34 z.1 | exact c105 z.2)) rfl
        · skip
          have c105 := Classical.not_not.mp c105
          refine g_iconst (v := nI 1) (q := 109) B dX3_isProposed_108 rfl (by decide) ?_
          refine g_pk [0, 2, 0] rfl rfl ?_
          refine (show Go g κ 109 [some (.ref m), some (.int (nI 110)), some (.int (nI w)), some (.ref it4), some (.ref x18)] [.int (nI 1)] [[(m, .inr (12, [.ref ls, .ref lb, .ref lk, .ref lp, .ref lr, .ref le, .ref lm, .ref lo, .int (nI th), .int z, .int (nI bo), .int (nI cm)]))], w1, w2] 0 0 from ?_)
          exact g_zret B E dX3_isProposed_109 (by decide) (⟨bo1 (any_t (k := k) hr18 (by simp [c34, c105])), rfl⟩)
  exact lp8 _ 0 (-1) (Nat.zero_le _) (fun i q h => absurd h (Nat.not_lt_zero i)) rfl
theorem ct_X3_isProposed_97 (g : Gv) (J : Jd g) {m : Nat} {ls : Nat} {lb : Nat} {lk : Nat} {lp : Nat} {lr : Nat} {le : Nat} {lm : Nat} {lo : Nat} {th : Nat} {z : Int32} {bo : Nat} {cm : Nat} {w : Nat} {q0 : MkS} {Rs : List MrS} {rcap : Nat} {mks : List Nat} {Ks : List MkS} {kcap : Nat} {w1 : va_W} {w2 : va_W} (hw1 : LhP g (MrP g) lr Rs rcap w1) (hw2 : LoP g (MqP g) lk mks Ks kcap w2) (hRb : ∀ q ∈ Rs, q.1 < 200 ∧ q.2.1 < 16 ∧ q.2.2 < 1000) (hw : w < 1000) (hq0 : Ks[w]? = some q0) (hRk : ∀ q ∈ Rs, q.1 = 97 → q.2.2 < Ks.length) : Ct g yX3_isProposed (ws_ yX3_isProposed cX3_isProposed 5 (some .boolean)) 3 1 4 [.ref m, .int (nI 97), .int (nI w)] [[(m, .inr (12, [.ref ls, .ref lb, .ref lk, .ref lp, .ref lr, .ref le, .ref lm, .ref lo, .int (nI th), .int z, .int (nI bo), .int (nI cm)]))], w1, w2] (fun (rv_ : Option Value) (rL_ : List va_W) => rv_ = some (.int (nI (if prA Ks Rs q0.1 = true then 1 else 0))) ∧ rL_ = [[(m, .inr (12, [.ref ls, .ref lb, .ref lk, .ref lp, .ref lr, .ref le, .ref lm, .ref lo, .int (nI th), .int z, .int (nI bo), .int (nI cm)]))], w1, w2]) noX := by
  refine Ct.of "KeygroveModel" [some (.ref m), some (.int (nI 97)), some (.int (nI w)), none, none] rfl (by decide) rfl (Nat.le_of_ble_eq_true rfl) rfl ?_
  intro κ B E tb
  refine g_aload_n (q := 1) B dX3_isProposed_0 rfl rfl (rv_r _) ?_
  refine g_get (q := 4) B (ci := 12) (k := 0) (j := 4) in_X3 rfl dX3_isProposed_1 rfl rfl (Nat.le_of_ble_eq_true rfl) q3061 rfl rfl ?_
  obtain ⟨ps_1, md_1, hli_1, hln_1, hel_1⟩ := LhP.at (Sub.self hw1)
  refine g_callV (q := 7) (is := [1]) (kc2 := 0) (ks2 := 0) B [] (ct_J2_iterator_s g J (p := lr) (xs := ps_1) (md := md_1) (cap := rcap) (W0 := w1)  (hli_1)) dX3_isProposed_4 rfl (rc_in B (ci := 21) rfl (k := 1) rfl (LhP.hm hw1)) rfl q3232 q805 q3668 q81 q807 rfl rfl moJ2_iterator rfl rfl (by decide) (by decide) (Nat.le_of_ble_eq_true rfl) (Nat.le_of_ble_eq_true rfl) (Nat.le_of_ble_eq_true rfl) (fun _ _ hx => noX_x hx) (fun v4 L1 hp4 => ?_)
  obtain ⟨it4, rfl, rfl⟩ := hp4
  refine (show Go g κ 7 [some (.ref m), some (.int (nI 97)), some (.int (nI w)), none, none] [.ref it4] [[(m, .inr (12, [.ref ls, .ref lb, .ref lk, .ref lp, .ref lr, .ref le, .ref lm, .ref lo, .int (nI th), .int z, .int (nI bo), .int (nI cm)]))], w2, [(it4, .inr (22, [.int (nI 0), .int (-1), .int md_1, .ref lr]))], w1] 0 0 from ?_)
  refine g_astore_n (q := 8) (lv2 := [some (.ref m), some (.int (nI 97)), some (.int (nI w)), some (.ref it4), none]) B dX3_isProposed_7 rfl (Nat.le_of_ble_eq_true rfl) (rv_r _) rfl ?_
  have lp8 : ∀ (n8 : Nat) (k : Nat) (lrt : Int32) , (k ≤ Rs.length) → (∀ i q, i < k → Rs[i]? = some q → ¬ (fun r => r.1 == 97 && (match Ks[r.2.2]? with | some q => q.1 == q0.1 | none => false)) q = true) → Rs.length - k = n8 → Go g κ 8 [some (.ref m), some (.int (nI 97)), some (.int (nI w)), some (.ref it4), none] [] [[(m, .inr (12, [.ref ls, .ref lb, .ref lk, .ref lp, .ref lr, .ref le, .ref lm, .ref lo, .int (nI th), .int z, .int (nI bo), .int (nI cm)]))], w2, [(it4, .inr (22, [.int (nI k), .int lrt, .int md_1, .ref lr]))], w1] 0 0 := by
    intro n8
    induction n8 using Nat.strongRecOn with
    | _ n8 ih8 =>
    intro k lrt  hk hno hmu8
    refine g_aload_n (q := 9) B dX3_isProposed_8 rfl rfl (rv_r _) ?_
    refine g_callF (q := 14) (is := [2, 2]) (kc2 := 0) (ks2 := 0) B [] (ct_J19_hasNext_s g J (p := lr) (xs := ps_1) (md := md_1) (cap := rcap) (it := it4) (c := k) (lr := lrt) (W1 := w1)  (hli_1) (by have := hln_1.1; omega)) dX3_isProposed_9 rfl (ci := 22) rfl (rc_at B (ci := 22) rfl (k := 2) rfl) q3234 q940 q942 q104 q944 q938 q937 q943 q941 q939 rfl rfl mojava_util_Iterator_hasNext___Z rfl rfl (by decide) (by decide) (Nat.le_of_ble_eq_true rfl) (Nat.le_of_ble_eq_true rfl) (Nat.le_of_ble_eq_true rfl) (fun _ _ hx => noX_x hx) (fun v9 L1 hp9 => ?_)
    obtain ⟨rfl, rfl⟩ := hp9
    refine (show Go g κ 14 [some (.ref m), some (.int (nI 97)), some (.int (nI w)), some (.ref it4), none] [.int (nI (if ¬ k = ps_1.length then 1 else 0))] [[(m, .inr (12, [.ref ls, .ref lb, .ref lk, .ref lp, .ref lr, .ref le, .ref lm, .ref lo, .int (nI th), .int z, .int (nI bo), .int (nI cm)]))], w2, [(it4, .inr (22, [.int (nI k), .int lrt, .int md_1, .ref lr]))], w1] 0 0 from ?_)
    rw [hln_1.1]
    refine (show Go g κ 14 [some (.ref m), some (.int (nI 97)), some (.int (nI w)), some (.ref it4), none] [.int (nI (if ¬ k = Rs.length then 1 else 0))] [[(m, .inr (12, [.ref ls, .ref lb, .ref lk, .ref lp, .ref lr, .ref le, .ref lm, .ref lo, .int (nI th), .int z, .int (nI bo), .int (nI cm)]))], w2, [(it4, .inr (22, [.int (nI k), .int lrt, .int md_1, .ref lr]))], w1] 0 0 from ?_)
    refine g_if_eq (tgt := 113) (q := 17) B dX3_isProposed_14 rfl (by decide) (bo_eq) (fun c14 => ?_) (fun c14 => ?_)
    · skip
      refine g_iconst (v := nI 0) (q := 114) B dX3_isProposed_113 rfl (by decide) ?_
      refine g_pk [0, 2, 0] rfl rfl ?_
      refine (show Go g κ 114 [some (.ref m), some (.int (nI 97)), some (.int (nI w)), some (.ref it4), none] [.int (nI 0)] [[(m, .inr (12, [.ref ls, .ref lb, .ref lk, .ref lp, .ref lr, .ref le, .ref lm, .ref lo, .int (nI th), .int z, .int (nI bo), .int (nI cm)]))], w1, w2] 0 0 from ?_)
      exact g_zret B E dX3_isProposed_114 (by decide) (⟨bo0 (any_f hno (by omega)), rfl⟩)
    · skip
      have c14 := Classical.not_not.mp c14
      refine g_aload_n (q := 18) B dX3_isProposed_17 rfl rfl (rv_r _) ?_
      obtain ⟨r18, hr18⟩ := get_ex (xs := Rs) (i := k) (by omega)
      obtain ⟨x18, hx18⟩ := get_ex (xs := ps_1) (i := k) (by have := get_lt2 hr18; have := hln_1.1; omega)
      have hE_2 := hel_1 _ _ _ hx18 hr18
      refine g_callF (q := 23) (is := [2, 2]) (kc2 := 0) (ks2 := 0) B [] (ct_J19_next_s g J (p := lr) (xs := ps_1) (md := md_1) (cap := rcap) (it := it4) (c := k) (lr := lrt) (x := x18) (W1 := w1)  (hli_1) (hx18)) dX3_isProposed_18 rfl (ci := 22) rfl (rc_at B (ci := 22) rfl (k := 2) rfl) q3236 q967 q969 q104 q971 q966 q965 q970 q968 q939 rfl rfl mojava_util_Iterator_next___Ljava_lang_Object_ rfl rfl (by decide) (by decide) (Nat.le_of_ble_eq_true rfl) (Nat.le_of_ble_eq_true rfl) (Nat.le_of_ble_eq_true rfl) (fun _ _ hx => noX_x hx) (fun v18 L1 hp18 => ?_)
      obtain ⟨rfl, rfl⟩ := hp18
      refine (show Go g κ 23 [some (.ref m), some (.int (nI 97)), some (.int (nI w)), some (.ref it4), none] [.ref x18] [[(m, .inr (12, [.ref ls, .ref lb, .ref lk, .ref lp, .ref lr, .ref le, .ref lm, .ref lo, .int (nI th), .int z, .int (nI bo), .int (nI cm)]))], w2, [(it4, .inr (22, [.int (nI (k + 1)), .int (nI k), .int md_1, .ref lr]))], w1] 0 0 from ?_)
      refine g_castRS (ci := 18) (q := 26) B rfl (rc_in B (ci := 18) rfl (k := 3) rfl (Sub.hm (hE_2) fun _ z => MrP.hm z)) dX3_isProposed_23 rfl q3382 ?_
      refine g_astore (q := 28) (lv2 := [some (.ref m), some (.int (nI 97)), some (.int (nI w)), some (.ref it4), some (.ref x18)]) B dX3_isProposed_26 rfl (Nat.le_of_ble_eq_true rfl) (rv_r _) rfl ?_
      obtain ⟨hb1, hb2, hb3⟩ := hRb _ (List.mem_of_getElem? hr18)
      refine g_aload (q := 30) B dX3_isProposed_28 rfl rfl (rv_r _) ?_
      have hc_3_0 := MrP.at (hE_2)
      refine g_getNM (q := 33) B (ci := 18) (k := 3) (j := 0) in_X17 rfl dX3_isProposed_30 rfl rfl (hc_3_0) (Nat.le_of_ble_eq_true rfl) q3393 rfl rfl ?_
      refine g_iload_n (q := 34) B dX3_isProposed_33 rfl rfl ?_
      refine g_icmp_ne (tgt := 110) (q := 37) B dX3_isProposed_34 rfl (by decide) (not_congr (nI_eq (by omega) (by omega))) (fun c34 => ?_) (fun c34 => ?_)
      · skip
        refine g_goto (tgt := 8) B dX3_isProposed_110 (by decide) ?_
        refine g_fg 4 rfl ?_
        exact ih8 _ (by have := get_lt2 hr18; omega) (k + 1) (nI k) (by first | assumption | omega | rfl) (any_s hno hr18 (by rintro z; first | (simp at z; exact c34 z.1) | (simp only [hq9] at z; simp at z; exact c75 z.2))) rfl
      · skip
        have c34 := Classical.not_not.mp c34
        refine g_iload_n (q := 38) B dX3_isProposed_37 rfl rfl ?_
        refine g_bipush (v := nI 97) (q := 40) B dX3_isProposed_38 rfl (by decide) ?_
        refine g_icmp_ne (tgt := 81) (q := 43) B dX3_isProposed_40 rfl (by decide) (iff_false_intro (by decide)) (fun z => z.elim) (fun _ => ?_)
        obtain ⟨q9, hq9⟩ := get_ex (xs := Ks) (i := r18.2.2) (hRk _ (List.mem_of_getElem? hr18) c34)
        refine g_aload_n (q := 44) B dX3_isProposed_43 rfl rfl (rv_r _) ?_
        refine g_get (q := 47) B (ci := 12) (k := 0) (j := 2) in_X3 rfl dX3_isProposed_44 rfl rfl (Nat.le_of_ble_eq_true rfl) q3059 rfl rfl ?_
        refine g_aload (q := 49) B dX3_isProposed_47 rfl rfl (rv_r _) ?_
        refine g_getNM (q := 52) B (ci := 18) (k := 3) (j := 2) in_X17 rfl dX3_isProposed_49 rfl rfl (hc_3_0) (Nat.le_of_ble_eq_true rfl) q3397 rfl rfl ?_
        obtain ⟨md_4, hli_4, hln_4, hel_4⟩ := LoP.at (Sub.self hw2)
        obtain ⟨x52, hx52⟩ := get_ex (xs := mks) (i := r18.2.2) (by have := get_lt2 (show Ks[r18.2.2]? = some q9 from hq9); have := hln_4.1; omega)
        have hE_5 := hel_4 _ _ _ hx52 (show Ks[r18.2.2]? = some q9 from hq9)
        refine g_callV (q := 55) (is := [1]) (kc2 := 0) (ks2 := 0) B [.int (nI r18.2.2)] (ct_J2_get_s g J (p := lk) (xs := mks) (md := md_4) (cap := kcap) (i := r18.2.2) (x := x52) (W0 := w2)  (hli_4) (hx52)) dX3_isProposed_52 rfl (rc_in B (ci := 21) rfl (k := 1) rfl (LoP.hm hw2)) rfl q3231 q1095 q3667 q81 q1097 rfl rfl moJ2_get rfl rfl (by decide) (by decide) (Nat.le_of_ble_eq_true rfl) (Nat.le_of_ble_eq_true rfl) (Nat.le_of_ble_eq_true rfl) (fun _ _ hx => noX_x hx) (fun v52 L1 hp52 => ?_)
        obtain ⟨rfl, rfl⟩ := hp52
        refine (show Go g κ 55 [some (.ref m), some (.int (nI 97)), some (.int (nI w)), some (.ref it4), some (.ref x18)] [.ref x52] [[(m, .inr (12, [.ref ls, .ref lb, .ref lk, .ref lp, .ref lr, .ref le, .ref lm, .ref lo, .int (nI th), .int z, .int (nI bo), .int (nI cm)]))], [(it4, .inr (22, [.int (nI (k + 1)), .int (nI k), .int md_1, .ref lr]))], w1, w2] 0 0 from ?_)
        refine g_castRS (ci := 15) (q := 58) B rfl (rc_in B (ci := 15) rfl (k := 3) rfl (Sub.hm (hE_5) fun _ z => MqP.hm z)) dX3_isProposed_55 rfl q3198 ?_
        obtain ⟨hK_6, hc_6_0⟩ := MqP.at (hE_5)
        refine g_getNM (q := 61) B (ci := 15) (k := 3) (j := 0) in_X9 rfl dX3_isProposed_58 rfl rfl (hc_6_0) (Nat.le_of_ble_eq_true rfl) q3205 rfl rfl ?_
        refine g_aload_n (q := 62) B dX3_isProposed_61 rfl rfl (rv_r _) ?_
        refine g_get (q := 65) B (ci := 12) (k := 0) (j := 2) in_X3 rfl dX3_isProposed_62 rfl rfl (Nat.le_of_ble_eq_true rfl) q3059 rfl rfl ?_
        refine g_iload_n (q := 66) B dX3_isProposed_65 rfl rfl ?_
        obtain ⟨x66, hx66⟩ := get_ex (xs := mks) (i := w) (by have := get_lt2 (show Ks[w]? = some q0 from hq0); have := hln_4.1; omega)
        have hE_7 := hel_4 _ _ _ hx66 (show Ks[w]? = some q0 from hq0)
        refine g_callV (q := 69) (is := [3]) (kc2 := 0) (ks2 := 0) B [.int (nI w)] (ct_J2_get_s g J (p := lk) (xs := mks) (md := md_4) (cap := kcap) (i := w) (x := x66) (W0 := w2)  (hli_4) (hx66)) dX3_isProposed_66 rfl (rc_in B (ci := 21) rfl (k := 3) rfl (LoP.hm hw2)) rfl q3231 q1095 q3667 q81 q1097 rfl rfl moJ2_get rfl rfl (by decide) (by decide) (Nat.le_of_ble_eq_true rfl) (Nat.le_of_ble_eq_true rfl) (Nat.le_of_ble_eq_true rfl) (fun _ _ hx => noX_x hx) (fun v66 L1 hp66 => ?_)
        obtain ⟨rfl, rfl⟩ := hp66
        refine (show Go g κ 69 [some (.ref m), some (.int (nI 97)), some (.int (nI w)), some (.ref it4), some (.ref x18)] [.ref x66, .int (nI q9.1)] [[(m, .inr (12, [.ref ls, .ref lb, .ref lk, .ref lp, .ref lr, .ref le, .ref lm, .ref lo, .int (nI th), .int z, .int (nI bo), .int (nI cm)]))], [(it4, .inr (22, [.int (nI (k + 1)), .int (nI k), .int md_1, .ref lr]))], w1, w2] 0 0 from ?_)
        refine g_castRS (ci := 15) (q := 72) B rfl (rc_in B (ci := 15) rfl (k := 3) rfl (Sub.hm (hE_7) fun _ z => MqP.hm z)) dX3_isProposed_69 rfl q3198 ?_
        obtain ⟨hK_8, hc_8_0⟩ := MqP.at (hE_7)
        refine g_getNM (q := 75) B (ci := 15) (k := 3) (j := 0) in_X9 rfl dX3_isProposed_72 rfl rfl (hc_8_0) (Nat.le_of_ble_eq_true rfl) q3205 rfl rfl ?_
        have hqa := (MqP.at (hE_5)).1.1
        have hqb := (MqP.at (hE_7)).1.1
        refine g_icmp_ne (tgt := 110) (q := 78) B dX3_isProposed_75 rfl (by decide) (not_congr (nI_eq (by omega) (by omega))) (fun c75 => ?_) (fun c75 => ?_)
        · skip
          refine g_goto (tgt := 8) B dX3_isProposed_110 (by decide) ?_
          refine g_fg 4 rfl ?_
          refine g_pk [0, 2, 0, 0] rfl rfl ?_
          refine (show Go g κ 8 [some (.ref m), some (.int (nI 97)), some (.int (nI w)), some (.ref it4), none] [] [[(m, .inr (12, [.ref ls, .ref lb, .ref lk, .ref lp, .ref lr, .ref le, .ref lm, .ref lo, .int (nI th), .int z, .int (nI bo), .int (nI cm)]))], w2, [(it4, .inr (22, [.int (nI (k + 1)), .int (nI k), .int md_1, .ref lr]))], w1] 0 0 from ?_)
          exact ih8 _ (by have := get_lt2 hr18; omega) (k + 1) (nI k) (by first | assumption | omega | rfl) (any_s hno hr18 (by rintro z; first | (simp at z; exact c34 z.1) | (simp only [hq9] at z; simp at z; exact c75 z.2))) rfl
        · skip
          have c75 := Classical.not_not.mp c75
          refine g_goto (tgt := 108) B dX3_isProposed_78 (by decide) ?_
          refine g_iconst (v := nI 1) (q := 109) B dX3_isProposed_108 rfl (by decide) ?_
          refine g_pk [0, 1, 1] rfl rfl ?_
          refine (show Go g κ 109 [some (.ref m), some (.int (nI 97)), some (.int (nI w)), some (.ref it4), some (.ref x18)] [.int (nI 1)] [[(m, .inr (12, [.ref ls, .ref lb, .ref lk, .ref lp, .ref lr, .ref le, .ref lm, .ref lo, .int (nI th), .int z, .int (nI bo), .int (nI cm)]))], w1, w2] 0 0 from ?_)
          exact g_zret B E dX3_isProposed_109 (by decide) (⟨bo1 (any_t (k := k) hr18 (by simp [c34, hq9, c75])), rfl⟩)
  exact lp8 _ 0 (-1) (Nat.zero_le _) (fun i q h => absurd h (Nat.not_lt_zero i)) rfl
theorem nwX17 : ∀ j, j < 3 → defaultValue (tyX17 j) = vp_V [.int (nI 0), .int (nI 0), .int (nI 0)] j := by
  intro j hj
  match j, hj with
  | 0, _ => rfl
  | 1, _ => rfl
  | 2, _ => rfl
  | n + 3, hj => exact absurd hj (by omega)
theorem moX17_init : Mo yX17_init 3 := by
  refine ⟨by decide, by decide, by decide +kernel⟩
theorem ct_X3_proposed (g : Gv) (J : Jd g) {m : Nat} {ls : Nat} {lb : Nat} {lk : Nat} {lp : Nat} {lr : Nat} {le : Nat} {lm : Nat} {lo : Nat} {th : Nat} {z : Int32} {bo : Nat} {cm : Nat} {Rs : List MrS} {rcap : Nat} {k : Nat} {p : Nat} {wv : Nat} {w1 : va_W} (hw1 : LhP g (MrP g) lr Rs rcap w1) (hk : k = 97 ∨ k = 110 ∨ k = 114) (hrc : rcap ≤ 60) (hrl : Rs.length < 40) : Ct g yX3_proposed (ws_ yX3_proposed cX3_proposed 4 (some .int)) 7 2 63 [.ref m, .int (nI k), .int (nI p), .int (nI wv)] [[(m, .inr (12, [.ref ls, .ref lb, .ref lk, .ref lp, .ref lr, .ref le, .ref lm, .ref lo, .int (nI th), .int z, .int (nI bo), .int (nI cm)]))], w1] (fun (rv_ : Option Value) (rL_ : List va_W) => ∃ (u1 : va_W), rv_ = some (.int (nI (Rs.length + 1))) ∧ rL_ = [[(m, .inr (12, [.ref ls, .ref lb, .ref lk, .ref lp, .ref lr, .ref le, .ref lm, .ref lo, .int (nI th), .int z, .int (nI bo), .int (nI cm)]))], u1] ∧ LhP g (MrP g) lr (Rs ++ [(k, p, wv)]) (if Rs.length = rcap then growN rcap else rcap) u1) noX := by
  refine Ct.of "KeygroveModel" [some (.ref m), some (.int (nI k)), some (.int (nI p)), some (.int (nI wv))] rfl (by decide) rfl (Nat.le_of_ble_eq_true rfl) rfl ?_
  intro κ B E tb
  refine g_aload_n (q := 1) B dX3_proposed_0 rfl rfl (rv_r _) ?_
  refine g_get (q := 4) B (ci := 12) (k := 0) (j := 4) in_X3 rfl dX3_proposed_1 rfl rfl (Nat.le_of_ble_eq_true rfl) q3061 rfl rfl ?_
  refine g_new (q := 7) (kc2 := 1) (ks2 := 60) (fs := [.int (nI 0), .int (nI 0), .int (nI 0)]) B (ci := 18) in_X17 tyX17_ok rfl dX3_proposed_4 rfl q3382 q3387 q141 (nwX17) (Nat.le_of_ble_eq_true rfl) (Nat.le_of_ble_eq_true rfl) (fun n4 => ?_)
  refine (show Go g κ 7 [some (.ref m), some (.int (nI k)), some (.int (nI p)), some (.int (nI wv))] [.ref n4, .ref lr] [[(m, .inr (12, [.ref ls, .ref lb, .ref lk, .ref lp, .ref lr, .ref le, .ref lm, .ref lo, .int (nI th), .int z, .int (nI bo), .int (nI cm)]))], w1, [(n4, .inr (18, [.int (nI 0), .int (nI 0), .int (nI 0)]))]] 1 60 from ?_)
  refine g_dup (q := 8) B dX3_proposed_7 rfl rfl ?_
  refine g_iload_n (q := 9) B dX3_proposed_8 rfl rfl ?_
  refine g_iload_n (q := 10) B dX3_proposed_9 rfl rfl ?_
  refine g_iload_n (q := 11) B dX3_proposed_10 rfl rfl ?_
  refine g_callI (q := 14) (is := [2]) (kc2 := 1) (ks2 := 60) B [.int (nI k), .int (nI p), .int (nI wv)] (ct_X17_init g J (a := n4) (k := k) (p := p) (w := wv)  (hk)) dX3_proposed_11 rfl rfl q3388 q3389 q141 q3390 rfl rfl moX17_init rfl rfl (by decide) (by decide) (Nat.le_of_ble_eq_true rfl) (Nat.le_of_ble_eq_true rfl) (Nat.le_of_ble_eq_true rfl) (fun _ _ hx => noX_x hx) (fun v11 L1 hp11 => ?_)
  obtain ⟨rfl, rfl⟩ := hp11
  refine (show Go g κ 14 [some (.ref m), some (.int (nI k)), some (.int (nI p)), some (.int (nI wv))] [.ref n4, .ref lr] [[(m, .inr (12, [.ref ls, .ref lb, .ref lk, .ref lp, .ref lr, .ref le, .ref lm, .ref lo, .int (nI th), .int z, .int (nI bo), .int (nI cm)]))], w1, [(n4, .inr (18, [.int (nI k), .int (nI p), .int (nI wv)]))]] 1 60 from ?_)
  obtain ⟨wc_1, ewc_1⟩ : ∃ w : va_W, w = ([[(n4, .inr (18, [.int (nI k), .int (nI p), .int (nI wv)]))]] : List va_W).flatten := ⟨_, rfl⟩
  have hwc_1 : MrP g n4 ((k, p, wv) : MrS) wc_1 := by
    rw [ewc_1]
    exact rfl
  refine g_close (w := wc_1) [2] rfl ewc_1 rfl ?_
  refine (show Go g κ 14 [some (.ref m), some (.int (nI k)), some (.int (nI p)), some (.int (nI wv))] [.ref n4, .ref lr] [[(m, .inr (12, [.ref ls, .ref lb, .ref lk, .ref lp, .ref lr, .ref le, .ref lm, .ref lo, .int (nI th), .int z, .int (nI bo), .int (nI cm)]))], w1, wc_1] 1 60 from ?_)
  obtain ⟨ps_2, md_2, hli_2, hln_2, hel_2⟩ := LhP.at (Sub.self hw1)
  refine g_callV (q := 17) (is := [1, 1]) (kc2 := 0) (ks2 := 0) B [.ref n4] (ct_add_MrL g J (p := lr) (rs := Rs) (cap := rcap) (a := n4) (r := ((k, p, wv) : MrS)) (mc := 1) (ms := 60) hw1 hwc_1 (by omega) (fun h => grow_s (by omega) h)) dX3_proposed_14 rfl (rc_in B (ci := 21) rfl (k := 1) rfl (LhP.hm hw1)) rfl q3144 q711 q3666 q81 q713 rfl rfl moJ2_add rfl rfl (by decide) (by decide) (Nat.le_of_ble_eq_true rfl) (Nat.le_of_ble_eq_true rfl) (Nat.le_of_ble_eq_true rfl) (fun _ _ hx => noX_x hx) (fun v14 L1 hp14 => ?_)
  obtain ⟨u0_14, rfl, rfl, hu0_14⟩ := hp14
  refine (show Go g κ 17 [some (.ref m), some (.int (nI k)), some (.int (nI p)), some (.int (nI wv))] [.int (nI 1)] [[(m, .inr (12, [.ref ls, .ref lb, .ref lk, .ref lp, .ref lr, .ref le, .ref lm, .ref lo, .int (nI th), .int z, .int (nI bo), .int (nI cm)]))], u0_14] 0 0 from ?_)
  refine g_pop (q := 18) B dX3_proposed_17 rfl rfl ?_
  refine g_aload_n (q := 19) B dX3_proposed_18 rfl rfl (rv_r _) ?_
  refine g_get (q := 22) B (ci := 12) (k := 0) (j := 4) in_X3 rfl dX3_proposed_19 rfl rfl (Nat.le_of_ble_eq_true rfl) q3061 rfl rfl ?_
  obtain ⟨ps_3, md_3, hli_3, hln_3, hel_3⟩ := LhP.at (Sub.self hu0_14)
  refine g_callV (q := 25) (is := [1]) (kc2 := 0) (ks2 := 0) B [] (ct_J2_size_s g J (p := lr) (xs := ps_3) (md := md_3) (cap := (if Rs.length = rcap then growN rcap else rcap)) (W0 := u0_14)  (hli_3)) dX3_proposed_22 rfl (rc_in B (ci := 21) rfl (k := 1) rfl (LhP.hm hu0_14)) rfl q3102 q321 q3665 q81 q323 rfl rfl moJ2_size rfl rfl (by decide) (by decide) (Nat.le_of_ble_eq_true rfl) (Nat.le_of_ble_eq_true rfl) (Nat.le_of_ble_eq_true rfl) (fun _ _ hx => noX_x hx) (fun v22 L1 hp22 => ?_)
  obtain ⟨rfl, rfl⟩ := hp22
  refine (show Go g κ 25 [some (.ref m), some (.int (nI k)), some (.int (nI p)), some (.int (nI wv))] [.int (nI ps_3.length)] [[(m, .inr (12, [.ref ls, .ref lb, .ref lk, .ref lp, .ref lr, .ref le, .ref lm, .ref lo, .int (nI th), .int z, .int (nI bo), .int (nI cm)]))], u0_14] 0 0 from ?_)
  rw [hln_3.1]
  refine (show Go g κ 25 [some (.ref m), some (.int (nI k)), some (.int (nI p)), some (.int (nI wv))] [.int (nI ((Rs ++ [((k, p, wv) : MrS)]).length))] [[(m, .inr (12, [.ref ls, .ref lb, .ref lk, .ref lp, .ref lr, .ref le, .ref lm, .ref lo, .int (nI th), .int z, .int (nI bo), .int (nI cm)]))], u0_14] 0 0 from ?_)
  exact g_iret B E dX3_proposed_25 (⟨_, by rw [List.length_append]; rfl, rfl, hu0_14⟩)
