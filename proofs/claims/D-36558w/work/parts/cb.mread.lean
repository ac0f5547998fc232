set_option maxRecDepth 100000
theorem nd_ix {xs : List Nat} {a b x : Nat} (h : xs.Nodup) (h1 : xs[a]? = some x) (h2 : xs[b]? = some x) : a = b := by
  exact (List.getElem?_inj (get_lt2 h1) h).mp (h1.trans h2.symm)
/-- a chain goes on past places that are left -/
abbrev RdM : Type := List Sec × McS
def rdm1 (S : RdM) : RdM := ((frm (frm S.1 (S.2.1, none, 7)).1 (S.2.1, none, 8)).1, ((frm (frm S.1 (S.2.1, none, 7)).1 (S.2.1, none, 8)).2, S.2.2.1 + 1, S.2.2.2 ++ [(S.2.2.1, (frm S.1 (S.2.1, none, 7)).2)]))
def rdmK (S : RdM) : Nat → RdM
  | 0 => S
  | k + 1 => rdm1 (rdmK S k)
theorem rdm_s {S : RdM} {q1 q2 : List Sec} {k1 k2 : Nat} (h1 : frm S.1 (S.2.1, none, 7) = (q1, k1)) (h2 : frm q1 (S.2.1, none, 8) = (q2, k2)) : rdm1 S = (q2, (k2, S.2.2.1 + 1, S.2.2.2 ++ [(S.2.2.1, k1)])) := by unfold rdm1; rw [h1, h2]
set_option maxHeartbeats 16000000 in
theorem ct_X3_read_o (g : Gv) (J : Jd g) {m : Nat} {D : MdS} {i : Nat} {r : MpS} {j : Nat} {q : MmS} {c : McS} {jj : Nat} {w0 : va_W} (hw0 : KdP g m D w0) (hD : MdB D) (hmb : ∀ q ∈ dMs D, q.1 < 100 ∧ q.2.1 < 16 ∧ q.2.2.1 < 100 ∧ q.2.2.2.2 < (dSs D).length) (hr : (dPs D)[i]? = some r) (hq : (dMs D)[j]? = some q) (he : mEp r = some q.1) (hc : mCh r q.2.1 = some c) (hle : q.2.2.1 ≤ c.2.1 + 4) (hlt : q.2.2.1 < c.2.1) (hjj : (c.2.2.map (·.1))[jj]? = some q.2.2.1) (hnd : (c.2.2.map (·.1)).Nodup) (hN : NtB (dKs D) (dEs D) ((dPs D).set i ((mEp r, mLf r, mLs r, mRn r, mNd r, fup (mCh r) q.2.1 (some ((c.1, c.2.1, c.2.2.eraseIdx jj) : McS)), mEv r) : MpS)) (dSs D).length (dMs D).length) : Ct g yX3_read (ws_ yX3_read cX3_read 8 (some .int)) 10 (10 + 10070 + 640 * (dMs D).length) (60 + 130200 + 1600 * (dMs D).length) [.ref m, .int (nI i), .int (nI j)] [w0] (fun (rv_ : Option Value) (rL_ : List va_W) => ∃ (Qs : List MpS) (u0 : va_W), rv_ = some (.int (vl (dSs D) q.2.2.2.2)) ∧ rL_ = [u0] ∧ KdP g m ((dSs D, dBx D, dKs D, Qs, dRs D, dEs D, dMs D, dSo D, 0, dZz D, dBn D, dCm D) : MdS) u0 ∧ (NtR (dKs D) (dEs D) ((dPs D).set i ((mEp r, mLf r, mLs r, mRn r, mNd r, fup (mCh r) q.2.1 (some ((c.1, c.2.1, c.2.2.eraseIdx jj) : McS)), mEv r) : MpS)) Qs ((dPs D).set i ((mEp r, mLf r, mLs r, mRn r, mNd r, fup (mCh r) q.2.1 (some ((c.1, c.2.1, c.2.2.eraseIdx jj) : McS)), mEv r) : MpS)).length)) noX := by
  refine Ct.of "KeygroveModel" [some (.ref m), some (.int (nI i)), some (.int (nI j)), none, none, none, none, none] rfl (by decide) rfl (Nat.le_of_ble_eq_true rfl) rfl ?_
  intro κ B E tb
  have hD0 := hD
  obtain ⟨hd1, hd2, hd3, hd4, hd5, hd6, hd7, hd8, hd9⟩ := hD0
  obtain ⟨ls, lb, lk, lp, lr, le, lm, lo, kcap, pcap, rcap, ecap, mcap, mks, mps, v0, v1, v2, v3, v4, v5, v6, v7, hcap, hv0, hv1, hv2, hv3, hv4, hv5, hv6, hv7, rfl⟩ := hw0
  refine g_open 0 rfl rfl rfl ?_
  refine (show Go g κ 0 [some (.ref m), some (.int (nI i)), some (.int (nI j)), none, none, none, none, none] [] [[(m, .inr (12, [.ref ls, .ref lb, .ref lk, .ref lp, .ref lr, .ref le, .ref lm, .ref lo, .int (nI (dTh D)), .int (dZz D), .int (nI (dBn D)), .int (nI (dCm D))]))], v0, v1, v2, v3, v4, v5, v6, v7] (10 + 10070 + 640 * (dMs D).length) (60 + 130200 + 1600 * (dMs D).length) from ?_)
  obtain ⟨kc1, kc2, kc3, kc4, kc5⟩ := (show capM kcap pcap rcap ecap mcap from hcap)
  refine g_aload_n (q := 1) B dX3_read_0 rfl rfl (rv_r _) ?_
  refine g_aload_n (q := 2) B dX3_read_1 rfl rfl (rv_r _) ?_
  refine g_iload_n (q := 3) B dX3_read_2 rfl rfl ?_
  have hi := get_lt2 hr
  have hj := get_lt2 hq
  obtain ⟨hm1, hm2, hm3, hm4⟩ := hmb _ (List.mem_of_getElem? hq)
  refine g_callV (q := 6) (is := [0, 3]) (kc2 := 10 + 10070 + 640 * (dMs D).length) (ks2 := 60 + 130200 + 1600 * (dMs D).length) B [.int (nI i)] (ct_X3_isPerson g J (m := m) (ls := ls) (lb := lb) (lk := lk) (lp := lp) (lr := lr) (le := le) (lm := lm) (lo := lo) (th := dTh D) (z := dZz D) (bo := dBn D) (cm := dCm D) (mps := mps) (Ps := (dPs D)) (pcap := pcap) (v := nI i) hv3 (by omega)) dX3_read_3 rfl (rc_at B (ci := 12) rfl (k := 0) rfl) rfl q3153 q3155 qs51 q85 q3156 rfl rfl moX3_isPerson rfl rfl (by decide) (by decide) (Nat.le_of_ble_eq_true rfl) (by omega) (by omega) (fun _ _ hx => noX_x hx) (fun v3 L1 hp3 => ?_)
  obtain ⟨rfl, rfl⟩ := hp3
  refine (show Go g κ 6 [some (.ref m), some (.int (nI i)), some (.int (nI j)), none, none, none, none, none] [.int (nI (if inR (nI i) (dPs D).length = true then 1 else 0)), .ref m] [v0, v1, v2, v4, v5, v6, v7, [(m, .inr (12, [.ref ls, .ref lb, .ref lk, .ref lp, .ref lr, .ref le, .ref lm, .ref lo, .int (nI (dTh D)), .int (dZz D), .int (nI (dBn D)), .int (nI (dCm D))]))], v3] (10 + 10070 + 640 * (dMs D).length) (60 + 130200 + 1600 * (dMs D).length) from ?_)
  refine g_if_eq (tgt := 21) (q := 9) B dX3_read_6 rfl (by decide) (iff_false_intro (fun z_ => bo_eq.mp z_ (by rw [inR_k (by omega)]; simpa using hi))) (fun z => z.elim) (fun _ => ?_)
  refine g_aload_n (q := 10) B dX3_read_9 rfl rfl (rv_r _) ?_
  refine g_iload_n (q := 11) B dX3_read_10 rfl rfl ?_
  refine g_callV (q := 14) (is := [7, 5]) (kc2 := 10 + 10070 + 640 * (dMs D).length) (ks2 := 60 + 130200 + 1600 * (dMs D).length) B [.int (nI j)] (ct_X3_isMessage g J (m := m) (ls := ls) (lb := lb) (lk := lk) (lp := lp) (lr := lr) (le := le) (lm := lm) (lo := lo) (th := (dTh D)) (z := (dZz D)) (bo := (dBn D)) (cm := (dCm D)) (Ms := (dMs D)) (mcap := mcap) (v := nI j) hv6 (by omega)) dX3_read_11 rfl (rc_at B (ci := 12) rfl (k := 7) rfl) rfl q3592 q3594 qs73 q85 q3595 rfl rfl moX3_isMessage rfl rfl (by decide) (by decide) (Nat.le_of_ble_eq_true rfl) (by omega) (by omega) (fun _ _ hx => noX_x hx) (fun v11 L1 hp11 => ?_)
  obtain ⟨rfl, rfl⟩ := hp11
  refine (show Go g κ 14 [some (.ref m), some (.int (nI i)), some (.int (nI j)), none, none, none, none, none] [.int (nI (if inR (nI j) (dMs D).length = true then 1 else 0)), .ref m] [v0, v1, v2, v4, v5, v7, v3, [(m, .inr (12, [.ref ls, .ref lb, .ref lk, .ref lp, .ref lr, .ref le, .ref lm, .ref lo, .int (nI (dTh D)), .int (dZz D), .int (nI (dBn D)), .int (nI (dCm D))]))], v6] (10 + 10070 + 640 * (dMs D).length) (60 + 130200 + 1600 * (dMs D).length) from ?_)
  refine g_if_eq (tgt := 21) (q := 17) B dX3_read_14 rfl (by decide) (iff_false_intro (fun z_ => bo_eq.mp z_ (by rw [inR_k (by omega)]; simpa using hj))) (fun z => z.elim) (fun _ => ?_)
  refine g_iconst (v := nI 0) (q := 18) B dX3_read_17 rfl (by decide) ?_
  refine g_goto (tgt := 22) B dX3_read_18 (by decide) ?_
  refine g_callV (q := 25) (is := [7]) (kc2 := 10 + 10070 + 640 * (dMs D).length) (ks2 := 60 + 130200 + 1600 * (dMs D).length) B [.int (nI 0)] (ct_X3_isWrong g J (m := m) (ls := ls) (lb := lb) (lk := lk) (lp := lp) (lr := lr) (le := le) (lm := lm) (lo := lo) (th := (dTh D)) (z := (dZz D)) (bo := (dBn D)) (cm := (dCm D)) (k := 0)  (by decide)) dX3_read_22 rfl (rc_at B (ci := 12) rfl (k := 7) rfl) rfl q3103 q3105 qs49 q85 q3106 rfl rfl moX3_isWrong rfl rfl (by decide) (by decide) (Nat.le_of_ble_eq_true rfl) (by omega) (by omega) (fun _ _ hx => noX_x hx) (fun v22 L1 hp22 => ?_)
  obtain ⟨rfl, rfl⟩ := hp22
  refine (show Go g κ 25 [some (.ref m), some (.int (nI i)), some (.int (nI j)), none, none, none, none, none] [.int (nI (if ¬ 0 = 0 then 1 else 0))] [v0, v1, v2, v4, v5, v7, v3, v6, [(m, .inr (12, [.ref ls, .ref lb, .ref lk, .ref lp, .ref lr, .ref le, .ref lm, .ref lo, .int (nI 0), .int (dZz D), .int (nI (dBn D)), .int (nI (dCm D))]))]] (10 + 10070 + 640 * (dMs D).length) (60 + 130200 + 1600 * (dMs D).length) from ?_)
  refine g_if_eq (tgt := 30) (q := 28) B dX3_read_25 rfl (by decide) (iff_true_intro (by decide)) (fun _ => ?_) (fun z => absurd trivial z)
  refine g_aload_n (q := 31) B dX3_read_30 rfl rfl (rv_r _) ?_
  refine g_get (q := 34) B (ci := 12) (k := 8) (j := 3) in_X3 rfl dX3_read_31 rfl rfl (Nat.le_of_ble_eq_true rfl) q3060 rfl rfl ?_
  refine g_iload_n (q := 35) B dX3_read_34 rfl rfl ?_
  obtain ⟨md_1, hli_1, hln_1, hel_1⟩ := LoP.at (Sub.self hv3)
  obtain ⟨x35, hx35⟩ := get_ex (xs := mps) (i := i) (by have := get_lt2 (show (dPs D)[i]? = some r from hr); have := hln_1.1; omega)
  have hE_2 := hel_1 _ _ _ hx35 (show (dPs D)[i]? = some r from hr)
  refine g_callV (q := 38) (is := [6]) (kc2 := 10 + 10070 + 640 * (dMs D).length) (ks2 := 60 + 130200 + 1600 * (dMs D).length) B [.int (nI i)] (ct_J2_get_s g J (p := lp) (xs := mps) (md := md_1) (cap := pcap) (i := i) (x := x35) (W0 := v3)  (hli_1) (hx35)) dX3_read_35 rfl (rc_in B (ci := 21) rfl (k := 6) rfl (LoP.hm hv3)) rfl q3231 q1095 q3667 q81 q1097 rfl rfl moJ2_get rfl rfl (by decide) (by decide) (Nat.le_of_ble_eq_true rfl) (by omega) (by omega) (fun _ _ hx => noX_x hx) (fun v35 L1 hp35 => ?_)
  obtain ⟨rfl, rfl⟩ := hp35
  refine (show Go g κ 38 [some (.ref m), some (.int (nI i)), some (.int (nI j)), none, none, none, none, none] [.ref x35] [v0, v1, v2, v4, v5, v7, v6, [(m, .inr (12, [.ref ls, .ref lb, .ref lk, .ref lp, .ref lr, .ref le, .ref lm, .ref lo, .int (nI 0), .int (dZz D), .int (nI (dBn D)), .int (nI (dCm D))]))], v3] (10 + 10070 + 640 * (dMs D).length) (60 + 130200 + 1600 * (dMs D).length) from ?_)
  refine g_castRS (ci := 13) (q := 41) B rfl (rc_in B (ci := 13) rfl (k := 8) rfl (Sub.hm (hE_2) fun _ z => MpP.hm z)) dX3_read_38 rfl q3107 ?_
  refine g_astore_n (q := 42) (lv2 := [some (.ref m), some (.int (nI i)), some (.int (nI j)), some (.ref x35), none, none, none, none]) B dX3_read_41 rfl (Nat.le_of_ble_eq_true rfl) (rv_r _) rfl ?_
  refine g_aload_n (q := 43) B dX3_read_42 rfl rfl (rv_r _) ?_
  refine g_get (q := 46) B (ci := 12) (k := 7) (j := 6) in_X3 rfl dX3_read_43 rfl rfl (Nat.le_of_ble_eq_true rfl) q3063 rfl rfl ?_
  refine g_iload_n (q := 47) B dX3_read_46 rfl rfl ?_
  obtain ⟨ps_3, md_3, hli_3, hln_3, hel_3⟩ := LhP.at (Sub.self hv6)
  obtain ⟨x47, hx47⟩ := get_ex (xs := ps_3) (i := j) (by have := get_lt2 (show (dMs D)[j]? = some q from hq); have := hln_3.1; omega)
  have hE_4 := hel_3 _ _ _ hx47 (show (dMs D)[j]? = some q from hq)
  refine g_callV (q := 50) (is := [6]) (kc2 := 10 + 10070 + 640 * (dMs D).length) (ks2 := 60 + 130200 + 1600 * (dMs D).length) B [.int (nI j)] (ct_J2_get_s g J (p := lm) (xs := ps_3) (md := md_3) (cap := mcap) (i := j) (x := x47) (W0 := v6)  (hli_3) (hx47)) dX3_read_47 rfl (rc_in B (ci := 21) rfl (k := 6) rfl (LhP.hm hv6)) rfl q3231 q1095 q3667 q81 q1097 rfl rfl moJ2_get rfl rfl (by decide) (by decide) (Nat.le_of_ble_eq_true rfl) (by omega) (by omega) (fun _ _ hx => noX_x hx) (fun v47 L1 hp47 => ?_)
  obtain ⟨rfl, rfl⟩ := hp47
  refine (show Go g κ 50 [some (.ref m), some (.int (nI i)), some (.int (nI j)), some (.ref x35), none, none, none, none] [.ref x47] [v0, v1, v2, v4, v5, v7, [(m, .inr (12, [.ref ls, .ref lb, .ref lk, .ref lp, .ref lr, .ref le, .ref lm, .ref lo, .int (nI 0), .int (dZz D), .int (nI (dBn D)), .int (nI (dCm D))]))], v3, v6] (10 + 10070 + 640 * (dMs D).length) (60 + 130200 + 1600 * (dMs D).length) from ?_)
  refine g_castRS (ci := 20) (q := 53) B rfl (rc_in B (ci := 20) rfl (k := 8) rfl (Sub.hm (hE_4) fun _ z => MmP.hm z)) dX3_read_50 rfl q3562 ?_
  refine g_astore (q := 55) (lv2 := [some (.ref m), some (.int (nI i)), some (.int (nI j)), some (.ref x35), some (.ref x47), none, none, none]) B dX3_read_53 rfl (Nat.le_of_ble_eq_true rfl) (rv_r _) rfl ?_
  refine g_aload_n (q := 56) B dX3_read_55 rfl rfl (rv_r _) ?_
  refine g_aload_n (q := 57) B dX3_read_56 rfl rfl (rv_r _) ?_
  obtain ⟨nd_5, ch_5, ev_5, cv_5, fn_5, fc_5, hM_5, hfn_5, hoc_5, hcv_5, hc_5_0, hc_5_1, hc_5_2, hs_5_0, hs_5_1⟩ := MpP.at (hE_2)
  refine g_getNM (q := 60) B (ci := 13) (k := 7) (j := 0) in_X5 rfl dX3_read_57 rfl rfl (hc_5_0) (Nat.le_of_ble_eq_true rfl) q3118 rfl rfl ?_
  refine g_stk (y := .int (nI q.1)) (by rw [he]; rfl) ?_
  refine g_aload (q := 62) B dX3_read_60 rfl rfl (rv_r _) ?_
  have hc_6_0 := MmP.at (hE_4)
  refine g_getNM (q := 65) B (ci := 20) (k := 8) (j := 0) in_X22 rfl dX3_read_62 rfl rfl (hc_6_0) (Nat.le_of_ble_eq_true rfl) q3569 rfl rfl ?_
  refine g_icmp_ne (tgt := 91) (q := 68) B dX3_read_65 rfl (by decide) (iff_false_intro (fun z_ => z_ rfl)) (fun z => z.elim) (fun _ => ?_)
  obtain ⟨lu1_o, lwi_o, lu2_o, hlwi_o, hlcl_o, hle_o⟩ := LoP.opn hv3 hx35 hr
  refine g_open 7 rfl hle_o rfl ?_
  refine (show Go g κ 68 [some (.ref m), some (.int (nI i)), some (.int (nI j)), some (.ref x35), some (.ref x47), none, none, none] [.ref m] [v0, v1, v2, v4, v5, v7, [(m, .inr (12, [.ref ls, .ref lb, .ref lk, .ref lp, .ref lr, .ref le, .ref lm, .ref lo, .int (nI 0), .int (dZz D), .int (nI (dBn D)), .int (nI (dCm D))]))], v6, lu1_o, lwi_o, lu2_o] (10 + 10070 + 640 * (dMs D).length) (60 + 130200 + 1600 * (dMs D).length) from ?_)
  obtain ⟨nd_o, ch_o, ev_o, cv_o, fn_o, fc_o, v0_o, v1_o, hM_o, hfn_o, hoc_o, hcv_o, hv0_o, hv1_o, rfl⟩ := hlwi_o
  refine g_open 9 rfl rfl rfl ?_
  refine (show Go g κ 68 [some (.ref m), some (.int (nI i)), some (.int (nI j)), some (.ref x35), some (.ref x47), none, none, none] [.ref m] [v0, v1, v2, v4, v5, v7, [(m, .inr (12, [.ref ls, .ref lb, .ref lk, .ref lp, .ref lr, .ref le, .ref lm, .ref lo, .int (nI 0), .int (dZz D), .int (nI (dBn D)), .int (nI (dCm D))]))], v6, lu1_o, lu2_o, [(x35, .inr (13, [.int (oI (mEp r)), .int (nI (mLf r)), .int (nI (mLs r)), .int (oI (mRn r)), .ref nd_o, .ref ch_o, .ref ev_o]))], [(nd_o, .inl (g.2.1 0, 31, .inl fn_o))], [(ch_o, .inl (g.2.1 5, 16, .inr (.inr (.inr (.inr fc_o)))))], v0_o, v1_o] (10 + 10070 + 640 * (dMs D).length) (60 + 130200 + 1600 * (dMs D).length) from ?_)
  obtain ⟨ca, bu1, bwi, bu2, hca, hbwi, hbcl, hbe⟩ := BgM.opnF hv0_o hoc_o hc
  refine g_open 13 rfl hbe rfl ?_
  refine (show Go g κ 68 [some (.ref m), some (.int (nI i)), some (.int (nI j)), some (.ref x35), some (.ref x47), none, none, none] [.ref m] [v0, v1, v2, v4, v5, v7, [(m, .inr (12, [.ref ls, .ref lb, .ref lk, .ref lp, .ref lr, .ref le, .ref lm, .ref lo, .int (nI 0), .int (dZz D), .int (nI (dBn D)), .int (nI (dCm D))]))], v6, lu1_o, lu2_o, [(x35, .inr (13, [.int (oI (mEp r)), .int (nI (mLf r)), .int (nI (mLs r)), .int (oI (mRn r)), .ref nd_o, .ref ch_o, .ref ev_o]))], [(nd_o, .inl (g.2.1 0, 31, .inl fn_o))], [(ch_o, .inl (g.2.1 5, 16, .inr (.inr (.inr (.inr fc_o)))))], v1_o, bu1, bwi, bu2] (10 + 10070 + 640 * (dMs D).length) (60 + 130200 + 1600 * (dMs D).length) from ?_)
  obtain ⟨pl_c, ky_c, cp_c, ck_c, v0_c, v1_c, hC_c, hcc_c, hv0_c, hv1_c, rfl⟩ := hbwi
  refine g_open 15 rfl rfl rfl ?_
  refine (show Go g κ 68 [some (.ref m), some (.int (nI i)), some (.int (nI j)), some (.ref x35), some (.ref x47), none, none, none] [.ref m] [v0, v1, v2, v4, v5, v7, [(m, .inr (12, [.ref ls, .ref lb, .ref lk, .ref lp, .ref lr, .ref le, .ref lm, .ref lo, .int (nI 0), .int (dZz D), .int (nI (dBn D)), .int (nI (dCm D))]))], v6, lu1_o, lu2_o, [(x35, .inr (13, [.int (oI (mEp r)), .int (nI (mLf r)), .int (nI (mLs r)), .int (oI (mRn r)), .ref nd_o, .ref ch_o, .ref ev_o]))], [(nd_o, .inl (g.2.1 0, 31, .inl fn_o))], [(ch_o, .inl (g.2.1 5, 16, .inr (.inr (.inr (.inr fc_o)))))], v1_o, bu1, bu2, [(ca, .inr (17, [.int (nI c.1), .int (nI c.2.1), .ref pl_c, .ref ky_c]))], v0_c, v1_c] (10 + 10070 + 640 * (dMs D).length) (60 + 130200 + 1600 * (dMs D).length) from ?_)
  obtain ⟨hcb1, hcb2, hcb3, hcb4⟩ := (show McB c from hC_c)
  have hml : (c.2.2.map (·.1)).length = c.2.2.length := by simp
  have hml2 : (c.2.2.map (·.2)).length = c.2.2.length := by simp
  refine g_aload (q := 70) B dX3_read_68 rfl rfl (rv_r _) ?_
  refine g_getNM (q := 73) B (ci := 20) (k := 7) (j := 2) in_X22 rfl dX3_read_70 rfl rfl (hc_6_0) (Nat.le_of_ble_eq_true rfl) q3573 rfl rfl ?_
  refine g_aload_n (q := 74) B dX3_read_73 rfl rfl (rv_r _) ?_
  refine g_getN (q := 77) B (ci := 13) (k := 10) (j := 5) in_X5 rfl dX3_read_74 rfl rfl (Nat.le_of_ble_eq_true rfl) q3126 rfl rfl ?_
  refine g_aload (q := 79) B dX3_read_77 rfl rfl (rv_r _) ?_
  refine g_getNM (q := 82) B (ci := 20) (k := 7) (j := 1) in_X22 rfl dX3_read_79 rfl rfl (hc_6_0) (Nat.le_of_ble_eq_true rfl) q3571 rfl rfl ?_
  refine g_ald (r := some ca) (q := 83) B (k := 12) (t := 5) dX3_read_82 rfl rfl rfl (vp_in_nI (by omega) (by omega)) (by rw [nI_clamp (by omega)]; exact hca) ?_
  refine g_getN (q := 86) B (ci := 17) (k := 16) (j := 1) in_X14 rfl dX3_read_83 rfl rfl (Nat.le_of_ble_eq_true rfl) q3320 rfl rfl ?_
  refine g_iconst (v := nI 4) (q := 87) B dX3_read_86 rfl (by decide) ?_
  refine g_iadd (v := nI (c.2.1 + 4)) (q := 88) B dX3_read_87 rfl (nI_add _ _) ?_
  refine g_icmp_le (tgt := 95) (q := 91) B dX3_read_88 rfl (by decide) (nI_leI (by omega) (by omega)) (fun c88 => ?_) (fun c88 => ?_)
  · skip
    refine g_iconst (v := nI 0) (q := 96) B dX3_read_95 rfl (by decide) ?_
    refine g_callV (q := 99) (is := [6]) (kc2 := 10 + 10070 + 640 * (dMs D).length) (ks2 := 60 + 130200 + 1600 * (dMs D).length) B [.int (nI 0)] (ct_X3_isWrong g J (m := m) (ls := ls) (lb := lb) (lk := lk) (lp := lp) (lr := lr) (le := le) (lm := lm) (lo := lo) (th := 0) (z := (dZz D)) (bo := (dBn D)) (cm := (dCm D)) (k := 0)  (by decide)) dX3_read_96 rfl (rc_at B (ci := 12) rfl (k := 6) rfl) rfl q3103 q3105 qs49 q85 q3106 rfl rfl moX3_isWrong rfl rfl (by decide) (by decide) (Nat.le_of_ble_eq_true rfl) (by omega) (by omega) (fun _ _ hx => noX_x hx) (fun v96 L1 hp96 => ?_)
    obtain ⟨rfl, rfl⟩ := hp96
    refine (show Go g κ 99 [some (.ref m), some (.int (nI i)), some (.int (nI j)), some (.ref x35), some (.ref x47), none, none, none] [.int (nI (if ¬ 0 = 0 then 1 else 0))] [v0, v1, v2, v4, v5, v7, v6, lu1_o, lu2_o, [(x35, .inr (13, [.int (oI (mEp r)), .int (nI (mLf r)), .int (nI (mLs r)), .int (oI (mRn r)), .ref nd_o, .ref ch_o, .ref ev_o]))], [(nd_o, .inl (g.2.1 0, 31, .inl fn_o))], [(ch_o, .inl (g.2.1 5, 16, .inr (.inr (.inr (.inr fc_o)))))], v1_o, bu1, bu2, [(ca, .inr (17, [.int (nI c.1), .int (nI c.2.1), .ref pl_c, .ref ky_c]))], v0_c, v1_c, [(m, .inr (12, [.ref ls, .ref lb, .ref lk, .ref lp, .ref lr, .ref le, .ref lm, .ref lo, .int (nI 0), .int (dZz D), .int (nI (dBn D)), .int (nI (dCm D))]))]] (10 + 10070 + 640 * (dMs D).length) (60 + 130200 + 1600 * (dMs D).length) from ?_)
    refine g_if_eq (tgt := 104) (q := 102) B dX3_read_99 rfl (by decide) (iff_true_intro (by decide)) (fun _ => ?_) (fun z => absurd trivial z)
    refine g_aload_n (q := 105) B dX3_read_104 rfl rfl (rv_r _) ?_
    refine g_getN (q := 108) B (ci := 13) (k := 9) (j := 5) in_X5 rfl dX3_read_105 rfl rfl (Nat.le_of_ble_eq_true rfl) q3126 rfl rfl ?_
    refine g_aload (q := 110) B dX3_read_108 rfl rfl (rv_r _) ?_
    refine g_getNM (q := 113) B (ci := 20) (k := 6) (j := 1) in_X22 rfl dX3_read_110 rfl rfl (hc_6_0) (Nat.le_of_ble_eq_true rfl) q3571 rfl rfl ?_
    refine g_ald (r := some ca) (q := 114) B (k := 11) (t := 5) dX3_read_113 rfl rfl rfl (vp_in_nI (by omega) (by omega)) (by rw [nI_clamp (by omega)]; exact hca) ?_
    refine g_astore (q := 116) (lv2 := [some (.ref m), some (.int (nI i)), some (.int (nI j)), some (.ref x35), some (.ref x47), some (.ref ca), none, none]) B dX3_read_114 rfl (Nat.le_of_ble_eq_true rfl) (rv_r _) rfl ?_
    refine g_iconst (v := -1) (q := 117) B dX3_read_116 rfl (by decide) ?_
    refine g_istore (q := 119) (lv2 := [some (.ref m), some (.int (nI i)), some (.int (nI j)), some (.ref x35), some (.ref x47), some (.ref ca), some (.int (-1)), none]) B dX3_read_117 rfl (Nat.le_of_ble_eq_true rfl) rfl ?_
    refine g_iconst (v := nI 0) (q := 120) B dX3_read_119 rfl (by decide) ?_
    refine g_istore (q := 122) (lv2 := [some (.ref m), some (.int (nI i)), some (.int (nI j)), some (.ref x35), some (.ref x47), some (.ref ca), some (.int (-1)), some (.int (nI 0))]) B dX3_read_120 rfl (Nat.le_of_ble_eq_true rfl) rfl ?_
    have lp122 : ∀ (n122 : Nat) (k : Nat) (ho : Option Nat) , (k ≤ (c.2.2.map (·.1)).length) → (ho = none → ∀ n, n < k → ¬ (c.2.2.map (·.1))[n]? = some q.2.2.1) → (∀ n, ho = some n → n < k ∧ (c.2.2.map (·.1))[n]? = some q.2.2.1) → (c.2.2.map (·.1)).length - k = n122 → Go g κ 122 [some (.ref m), some (.int (nI i)), some (.int (nI j)), some (.ref x35), some (.ref x47), some (.ref ca), some (.int (oI ho)), some (.int (nI k))] [] [v0, v1, v2, v4, v5, v7, v6, lu1_o, lu2_o, [(x35, .inr (13, [.int (oI (mEp r)), .int (nI (mLf r)), .int (nI (mLs r)), .int (oI (mRn r)), .ref nd_o, .ref ch_o, .ref ev_o]))], [(nd_o, .inl (g.2.1 0, 31, .inl fn_o))], [(ch_o, .inl (g.2.1 5, 16, .inr (.inr (.inr (.inr fc_o)))))], v1_o, bu1, bu2, [(ca, .inr (17, [.int (nI c.1), .int (nI c.2.1), .ref pl_c, .ref ky_c]))], v0_c, v1_c, [(m, .inr (12, [.ref ls, .ref lb, .ref lk, .ref lp, .ref lr, .ref le, .ref lm, .ref lo, .int (nI 0), .int (dZz D), .int (nI (dBn D)), .int (nI (dCm D))]))]] (10 + 10070 + 640 * (dMs D).length) (60 + 130200 + 1600 * (dMs D).length) := by
      intro n122
      induction n122 using Nat.strongRecOn with
      | _ n122 ih122 =>
      intro k ho  hk hho1 hho2 hmu122
      have hml : (c.2.2.map (·.1)).length = c.2.2.length := by simp
      refine g_iload (q := 124) B dX3_read_122 rfl rfl ?_
      refine g_aload (q := 126) B dX3_read_124 rfl rfl (rv_r _) ?_
      refine g_getN (q := 129) B (ci := 17) (k := 15) (j := 2) in_X14 rfl dX3_read_126 rfl rfl (Nat.le_of_ble_eq_true rfl) q3322 rfl rfl ?_
      obtain ⟨ps_7, md_7, hli_7, hln_7, hel_7⟩ := LhP.at (Sub.self hv0_c)
      refine g_callV (q := 132) (is := [16]) (kc2 := 10 + 10070 + 640 * (dMs D).length) (ks2 := 60 + 130200 + 1600 * (dMs D).length) B [] (ct_J2_size_s g J (p := pl_c) (xs := ps_7) (md := md_7) (cap := cp_c) (W0 := v0_c)  (hli_7)) dX3_read_129 rfl (rc_in B (ci := 21) rfl (k := 16) rfl (LhP.hm hv0_c)) rfl q3102 q321 q3665 q81 q323 rfl rfl moJ2_size rfl rfl (by decide) (by decide) (Nat.le_of_ble_eq_true rfl) (by omega) (by omega) (fun _ _ hx => noX_x hx) (fun v129 L1 hp129 => ?_)
      obtain ⟨rfl, rfl⟩ := hp129
      refine (show Go g κ 132 [some (.ref m), some (.int (nI i)), some (.int (nI j)), some (.ref x35), some (.ref x47), some (.ref ca), some (.int (oI ho)), some (.int (nI k))] [.int (nI ps_7.length), .int (nI k)] [v0, v1, v2, v4, v5, v7, v6, lu1_o, lu2_o, [(x35, .inr (13, [.int (oI (mEp r)), .int (nI (mLf r)), .int (nI (mLs r)), .int (oI (mRn r)), .ref nd_o, .ref ch_o, .ref ev_o]))], [(nd_o, .inl (g.2.1 0, 31, .inl fn_o))], [(ch_o, .inl (g.2.1 5, 16, .inr (.inr (.inr (.inr fc_o)))))], v1_o, bu1, bu2, [(ca, .inr (17, [.int (nI c.1), .int (nI c.2.1), .ref pl_c, .ref ky_c]))], v1_c, [(m, .inr (12, [.ref ls, .ref lb, .ref lk, .ref lp, .ref lr, .ref le, .ref lm, .ref lo, .int (nI 0), .int (dZz D), .int (nI (dBn D)), .int (nI (dCm D))]))], v0_c] (10 + 10070 + 640 * (dMs D).length) (60 + 130200 + 1600 * (dMs D).length) from ?_)
      rw [hln_7.1]
      refine (show Go g κ 132 [some (.ref m), some (.int (nI i)), some (.int (nI j)), some (.ref x35), some (.ref x47), some (.ref ca), some (.int (oI ho)), some (.int (nI k))] [.int (nI ((c.2.2.map (·.1)).length)), .int (nI k)] [v0, v1, v2, v4, v5, v7, v6, lu1_o, lu2_o, [(x35, .inr (13, [.int (oI (mEp r)), .int (nI (mLf r)), .int (nI (mLs r)), .int (oI (mRn r)), .ref nd_o, .ref ch_o, .ref ev_o]))], [(nd_o, .inl (g.2.1 0, 31, .inl fn_o))], [(ch_o, .inl (g.2.1 5, 16, .inr (.inr (.inr (.inr fc_o)))))], v1_o, bu1, bu2, [(ca, .inr (17, [.int (nI c.1), .int (nI c.2.1), .ref pl_c, .ref ky_c]))], v1_c, [(m, .inr (12, [.ref ls, .ref lb, .ref lk, .ref lp, .ref lr, .ref le, .ref lm, .ref lo, .int (nI 0), .int (dZz D), .int (nI (dBn D)), .int (nI (dCm D))]))], v0_c] (10 + 10070 + 640 * (dMs D).length) (60 + 130200 + 1600 * (dMs D).length) from ?_)
      refine g_icmp_ge (tgt := 174) (q := 135) B dX3_read_132 rfl (by decide) (nI_leI (by omega) (by omega)) (fun c132 => ?_) (fun c132 => ?_)
      · skip
        have hhoj : ho = some jj := by
          cases e9 : ho with
          | none => exact absurd hjj (hho1 e9 jj (by have := get_lt2 hjj; omega))
          | some n => have h9 := hho2 n e9; exact congrArg some (nd_ix hnd h9.2 hjj)
        have hjl := get_lt2 hjj
        refine g_lvs (lv2 := [some (.ref m), some (.int (nI i)), some (.int (nI j)), some (.ref x35), some (.ref x47), some (.ref ca), some (.int (nI jj)), some (.int (nI k))]) (st2 := []) (by rw [(show oI ho = nI jj from by rw [hhoj]; rfl)]) (by first | rfl | rw [(show oI ho = nI jj from by rw [hhoj]; rfl)]) ?_
        refine (show Go g κ 174 [some (.ref m), some (.int (nI i)), some (.int (nI j)), some (.ref x35), some (.ref x47), some (.ref ca), some (.int (nI jj)), some (.int (nI k))] [] [v0, v1, v2, v4, v5, v7, v6, lu1_o, lu2_o, [(x35, .inr (13, [.int (oI (mEp r)), .int (nI (mLf r)), .int (nI (mLs r)), .int (oI (mRn r)), .ref nd_o, .ref ch_o, .ref ev_o]))], [(nd_o, .inl (g.2.1 0, 31, .inl fn_o))], [(ch_o, .inl (g.2.1 5, 16, .inr (.inr (.inr (.inr fc_o)))))], v1_o, bu1, bu2, [(ca, .inr (17, [.int (nI c.1), .int (nI c.2.1), .ref pl_c, .ref ky_c]))], v1_c, [(m, .inr (12, [.ref ls, .ref lb, .ref lk, .ref lp, .ref lr, .ref le, .ref lm, .ref lo, .int (nI 0), .int (dZz D), .int (nI (dBn D)), .int (nI (dCm D))]))], v0_c] (10 + 10070 + 640 * (dMs D).length) (60 + 130200 + 1600 * (dMs D).length) from ?_)
        refine g_aload_n (q := 175) B dX3_read_174 rfl rfl (rv_r _) ?_
        refine g_aload (q := 177) B dX3_read_175 rfl rfl (rv_r _) ?_
        refine g_getNM (q := 180) B (ci := 20) (k := 6) (j := 2) in_X22 rfl dX3_read_177 rfl rfl (hc_6_0) (Nat.le_of_ble_eq_true rfl) q3573 rfl rfl ?_
        refine g_aload (q := 182) B dX3_read_180 rfl rfl (rv_r _) ?_
        refine g_getN (q := 185) B (ci := 17) (k := 15) (j := 1) in_X14 rfl dX3_read_182 rfl rfl (Nat.le_of_ble_eq_true rfl) q3320 rfl rfl ?_
        refine g_icmp_ge (tgt := 198) (q := 188) B dX3_read_185 rfl (by decide) (nI_leI (by omega) (by omega)) (fun c185 => ?_) (fun c185 => ?_)
        · skip
          exact absurd hlt (by omega)
        · skip
          refine g_iload (q := 190) B dX3_read_188 rfl rfl ?_
          refine g_iconst (v := -1) (q := 191) B dX3_read_190 rfl (by decide) ?_
          refine g_icmp_ne (tgt := 198) (q := 194) B dX3_read_191 rfl (by decide) (iff_true_intro (nI_nm1 (by omega))) (fun _ => ?_) (fun z => absurd trivial z)
          refine g_iconst (v := nI 0) (q := 199) B dX3_read_198 rfl (by decide) ?_
          refine g_callV (q := 202) (is := [17]) (kc2 := 10 + 10070 + 640 * (dMs D).length) (ks2 := 60 + 130200 + 1600 * (dMs D).length) B [.int (nI 0)] (ct_X3_isWrong g J (m := m) (ls := ls) (lb := lb) (lk := lk) (lp := lp) (lr := lr) (le := le) (lm := lm) (lo := lo) (th := 0) (z := (dZz D)) (bo := (dBn D)) (cm := (dCm D)) (k := 0)  (by decide)) dX3_read_199 rfl (rc_at B (ci := 12) rfl (k := 17) rfl) rfl q3103 q3105 qs49 q85 q3106 rfl rfl moX3_isWrong rfl rfl (by decide) (by decide) (Nat.le_of_ble_eq_true rfl) (by omega) (by omega) (fun _ _ hx => noX_x hx) (fun v199 L1 hp199 => ?_)
          obtain ⟨rfl, rfl⟩ := hp199
          refine (show Go g κ 202 [some (.ref m), some (.int (nI i)), some (.int (nI j)), some (.ref x35), some (.ref x47), some (.ref ca), some (.int (nI jj)), some (.int (nI k))] [.int (nI (if ¬ 0 = 0 then 1 else 0))] [v0, v1, v2, v4, v5, v7, v6, lu1_o, lu2_o, [(x35, .inr (13, [.int (oI (mEp r)), .int (nI (mLf r)), .int (nI (mLs r)), .int (oI (mRn r)), .ref nd_o, .ref ch_o, .ref ev_o]))], [(nd_o, .inl (g.2.1 0, 31, .inl fn_o))], [(ch_o, .inl (g.2.1 5, 16, .inr (.inr (.inr (.inr fc_o)))))], v1_o, bu1, bu2, [(ca, .inr (17, [.int (nI c.1), .int (nI c.2.1), .ref pl_c, .ref ky_c]))], v1_c, v0_c, [(m, .inr (12, [.ref ls, .ref lb, .ref lk, .ref lp, .ref lr, .ref le, .ref lm, .ref lo, .int (nI 0), .int (dZz D), .int (nI (dBn D)), .int (nI (dCm D))]))]] (10 + 10070 + 640 * (dMs D).length) (60 + 130200 + 1600 * (dMs D).length) from ?_)
          refine g_if_eq (tgt := 207) (q := 205) B dX3_read_202 rfl (by decide) (iff_true_intro (by decide)) (fun _ => ?_) (fun z => absurd trivial z)
          refine g_iload (q := 209) B dX3_read_207 rfl rfl ?_
          refine g_iconst (v := -1) (q := 210) B dX3_read_209 rfl (by decide) ?_
          refine g_icmp_eq (tgt := 235) (q := 213) B dX3_read_210 rfl (by decide) (iff_false_intro (nI_nm1 (by omega))) (fun z => z.elim) (fun _ => ?_)
          obtain ⟨ky9, hky9⟩ := get_ex (xs := c.2.2.map (·.2)) (i := jj) (by omega)
          refine g_aload (q := 215) B dX3_read_213 rfl rfl (rv_r _) ?_
          refine g_getN (q := 218) B (ci := 17) (k := 15) (j := 2) in_X14 rfl dX3_read_215 rfl rfl (Nat.le_of_ble_eq_true rfl) q3322 rfl rfl ?_
          refine g_iload (q := 220) B dX3_read_218 rfl rfl ?_
          refine g_callV (q := 223) (is := [17]) (kc2 := 10 + 10070 + 640 * (dMs D).length) (ks2 := 60 + 130200 + 1600 * (dMs D).length) B [.int (nI jj)] (ct_J2_remove_I g J (p := pl_c) (rs := (c.2.2.map (·.1))) (cap := cp_c) (i := jj) (v := q.2.2.1) hv0_c (hjj)) dX3_read_220 rfl (rc_in B (ci := 21) rfl (k := 17) rfl (LhP.hm hv0_c)) rfl q3596 q2253 q2254 q81 q2255 rfl rfl moJ2_remove rfl rfl (by decide) (by decide) (Nat.le_of_ble_eq_true rfl) (by omega) (by omega) (fun _ _ hx => noX_x hx) (fun v220 L1 hp220 => ?_)
          obtain ⟨x220, u0_220, rfl, rfl, hu0_220⟩ := hp220
          refine (show Go g κ 223 [some (.ref m), some (.int (nI i)), some (.int (nI j)), some (.ref x35), some (.ref x47), some (.ref ca), some (.int (nI jj)), some (.int (nI k))] [.ref x220] [v0, v1, v2, v4, v5, v7, v6, lu1_o, lu2_o, [(x35, .inr (13, [.int (oI (mEp r)), .int (nI (mLf r)), .int (nI (mLs r)), .int (oI (mRn r)), .ref nd_o, .ref ch_o, .ref ev_o]))], [(nd_o, .inl (g.2.1 0, 31, .inl fn_o))], [(ch_o, .inl (g.2.1 5, 16, .inr (.inr (.inr (.inr fc_o)))))], v1_o, bu1, bu2, [(ca, .inr (17, [.int (nI c.1), .int (nI c.2.1), .ref pl_c, .ref ky_c]))], v1_c, [(m, .inr (12, [.ref ls, .ref lb, .ref lk, .ref lp, .ref lr, .ref le, .ref lm, .ref lo, .int (nI 0), .int (dZz D), .int (nI (dBn D)), .int (nI (dCm D))]))], u0_220] (10 + 10070 + 640 * (dMs D).length) (60 + 130200 + 1600 * (dMs D).length) from ?_)
          refine g_pop (q := 224) B dX3_read_223 rfl rfl ?_
          refine g_aload (q := 226) B dX3_read_224 rfl rfl (rv_r _) ?_
          refine g_getN (q := 229) B (ci := 17) (k := 15) (j := 3) in_X14 rfl dX3_read_226 rfl rfl (Nat.le_of_ble_eq_true rfl) q3324 rfl rfl ?_
          refine g_iload (q := 231) B dX3_read_229 rfl rfl ?_
          refine g_callV (q := 234) (is := [16]) (kc2 := 10 + 10070 + 640 * (dMs D).length) (ks2 := 60 + 130200 + 1600 * (dMs D).length) B [.int (nI jj)] (ct_J2_remove_I g J (p := ky_c) (rs := (c.2.2.map (·.2))) (cap := ck_c) (i := jj) (v := ky9) hv1_c (hky9)) dX3_read_231 rfl (rc_in B (ci := 21) rfl (k := 16) rfl (LhP.hm hv1_c)) rfl q3596 q2253 q2254 q81 q2255 rfl rfl moJ2_remove rfl rfl (by decide) (by decide) (Nat.le_of_ble_eq_true rfl) (by omega) (by omega) (fun _ _ hx => noX_x hx) (fun v231 L1 hp231 => ?_)
          obtain ⟨x231, u0_231, rfl, rfl, hu0_231⟩ := hp231
          refine (show Go g κ 234 [some (.ref m), some (.int (nI i)), some (.int (nI j)), some (.ref x35), some (.ref x47), some (.ref ca), some (.int (nI jj)), some (.int (nI k))] [.ref x231] [v0, v1, v2, v4, v5, v7, v6, lu1_o, lu2_o, [(x35, .inr (13, [.int (oI (mEp r)), .int (nI (mLf r)), .int (nI (mLs r)), .int (oI (mRn r)), .ref nd_o, .ref ch_o, .ref ev_o]))], [(nd_o, .inl (g.2.1 0, 31, .inl fn_o))], [(ch_o, .inl (g.2.1 5, 16, .inr (.inr (.inr (.inr fc_o)))))], v1_o, bu1, bu2, [(ca, .inr (17, [.int (nI c.1), .int (nI c.2.1), .ref pl_c, .ref ky_c]))], [(m, .inr (12, [.ref ls, .ref lb, .ref lk, .ref lp, .ref lr, .ref le, .ref lm, .ref lo, .int (nI 0), .int (dZz D), .int (nI (dBn D)), .int (nI (dCm D))]))], u0_220, u0_231] (10 + 10070 + 640 * (dMs D).length) (60 + 130200 + 1600 * (dMs D).length) from ?_)
          refine g_pop (q := 235) B dX3_read_234 rfl rfl ?_
          refine g_aload (q := 237) B dX3_read_235 rfl rfl (rv_r _) ?_
          refine g_getN (q := 240) B (ci := 17) (k := 15) (j := 1) in_X14 rfl dX3_read_237 rfl rfl (Nat.le_of_ble_eq_true rfl) q3320 rfl rfl ?_
          refine g_aload (q := 242) B dX3_read_240 rfl rfl (rv_r _) ?_
          refine g_getNM (q := 245) B (ci := 20) (k := 6) (j := 2) in_X22 rfl dX3_read_242 rfl rfl (hc_6_0) (Nat.le_of_ble_eq_true rfl) q3573 rfl rfl ?_
          refine g_icmp_gt (tgt := 333) (q := 248) B dX3_read_245 rfl (by decide) (nI_ltI (by omega) (by omega)) (fun c245 => ?_) (fun c245 => ?_)
          · skip
            have hr_8 : LhP g (BxE g) pl_c ((c.2.2.eraseIdx jj).map (·.1)) cp_c u0_220 := by rw [map_era]; exact hu0_220
            have hr_9 : LhP g (BxE g) ky_c ((c.2.2.eraseIdx jj).map (·.2)) ck_c u0_231 := by rw [map_era]; exact hu0_231
            have hC2 : McB ((c.1, c.2.1, c.2.2.eraseIdx jj) : McS) := ⟨hcb1, hcb2, (by have := List.length_eraseIdx_le c.2.2 jj; show (c.2.2.eraseIdx jj).length ≤ 40; omega), fun p hp => hcb4 p (List.mem_of_mem_eraseIdx hp)⟩
            obtain ⟨wc_10, ewc_10⟩ : ∃ w : va_W, w = ([[(ca, .inr (17, [.int (nI c.1), .int (nI c.2.1), .ref pl_c, .ref ky_c]))], u0_220, u0_231] : List va_W).flatten := ⟨_, rfl⟩
            have hwc_10 : McP g ca ((c.1, c.2.1, c.2.2.eraseIdx jj) : McS) wc_10 := by
              rw [ewc_10]
              exact ⟨pl_c, ky_c, cp_c, ck_c, _, _, hC2, hcc_c, hr_8, hr_9, rfl⟩
            refine g_close (w := wc_10) [15, 16, 16] rfl ewc_10 rfl ?_
            refine (show Go g κ 333 [some (.ref m), some (.int (nI i)), some (.int (nI j)), some (.ref x35), some (.ref x47), some (.ref ca), some (.int (nI jj)), some (.int (nI k))] [] [v0, v1, v2, v4, v5, v7, v6, lu1_o, lu2_o, [(x35, .inr (13, [.int (oI (mEp r)), .int (nI (mLf r)), .int (nI (mLs r)), .int (oI (mRn r)), .ref nd_o, .ref ch_o, .ref ev_o]))], [(nd_o, .inl (g.2.1 0, 31, .inl fn_o))], [(ch_o, .inl (g.2.1 5, 16, .inr (.inr (.inr (.inr fc_o)))))], v1_o, bu1, bu2, [(m, .inr (12, [.ref ls, .ref lb, .ref lk, .ref lp, .ref lr, .ref le, .ref lm, .ref lo, .int (nI 0), .int (dZz D), .int (nI (dBn D)), .int (nI (dCm D))]))], wc_10] (10 + 10070 + 640 * (dMs D).length) (60 + 130200 + 1600 * (dMs D).length) from ?_)
            obtain ⟨wc_11, ewc_11⟩ : ∃ w : va_W, w = ([bu1, wc_10, bu2] : List va_W).flatten := ⟨_, rfl⟩
            have hwc_11 : BgM (McP g) fc_o (fup (mCh r) q.2.1 (some ((c.1, c.2.1, c.2.2.eraseIdx jj) : McS))) wc_11 := by
              rw [ewc_11]
              exact hbcl _ _ hwc_10
            refine g_close (w := wc_11) [13, 15, 13] rfl ewc_11 rfl ?_
            refine (show Go g κ 333 [some (.ref m), some (.int (nI i)), some (.int (nI j)), some (.ref x35), some (.ref x47), some (.ref ca), some (.int (nI jj)), some (.int (nI k))] [] [v0, v1, v2, v4, v5, v7, v6, lu1_o, lu2_o, [(x35, .inr (13, [.int (oI (mEp r)), .int (nI (mLf r)), .int (nI (mLs r)), .int (oI (mRn r)), .ref nd_o, .ref ch_o, .ref ev_o]))], [(nd_o, .inl (g.2.1 0, 31, .inl fn_o))], [(ch_o, .inl (g.2.1 5, 16, .inr (.inr (.inr (.inr fc_o)))))], v1_o, [(m, .inr (12, [.ref ls, .ref lb, .ref lk, .ref lp, .ref lr, .ref le, .ref lm, .ref lo, .int (nI 0), .int (dZz D), .int (nI (dBn D)), .int (nI (dCm D))]))], wc_11] (10 + 10070 + 640 * (dMs D).length) (60 + 130200 + 1600 * (dMs D).length) from ?_)
            obtain ⟨wc_12, ewc_12⟩ : ∃ w : va_W, w = ([[(x35, .inr (13, [.int (oI (mEp r)), .int (nI (mLf r)), .int (nI (mLs r)), .int (oI (mRn r)), .ref nd_o, .ref ch_o, .ref ev_o]))], [(nd_o, .inl (g.2.1 0, 31, .inl fn_o))], [(ch_o, .inl (g.2.1 5, 16, .inr (.inr (.inr (.inr fc_o)))))], wc_11, v1_o] : List va_W).flatten := ⟨_, rfl⟩
            have hwc_12 : MpP g x35 ((mEp r, mLf r, mLs r, mRn r, mNd r, fup (mCh r) q.2.1 (some ((c.1, c.2.1, c.2.2.eraseIdx jj) : McS)), mEv r) : MpS) wc_12 := by
              rw [ewc_12]
              exact ⟨nd_o, ch_o, ev_o, cv_o, fn_o, fc_o, _, _, (by obtain ⟨m1, m2, m3, m4, m5, m6, m7, m8⟩ := hM_o; exact ⟨m1, m2, m3, m4, m5, (fun i c9 h => by have h : fup (mCh r) q.2.1 (some ((c.1, c.2.1, c.2.2.eraseIdx jj) : McS)) i = some c9 := h; unfold fup at h; split at h; (rename_i e9; cases h; rw [e9]; exact ⟨hm2, hC2⟩); exact m6 i c9 h), m7, m8⟩), hfn_o, (fun j hj => ⟨(hoc_o j hj).1, by show fup (mCh r) q.2.1 _ j = none; rw [fup_n (by have : q.2.1 < 16 := hm2; omega)]; exact (hoc_o j hj).2⟩), hcv_o, hwc_11, hv1_o, rfl⟩
            refine g_close (w := wc_12) [9, 9, 9, 11, 9] rfl ewc_12 rfl ?_
            refine (show Go g κ 333 [some (.ref m), some (.int (nI i)), some (.int (nI j)), some (.ref x35), some (.ref x47), some (.ref ca), some (.int (nI jj)), some (.int (nI k))] [] [v0, v1, v2, v4, v5, v7, v6, lu1_o, lu2_o, [(m, .inr (12, [.ref ls, .ref lb, .ref lk, .ref lp, .ref lr, .ref le, .ref lm, .ref lo, .int (nI 0), .int (dZz D), .int (nI (dBn D)), .int (nI (dCm D))]))], wc_12] (10 + 10070 + 640 * (dMs D).length) (60 + 130200 + 1600 * (dMs D).length) from ?_)
            obtain ⟨wc_13, ewc_13⟩ : ∃ w : va_W, w = ([lu1_o, wc_12, lu2_o] : List va_W).flatten := ⟨_, rfl⟩
            have hwc_13 : LoP g (MpP g) lp mps ((dPs D).set i ((mEp r, mLf r, mLs r, mRn r, mNd r, fup (mCh r) q.2.1 (some ((c.1, c.2.1, c.2.2.eraseIdx jj) : McS)), mEv r) : MpS)) pcap wc_13 := by
              rw [ewc_13]
              exact hlcl_o _ _ hwc_12
            refine g_close (w := wc_13) [7, 9, 7] rfl ewc_13 rfl ?_
            refine (show Go g κ 333 [some (.ref m), some (.int (nI i)), some (.int (nI j)), some (.ref x35), some (.ref x47), some (.ref ca), some (.int (nI jj)), some (.int (nI k))] [] [v0, v1, v2, v4, v5, v7, v6, [(m, .inr (12, [.ref ls, .ref lb, .ref lk, .ref lp, .ref lr, .ref le, .ref lm, .ref lo, .int (nI 0), .int (dZz D), .int (nI (dBn D)), .int (nI (dCm D))]))], wc_13] (10 + 10070 + 640 * (dMs D).length) (60 + 130200 + 1600 * (dMs D).length) from ?_)
            have hpl9 : ((dPs D).set i ((mEp r, mLf r, mLs r, mRn r, mNd r, fup (mCh r) q.2.1 (some ((c.1, c.2.1, c.2.2.eraseIdx jj) : McS)), mEv r) : MpS)).length = (dPs D).length := List.length_set
            have hcfn := capF_le (dSs D).length
            refine g_aload_n (q := 334) B dX3_read_333 rfl rfl (rv_r _) ?_
            have hnt := nt_r (Q := (dMs D).length) (show ((dPs D).set i ((mEp r, mLf r, mLs r, mRn r, mNd r, fup (mCh r) q.2.1 (some ((c.1, c.2.1, c.2.2.eraseIdx jj) : McS)), mEv r) : MpS)).length ≤ 10 from by omega) (show (dKs D).length ≤ 24 from by omega) (show (dSs D).length ≤ 980 from by omega)
            obtain ⟨hnr1, hnr2⟩ := hnt
            refine g_callV (q := 337) (is := [7, 2, 6, 3]) (kc2 := 0) (ks2 := 0) B [] (ct_X3_notes g J (m := m) (ls := ls) (lb := lb) (lk := lk) (lp := lp) (lr := lr) (le := le) (lm := lm) (lo := lo) (th := 0) (z := (dZz D)) (bo := (dBn D)) (cm := (dCm D)) (mks := mks) (Ks := (dKs D)) (kcap := kcap) (mps := mps) (Ps := ((dPs D).set i ((mEp r, mLf r, mLs r, mRn r, mNd r, fup (mCh r) q.2.1 (some ((c.1, c.2.1, c.2.2.eraseIdx jj) : McS)), mEv r) : MpS))) (pcap := pcap) (Es := (dEs D)) (ecap := ecap) (n := (dSs D).length) (Q := (dMs D).length) hv2 hwc_13 hv5 (by omega) (fun i_ r_ e_ h1_ h2_ => (hN i_ r_ h1_).1 e_ h2_) (fun i_ r_ k_ c_ h1_ h2_ => (hN i_ r_ h1_).2.1 k_ c_ h2_) (fun i_ r_ x_ h1_ h2_ => (hN i_ r_ h1_).2.2.1 x_ h2_) (fun i_ r_ h1_ => (hN i_ r_ h1_).2.2.2) (Nat.le_trans (by omega) (by decide : 980 ≤ 1000))) dX3_read_334 rfl (rc_at B (ci := 12) rfl (k := 7) rfl) rfl q3223 q3225 qs54 q85 q3226 rfl rfl moX3_notes rfl rfl (by decide) (by decide) (Nat.le_of_ble_eq_true rfl) (by omega) (by omega) (fun _ _ hx => noX_x hx) (fun v334 L1 hp334 => ?_)
            obtain ⟨Qs334, u2_334, rfl, rfl, hu2_334, hN_334⟩ := hp334
            refine (show Go g κ 337 [some (.ref m), some (.int (nI i)), some (.int (nI j)), some (.ref x35), some (.ref x47), some (.ref ca), some (.int (nI jj)), some (.int (nI k))] [] [v0, v1, v4, v7, v6, [(m, .inr (12, [.ref ls, .ref lb, .ref lk, .ref lp, .ref lr, .ref le, .ref lm, .ref lo, .int (nI 0), .int (dZz D), .int (nI (dBn D)), .int (nI (dCm D))]))], v2, u2_334, v5] 0 0 from ?_)
            refine g_aload_n (q := 338) B dX3_read_337 rfl rfl (rv_r _) ?_
            refine g_get (q := 341) B (ci := 12) (k := 5) (j := 0) in_X3 rfl dX3_read_338 rfl rfl (Nat.le_of_ble_eq_true rfl) q3057 rfl rfl ?_
            refine g_aload (q := 343) B dX3_read_341 rfl rfl (rv_r _) ?_
            refine g_getNM (q := 346) B (ci := 20) (k := 4) (j := 4) in_X22 rfl dX3_read_343 rfl rfl (hc_6_0) (Nat.le_of_ble_eq_true rfl) q3576 rfl rfl ?_
            obtain ⟨ps_14, md_14, hli_14, hln_14, hel_14⟩ := LhP.at (Sub.self hv0)
            obtain ⟨r346, hr346⟩ := get_ex (xs := (dSs D)) (i := q.2.2.2.2) (by omega)
            obtain ⟨x346, hx346⟩ := get_ex (xs := ps_14) (i := q.2.2.2.2) (by have := get_lt2 hr346; have := hln_14.1; omega)
            have hE_15 := hel_14 _ _ _ hx346 hr346
            refine g_callV (q := 349) (is := [0]) (kc2 := 0) (ks2 := 0) B [.int (nI q.2.2.2.2)] (ct_J2_get_s g J (p := ls) (xs := ps_14) (md := md_14) (cap := (capF (dSs D).length)) (i := q.2.2.2.2) (x := x346) (W0 := v0)  (hli_14) (hx346)) dX3_read_346 rfl (rc_in B (ci := 21) rfl (k := 0) rfl (LhP.hm hv0)) rfl q3231 q1095 q3667 q81 q1097 rfl rfl moJ2_get rfl rfl (by decide) (by decide) (Nat.le_of_ble_eq_true rfl) (Nat.le_of_ble_eq_true rfl) (Nat.le_of_ble_eq_true rfl) (fun _ _ hx => noX_x hx) (fun v346 L1 hp346 => ?_)
            obtain ⟨rfl, rfl⟩ := hp346
            refine (show Go g κ 349 [some (.ref m), some (.int (nI i)), some (.int (nI j)), some (.ref x35), some (.ref x47), some (.ref ca), some (.int (nI jj)), some (.int (nI k))] [.ref x346] [v1, v4, v7, v6, [(m, .inr (12, [.ref ls, .ref lb, .ref lk, .ref lp, .ref lr, .ref le, .ref lm, .ref lo, .int (nI 0), .int (dZz D), .int (nI (dBn D)), .int (nI (dCm D))]))], v2, u2_334, v5, v0] 0 0 from ?_)
            refine g_castRS (ci := 14) (q := 352) B rfl (rc_in B (ci := 14) rfl (k := 8) rfl (Sub.hm (hE_15) fun _ z => SecP.hm z)) dX3_read_349 rfl q3175 ?_
            obtain ⟨hS_16, hc_16_0⟩ := SecP.at (hE_15)
            refine g_getNM (q := 355) B (ci := 14) (k := 8) (j := 0) in_X8 rfl dX3_read_352 rfl rfl (hc_16_0) (Nat.le_of_ble_eq_true rfl) q3182 rfl rfl ?_
            obtain ⟨wc_17, ewc_17⟩ : ∃ w : va_W, w = ([[(m, .inr (12, [.ref ls, .ref lb, .ref lk, .ref lp, .ref lr, .ref le, .ref lm, .ref lo, .int (nI 0), .int (dZz D), .int (nI (dBn D)), .int (nI (dCm D))]))], v0, v1, v2, u2_334, v4, v5, v6, v7] : List va_W).flatten := ⟨_, rfl⟩
            have hwc_17 : KdP g m ((dSs D, dBx D, dKs D, Qs334, dRs D, dEs D, dMs D, dSo D, 0, dZz D, dBn D, dCm D) : MdS) wc_17 := by
              rw [ewc_17]
              exact ⟨ls, lb, lk, lp, lr, le, lm, lo, kcap, pcap, rcap, ecap, mcap, mks, mps, _, _, _, _, _, _, _, _, (by first | exact hcap | exact ⟨by first | exact kc1 | exact grow_b (by omega) kc1, by first | exact kc2 | exact grow_b (by omega) kc2, by first | exact kc3 | exact grow_b (by omega) kc3, by first | exact kc4 | exact grow_b (by omega) kc4, by first | exact kc5 | (have := grow_b (n := (dMs D).length) (cap := mcap) (by omega); first | omega | (unfold growN; split <;> (try split) <;> omega))⟩), hv0, hv1, hv2, hu2_334, hv4, hv5, hv6, hv7, rfl⟩
            refine g_close (w := wc_17) [4, 7, 0, 3, 3, 0, 2, 1, 0] rfl ewc_17 rfl ?_
            refine (show Go g κ 355 [some (.ref m), some (.int (nI i)), some (.int (nI j)), some (.ref x35), some (.ref x47), some (.ref ca), some (.int (nI jj)), some (.int (nI k))] [.int r346.1] [wc_17] 0 0 from ?_)
            exact g_iret B E dX3_read_355 (⟨Qs334, _, by rw [vl_eq hr346], rfl, hwc_17, hN_334⟩)
          · skip
            exact absurd hlt (by omega)
      · skip
        refine g_aload (q := 137) B dX3_read_135 rfl rfl (rv_r _) ?_
        refine g_getN (q := 140) B (ci := 17) (k := 15) (j := 2) in_X14 rfl dX3_read_137 rfl rfl (Nat.le_of_ble_eq_true rfl) q3322 rfl rfl ?_
        refine g_iload (q := 142) B dX3_read_140 rfl rfl ?_
        obtain ⟨r142, hr142⟩ := get_ex (xs := (c.2.2.map (·.1))) (i := k) (by omega)
        obtain ⟨x142, hx142⟩ := get_ex (xs := ps_7) (i := k) (by have := get_lt2 hr142; have := hln_7.1; omega)
        have hb_18 := Sub.box (hel_7 _ _ _ hx142 hr142)
        refine g_callV (q := 145) (is := [18]) (kc2 := 10 + 10070 + 640 * (dMs D).length) (ks2 := 60 + 130200 + 1600 * (dMs D).length) B [.int (nI k)] (ct_J2_get_s g J (p := pl_c) (xs := ps_7) (md := md_7) (cap := cp_c) (i := k) (x := x142) (W0 := v0_c)  (hli_7) (hx142)) dX3_read_142 rfl (rc_in B (ci := 21) rfl (k := 18) rfl (LhP.hm hv0_c)) rfl q3231 q1095 q3667 q81 q1097 rfl rfl moJ2_get rfl rfl (by decide) (by decide) (Nat.le_of_ble_eq_true rfl) (by omega) (by omega) (fun _ _ hx => noX_x hx) (fun v142 L1 hp142 => ?_)
        obtain ⟨rfl, rfl⟩ := hp142
        refine (show Go g κ 145 [some (.ref m), some (.int (nI i)), some (.int (nI j)), some (.ref x35), some (.ref x47), some (.ref ca), some (.int (oI ho)), some (.int (nI k))] [.ref x142] [v0, v1, v2, v4, v5, v7, v6, lu1_o, lu2_o, [(x35, .inr (13, [.int (oI (mEp r)), .int (nI (mLf r)), .int (nI (mLs r)), .int (oI (mRn r)), .ref nd_o, .ref ch_o, .ref ev_o]))], [(nd_o, .inl (g.2.1 0, 31, .inl fn_o))], [(ch_o, .inl (g.2.1 5, 16, .inr (.inr (.inr (.inr fc_o)))))], v1_o, bu1, bu2, [(ca, .inr (17, [.int (nI c.1), .int (nI c.2.1), .ref pl_c, .ref ky_c]))], v1_c, [(m, .inr (12, [.ref ls, .ref lb, .ref lk, .ref lp, .ref lr, .ref le, .ref lm, .ref lo, .int (nI 0), .int (dZz D), .int (nI (dBn D)), .int (nI (dCm D))]))], v0_c] (10 + 10070 + 640 * (dMs D).length) (60 + 130200 + 1600 * (dMs D).length) from ?_)
        refine g_castRS (ci := 35) (q := 148) B rfl (rc_bxat B J (k := 18) rfl hb_18) dX3_read_145 rfl q3240 ?_
        refine g_callV (q := 151) (is := [18]) (kc2 := 10 + 10070 + 640 * (dMs D).length) (ks2 := 60 + 130200 + 1600 * (dMs D).length) B [] (ct_J26_intValue_b g J (a := x142) (v := nI r142) (wb := v0_c)  (hb_18)) dX3_read_148 rfl (rc_bxat B J (k := 18) rfl hb_18) rfl q3241 q1052 q1053 q111 q1054 rfl rfl moJ26_intValue rfl rfl (by decide) (by decide) (Nat.le_of_ble_eq_true rfl) (by omega) (by omega) (fun _ _ hx => noX_x hx) (fun v148 L1 hp148 => ?_)
        obtain ⟨rfl, rfl⟩ := hp148
        refine (show Go g κ 151 [some (.ref m), some (.int (nI i)), some (.int (nI j)), some (.ref x35), some (.ref x47), some (.ref ca), some (.int (oI ho)), some (.int (nI k))] [.int (nI r142)] [v0, v1, v2, v4, v5, v7, v6, lu1_o, lu2_o, [(x35, .inr (13, [.int (oI (mEp r)), .int (nI (mLf r)), .int (nI (mLs r)), .int (oI (mRn r)), .ref nd_o, .ref ch_o, .ref ev_o]))], [(nd_o, .inl (g.2.1 0, 31, .inl fn_o))], [(ch_o, .inl (g.2.1 5, 16, .inr (.inr (.inr (.inr fc_o)))))], v1_o, bu1, bu2, [(ca, .inr (17, [.int (nI c.1), .int (nI c.2.1), .ref pl_c, .ref ky_c]))], v1_c, [(m, .inr (12, [.ref ls, .ref lb, .ref lk, .ref lp, .ref lr, .ref le, .ref lm, .ref lo, .int (nI 0), .int (dZz D), .int (nI (dBn D)), .int (nI (dCm D))]))], v0_c] (10 + 10070 + 640 * (dMs D).length) (60 + 130200 + 1600 * (dMs D).length) from ?_)
        have hr9 : r142 < 100 := by
          obtain ⟨y, y1, y2⟩ := List.mem_map.mp (List.mem_of_getElem? hr142)
          rw [← y2]; exact (hcb4 y y1).1
        refine g_aload (q := 153) B dX3_read_151 rfl rfl (rv_r _) ?_
        refine g_getNM (q := 156) B (ci := 20) (k := 6) (j := 2) in_X22 rfl dX3_read_153 rfl rfl (hc_6_0) (Nat.le_of_ble_eq_true rfl) q3573 rfl rfl ?_
        refine g_icmp_ne (tgt := 164) (q := 159) B dX3_read_156 rfl (by decide) (not_congr (nI_eq (by omega) (by omega))) (fun c156 => ?_) (fun c156 => ?_)
        · skip
          refine g_iload (q := 166) B dX3_read_164 rfl rfl ?_
          refine g_istore (q := 168) (lv2 := [some (.ref m), some (.int (nI i)), some (.int (nI j)), some (.ref x35), some (.ref x47), some (.ref ca), some (.int (oI ho)), some (.int (nI k))]) B dX3_read_166 rfl (Nat.le_of_ble_eq_true rfl) rfl ?_
          refine g_iinc (v := nI (k + 1)) (q := 171) (lv2 := [some (.ref m), some (.int (nI i)), some (.int (nI j)), some (.ref x35), some (.ref x47), some (.ref ca), some (.int (oI ho)), some (.int (nI (k + 1)))]) B dX3_read_168 rfl rfl (nI_add _ 1) (Nat.le_of_ble_eq_true rfl) rfl ?_
          refine g_goto (tgt := 122) B dX3_read_171 (by decide) ?_
          refine g_pk [0, 0, 0, 0, 0, 0, 0, 0, 0, 0, 0, 0, 0, 0, 0, 0, 2, 0, 0] rfl rfl ?_
          refine (show Go g κ 122 [some (.ref m), some (.int (nI i)), some (.int (nI j)), some (.ref x35), some (.ref x47), some (.ref ca), some (.int (oI ho)), some (.int (nI (k + 1)))] [] [v0, v1, v2, v4, v5, v7, v6, lu1_o, lu2_o, [(x35, .inr (13, [.int (oI (mEp r)), .int (nI (mLf r)), .int (nI (mLs r)), .int (oI (mRn r)), .ref nd_o, .ref ch_o, .ref ev_o]))], [(nd_o, .inl (g.2.1 0, 31, .inl fn_o))], [(ch_o, .inl (g.2.1 5, 16, .inr (.inr (.inr (.inr fc_o)))))], v1_o, bu1, bu2, [(ca, .inr (17, [.int (nI c.1), .int (nI c.2.1), .ref pl_c, .ref ky_c]))], v0_c, v1_c, [(m, .inr (12, [.ref ls, .ref lb, .ref lk, .ref lp, .ref lr, .ref le, .ref lm, .ref lo, .int (nI 0), .int (dZz D), .int (nI (dBn D)), .int (nI (dCm D))]))]] (10 + 10070 + 640 * (dMs D).length) (60 + 130200 + 1600 * (dMs D).length) from ?_)
          exact ih122 _ (by omega) (k + 1) ho (by omega) (fun z n h => by rcases Nat.lt_or_ge n k with y | y; exact hho1 z n y; rw [show n = k by omega, hr142]; intro w; cases w; exact c156 rfl) (fun n h => by have := hho2 n h; exact ⟨by omega, this.2⟩) rfl
        · skip
          have c156 := Classical.not_not.mp c156
          refine g_iload (q := 161) B dX3_read_159 rfl rfl ?_
          refine g_goto (tgt := 166) B dX3_read_161 (by decide) ?_
          refine g_istore (q := 168) (lv2 := [some (.ref m), some (.int (nI i)), some (.int (nI j)), some (.ref x35), some (.ref x47), some (.ref ca), some (.int (nI k)), some (.int (nI k))]) B dX3_read_166 rfl (Nat.le_of_ble_eq_true rfl) rfl ?_
          refine g_iinc (v := nI (k + 1)) (q := 171) (lv2 := [some (.ref m), some (.int (nI i)), some (.int (nI j)), some (.ref x35), some (.ref x47), some (.ref ca), some (.int (nI k)), some (.int (nI (k + 1)))]) B dX3_read_168 rfl rfl (nI_add _ 1) (Nat.le_of_ble_eq_true rfl) rfl ?_
          refine g_goto (tgt := 122) B dX3_read_171 (by decide) ?_
          refine g_pk [0, 0, 0, 0, 0, 0, 0, 0, 0, 0, 0, 0, 0, 0, 0, 0, 2, 0, 0] rfl rfl ?_
          refine (show Go g κ 122 [some (.ref m), some (.int (nI i)), some (.int (nI j)), some (.ref x35), some (.ref x47), some (.ref ca), some (.int (nI k)), some (.int (nI (k + 1)))] [] [v0, v1, v2, v4, v5, v7, v6, lu1_o, lu2_o, [(x35, .inr (13, [.int (oI (mEp r)), .int (nI (mLf r)), .int (nI (mLs r)), .int (oI (mRn r)), .ref nd_o, .ref ch_o, .ref ev_o]))], [(nd_o, .inl (g.2.1 0, 31, .inl fn_o))], [(ch_o, .inl (g.2.1 5, 16, .inr (.inr (.inr (.inr fc_o)))))], v1_o, bu1, bu2, [(ca, .inr (17, [.int (nI c.1), .int (nI c.2.1), .ref pl_c, .ref ky_c]))], v0_c, v1_c, [(m, .inr (12, [.ref ls, .ref lb, .ref lk, .ref lp, .ref lr, .ref le, .ref lm, .ref lo, .int (nI 0), .int (dZz D), .int (nI (dBn D)), .int (nI (dCm D))]))]] (10 + 10070 + 640 * (dMs D).length) (60 + 130200 + 1600 * (dMs D).length) from ?_)
          exact ih122 _ (by omega) (k + 1) (some k) (by omega) (fun z => by cases z) (fun n h => by cases h; exact ⟨by omega, by rw [hr142, c156]⟩) rfl
    exact lp122 _ 0 none (Nat.zero_le _) (fun _ n h => absurd h (Nat.not_lt_zero n)) (fun n h => by cases h) rfl
  · skip
    exact absurd hle c88
set_option maxHeartbeats 16000000 in
theorem ct_X3_read_n (g : Gv) (J : Jd g) {m : Nat} {D : MdS} {i : Nat} {r : MpS} {j : Nat} {q : MmS} {c : McS} {fs : List Sec} {fi : Nat} {w0 : va_W} (hw0 : KdP g m D w0) (hD : MdB D) (hmb : ∀ q ∈ dMs D, q.1 < 100 ∧ q.2.1 < 16 ∧ q.2.2.1 < 100 ∧ q.2.2.2.2 < (dSs D).length) (hr : (dPs D)[i]? = some r) (hq : (dMs D)[j]? = some q) (he : mEp r = some q.1) (hc : mCh r q.2.1 = some c) (hle : q.2.2.1 ≤ c.2.1 + 4) (hge : c.2.1 ≤ q.2.2.1) (hpb : ∀ p ∈ c.2.2, p.1 < c.2.1) (hcl : c.2.2.length ≤ 30) (hpl : q.2.2.1 < 98) (hsc : ∀ k, k ≤ (q.2.2.1 - c.2.1) → (rdmK ((dSs D, c) : RdM) k).2.1 < (rdmK ((dSs D, c) : RdM) k).1.length ∧ (rdmK ((dSs D, c) : RdM) k).1.length ≤ 970) (hF : frm (rdmK ((dSs D, c) : RdM) (q.2.2.1 - c.2.1)).1 ((rdmK ((dSs D, c) : RdM) (q.2.2.1 - c.2.1)).2.1, none, 8) = (fs, fi)) (hfl : fs.length ≤ 980) (hfs : (dSs D).length ≤ fs.length) (hN : NtB (dKs D) (dEs D) ((dPs D).set i ((mEp r, mLf r, mLs r, mRn r, mNd r, fup (mCh r) q.2.1 (some ((fi, q.2.2.1 + 1, (rdmK ((dSs D, c) : RdM) (q.2.2.1 - c.2.1)).2.2.2) : McS)), mEv r) : MpS)) fs.length (dMs D).length) : Ct g yX3_read (ws_ yX3_read cX3_read 8 (some .int)) 10 (60 + 10070 + 640 * (dMs D).length) (8000 + 130200 + 1600 * (dMs D).length) [.ref m, .int (nI i), .int (nI j)] [w0] (fun (rv_ : Option Value) (rL_ : List va_W) => ∃ (Qs : List MpS) (u0 : va_W), rv_ = some (.int (vl fs q.2.2.2.2)) ∧ rL_ = [u0] ∧ KdP g m ((fs, dBx D, dKs D, Qs, dRs D, dEs D, dMs D, dSo D, 0, dZz D, dBn D, dCm D) : MdS) u0 ∧ (NtR (dKs D) (dEs D) ((dPs D).set i ((mEp r, mLf r, mLs r, mRn r, mNd r, fup (mCh r) q.2.1 (some ((fi, q.2.2.1 + 1, (rdmK ((dSs D, c) : RdM) (q.2.2.1 - c.2.1)).2.2.2) : McS)), mEv r) : MpS)) Qs ((dPs D).set i ((mEp r, mLf r, mLs r, mRn r, mNd r, fup (mCh r) q.2.1 (some ((fi, q.2.2.1 + 1, (rdmK ((dSs D, c) : RdM) (q.2.2.1 - c.2.1)).2.2.2) : McS)), mEv r) : MpS)).length)) noX := by
  refine Ct.of "KeygroveModel" [some (.ref m), some (.int (nI i)), some (.int (nI j)), none, none, none, none, none] rfl (by decide) rfl (Nat.le_of_ble_eq_true rfl) rfl ?_
  intro κ B E tb
  have hD0 := hD
  obtain ⟨hd1, hd2, hd3, hd4, hd5, hd6, hd7, hd8, hd9⟩ := hD0
  obtain ⟨ls, lb, lk, lp, lr, le, lm, lo, kcap, pcap, rcap, ecap, mcap, mks, mps, v0, v1, v2, v3, v4, v5, v6, v7, hcap, hv0, hv1, hv2, hv3, hv4, hv5, hv6, hv7, rfl⟩ := hw0
  refine g_open 0 rfl rfl rfl ?_
  refine (show Go g κ 0 [some (.ref m), some (.int (nI i)), some (.int (nI j)), none, none, none, none, none] [] [[(m, .inr (12, [.ref ls, .ref lb, .ref lk, .ref lp, .ref lr, .ref le, .ref lm, .ref lo, .int (nI (dTh D)), .int (dZz D), .int (nI (dBn D)), .int (nI (dCm D))]))], v0, v1, v2, v3, v4, v5, v6, v7] (60 + 10070 + 640 * (dMs D).length) (8000 + 130200 + 1600 * (dMs D).length) from ?_)
  obtain ⟨kc1, kc2, kc3, kc4, kc5⟩ := (show capM kcap pcap rcap ecap mcap from hcap)
  refine g_aload_n (q := 1) B dX3_read_0 rfl rfl (rv_r _) ?_
  refine g_aload_n (q := 2) B dX3_read_1 rfl rfl (rv_r _) ?_
  refine g_iload_n (q := 3) B dX3_read_2 rfl rfl ?_
  have hi := get_lt2 hr
  have hj := get_lt2 hq
  obtain ⟨hm1, hm2, hm3, hm4⟩ := hmb _ (List.mem_of_getElem? hq)
  refine g_callV (q := 6) (is := [0, 3]) (kc2 := 60 + 10070 + 640 * (dMs D).length) (ks2 := 8000 + 130200 + 1600 * (dMs D).length) B [.int (nI i)] (ct_X3_isPerson g J (m := m) (ls := ls) (lb := lb) (lk := lk) (lp := lp) (lr := lr) (le := le) (lm := lm) (lo := lo) (th := dTh D) (z := dZz D) (bo := dBn D) (cm := dCm D) (mps := mps) (Ps := (dPs D)) (pcap := pcap) (v := nI i) hv3 (by omega)) dX3_read_3 rfl (rc_at B (ci := 12) rfl (k := 0) rfl) rfl q3153 q3155 qs51 q85 q3156 rfl rfl moX3_isPerson rfl rfl (by decide) (by decide) (Nat.le_of_ble_eq_true rfl) (by omega) (by omega) (fun _ _ hx => noX_x hx) (fun v3 L1 hp3 => ?_)
  obtain ⟨rfl, rfl⟩ := hp3
  refine (show Go g κ 6 [some (.ref m), some (.int (nI i)), some (.int (nI j)), none, none, none, none, none] [.int (nI (if inR (nI i) (dPs D).length = true then 1 else 0)), .ref m] [v0, v1, v2, v4, v5, v6, v7, [(m, .inr (12, [.ref ls, .ref lb, .ref lk, .ref lp, .ref lr, .ref le, .ref lm, .ref lo, .int (nI (dTh D)), .int (dZz D), .int (nI (dBn D)), .int (nI (dCm D))]))], v3] (60 + 10070 + 640 * (dMs D).length) (8000 + 130200 + 1600 * (dMs D).length) from ?_)
  refine g_if_eq (tgt := 21) (q := 9) B dX3_read_6 rfl (by decide) (iff_false_intro (fun z_ => bo_eq.mp z_ (by rw [inR_k (by omega)]; simpa using hi))) (fun z => z.elim) (fun _ => ?_)
  refine g_aload_n (q := 10) B dX3_read_9 rfl rfl (rv_r _) ?_
  refine g_iload_n (q := 11) B dX3_read_10 rfl rfl ?_
  refine g_callV (q := 14) (is := [7, 5]) (kc2 := 60 + 10070 + 640 * (dMs D).length) (ks2 := 8000 + 130200 + 1600 * (dMs D).length) B [.int (nI j)] (ct_X3_isMessage g J (m := m) (ls := ls) (lb := lb) (lk := lk) (lp := lp) (lr := lr) (le := le) (lm := lm) (lo := lo) (th := (dTh D)) (z := (dZz D)) (bo := (dBn D)) (cm := (dCm D)) (Ms := (dMs D)) (mcap := mcap) (v := nI j) hv6 (by omega)) dX3_read_11 rfl (rc_at B (ci := 12) rfl (k := 7) rfl) rfl q3592 q3594 qs73 q85 q3595 rfl rfl moX3_isMessage rfl rfl (by decide) (by decide) (Nat.le_of_ble_eq_true rfl) (by omega) (by omega) (fun _ _ hx => noX_x hx) (fun v11 L1 hp11 => ?_)
  obtain ⟨rfl, rfl⟩ := hp11
  refine (show Go g κ 14 [some (.ref m), some (.int (nI i)), some (.int (nI j)), none, none, none, none, none] [.int (nI (if inR (nI j) (dMs D).length = true then 1 else 0)), .ref m] [v0, v1, v2, v4, v5, v7, v3, [(m, .inr (12, [.ref ls, .ref lb, .ref lk, .ref lp, .ref lr, .ref le, .ref lm, .ref lo, .int (nI (dTh D)), .int (dZz D), .int (nI (dBn D)), .int (nI (dCm D))]))], v6] (60 + 10070 + 640 * (dMs D).length) (8000 + 130200 + 1600 * (dMs D).length) from ?_)
  refine g_if_eq (tgt := 21) (q := 17) B dX3_read_14 rfl (by decide) (iff_false_intro (fun z_ => bo_eq.mp z_ (by rw [inR_k (by omega)]; simpa using hj))) (fun z => z.elim) (fun _ => ?_)
  refine g_iconst (v := nI 0) (q := 18) B dX3_read_17 rfl (by decide) ?_
  refine g_goto (tgt := 22) B dX3_read_18 (by decide) ?_
  refine g_callV (q := 25) (is := [7]) (kc2 := 60 + 10070 + 640 * (dMs D).length) (ks2 := 8000 + 130200 + 1600 * (dMs D).length) B [.int (nI 0)] (ct_X3_isWrong g J (m := m) (ls := ls) (lb := lb) (lk := lk) (lp := lp) (lr := lr) (le := le) (lm := lm) (lo := lo) (th := (dTh D)) (z := (dZz D)) (bo := (dBn D)) (cm := (dCm D)) (k := 0)  (by decide)) dX3_read_22 rfl (rc_at B (ci := 12) rfl (k := 7) rfl) rfl q3103 q3105 qs49 q85 q3106 rfl rfl moX3_isWrong rfl rfl (by decide) (by decide) (Nat.le_of_ble_eq_true rfl) (by omega) (by omega) (fun _ _ hx => noX_x hx) (fun v22 L1 hp22 => ?_)
  obtain ⟨rfl, rfl⟩ := hp22
  refine (show Go g κ 25 [some (.ref m), some (.int (nI i)), some (.int (nI j)), none, none, none, none, none] [.int (nI (if ¬ 0 = 0 then 1 else 0))] [v0, v1, v2, v4, v5, v7, v3, v6, [(m, .inr (12, [.ref ls, .ref lb, .ref lk, .ref lp, .ref lr, .ref le, .ref lm, .ref lo, .int (nI 0), .int (dZz D), .int (nI (dBn D)), .int (nI (dCm D))]))]] (60 + 10070 + 640 * (dMs D).length) (8000 + 130200 + 1600 * (dMs D).length) from ?_)
  refine g_if_eq (tgt := 30) (q := 28) B dX3_read_25 rfl (by decide) (iff_true_intro (by decide)) (fun _ => ?_) (fun z => absurd trivial z)
  refine g_aload_n (q := 31) B dX3_read_30 rfl rfl (rv_r _) ?_
  refine g_get (q := 34) B (ci := 12) (k := 8) (j := 3) in_X3 rfl dX3_read_31 rfl rfl (Nat.le_of_ble_eq_true rfl) q3060 rfl rfl ?_
  refine g_iload_n (q := 35) B dX3_read_34 rfl rfl ?_
  obtain ⟨md_1, hli_1, hln_1, hel_1⟩ := LoP.at (Sub.self hv3)
  obtain ⟨x35, hx35⟩ := get_ex (xs := mps) (i := i) (by have := get_lt2 (show (dPs D)[i]? = some r from hr); have := hln_1.1; omega)
  have hE_2 := hel_1 _ _ _ hx35 (show (dPs D)[i]? = some r from hr)
  refine g_callV (q := 38) (is := [6]) (kc2 := 60 + 10070 + 640 * (dMs D).length) (ks2 := 8000 + 130200 + 1600 * (dMs D).length) B [.int (nI i)] (ct_J2_get_s g J (p := lp) (xs := mps) (md := md_1) (cap := pcap) (i := i) (x := x35) (W0 := v3)  (hli_1) (hx35)) dX3_read_35 rfl (rc_in B (ci := 21) rfl (k := 6) rfl (LoP.hm hv3)) rfl q3231 q1095 q3667 q81 q1097 rfl rfl moJ2_get rfl rfl (by decide) (by decide) (Nat.le_of_ble_eq_true rfl) (by omega) (by omega) (fun _ _ hx => noX_x hx) (fun v35 L1 hp35 => ?_)
  obtain ⟨rfl, rfl⟩ := hp35
  refine (show Go g κ 38 [some (.ref m), some (.int (nI i)), some (.int (nI j)), none, none, none, none, none] [.ref x35] [v0, v1, v2, v4, v5, v7, v6, [(m, .inr (12, [.ref ls, .ref lb, .ref lk, .ref lp, .ref lr, .ref le, .ref lm, .ref lo, .int (nI 0), .int (dZz D), .int (nI (dBn D)), .int (nI (dCm D))]))], v3] (60 + 10070 + 640 * (dMs D).length) (8000 + 130200 + 1600 * (dMs D).length) from ?_)
  refine g_castRS (ci := 13) (q := 41) B rfl (rc_in B (ci := 13) rfl (k := 8) rfl (Sub.hm (hE_2) fun _ z => MpP.hm z)) dX3_read_38 rfl q3107 ?_
  refine g_astore_n (q := 42) (lv2 := [some (.ref m), some (.int (nI i)), some (.int (nI j)), some (.ref x35), none, none, none, none]) B dX3_read_41 rfl (Nat.le_of_ble_eq_true rfl) (rv_r _) rfl ?_
  refine g_aload_n (q := 43) B dX3_read_42 rfl rfl (rv_r _) ?_
  refine g_get (q := 46) B (ci := 12) (k := 7) (j := 6) in_X3 rfl dX3_read_43 rfl rfl (Nat.le_of_ble_eq_true rfl) q3063 rfl rfl ?_
  refine g_iload_n (q := 47) B dX3_read_46 rfl rfl ?_
  obtain ⟨ps_3, md_3, hli_3, hln_3, hel_3⟩ := LhP.at (Sub.self hv6)
  obtain ⟨x47, hx47⟩ := get_ex (xs := ps_3) (i := j) (by have := get_lt2 (show (dMs D)[j]? = some q from hq); have := hln_3.1; omega)
  have hE_4 := hel_3 _ _ _ hx47 (show (dMs D)[j]? = some q from hq)
  refine g_callV (q := 50) (is := [6]) (kc2 := 60 + 10070 + 640 * (dMs D).length) (ks2 := 8000 + 130200 + 1600 * (dMs D).length) B [.int (nI j)] (ct_J2_get_s g J (p := lm) (xs := ps_3) (md := md_3) (cap := mcap) (i := j) (x := x47) (W0 := v6)  (hli_3) (hx47)) dX3_read_47 rfl (rc_in B (ci := 21) rfl (k := 6) rfl (LhP.hm hv6)) rfl q3231 q1095 q3667 q81 q1097 rfl rfl moJ2_get rfl rfl (by decide) (by decide) (Nat.le_of_ble_eq_true rfl) (by omega) (by omega) (fun _ _ hx => noX_x hx) (fun v47 L1 hp47 => ?_)
  obtain ⟨rfl, rfl⟩ := hp47
  refine (show Go g κ 50 [some (.ref m), some (.int (nI i)), some (.int (nI j)), some (.ref x35), none, none, none, none] [.ref x47] [v0, v1, v2, v4, v5, v7, [(m, .inr (12, [.ref ls, .ref lb, .ref lk, .ref lp, .ref lr, .ref le, .ref lm, .ref lo, .int (nI 0), .int (dZz D), .int (nI (dBn D)), .int (nI (dCm D))]))], v3, v6] (60 + 10070 + 640 * (dMs D).length) (8000 + 130200 + 1600 * (dMs D).length) from ?_)
  refine g_castRS (ci := 20) (q := 53) B rfl (rc_in B (ci := 20) rfl (k := 8) rfl (Sub.hm (hE_4) fun _ z => MmP.hm z)) dX3_read_50 rfl q3562 ?_
  refine g_astore (q := 55) (lv2 := [some (.ref m), some (.int (nI i)), some (.int (nI j)), some (.ref x35), some (.ref x47), none, none, none]) B dX3_read_53 rfl (Nat.le_of_ble_eq_true rfl) (rv_r _) rfl ?_
  refine g_aload_n (q := 56) B dX3_read_55 rfl rfl (rv_r _) ?_
  refine g_aload_n (q := 57) B dX3_read_56 rfl rfl (rv_r _) ?_
  obtain ⟨nd_5, ch_5, ev_5, cv_5, fn_5, fc_5, hM_5, hfn_5, hoc_5, hcv_5, hc_5_0, hc_5_1, hc_5_2, hs_5_0, hs_5_1⟩ := MpP.at (hE_2)
  refine g_getNM (q := 60) B (ci := 13) (k := 7) (j := 0) in_X5 rfl dX3_read_57 rfl rfl (hc_5_0) (Nat.le_of_ble_eq_true rfl) q3118 rfl rfl ?_
  refine g_stk (y := .int (nI q.1)) (by rw [he]; rfl) ?_
  refine g_aload (q := 62) B dX3_read_60 rfl rfl (rv_r _) ?_
  have hc_6_0 := MmP.at (hE_4)
  refine g_getNM (q := 65) B (ci := 20) (k := 8) (j := 0) in_X22 rfl dX3_read_62 rfl rfl (hc_6_0) (Nat.le_of_ble_eq_true rfl) q3569 rfl rfl ?_
  refine g_icmp_ne (tgt := 91) (q := 68) B dX3_read_65 rfl (by decide) (iff_false_intro (fun z_ => z_ rfl)) (fun z => z.elim) (fun _ => ?_)
  obtain ⟨lu1_o, lwi_o, lu2_o, hlwi_o, hlcl_o, hle_o⟩ := LoP.opn hv3 hx35 hr
  refine g_open 7 rfl hle_o rfl ?_
  refine (show Go g κ 68 [some (.ref m), some (.int (nI i)), some (.int (nI j)), some (.ref x35), some (.ref x47), none, none, none] [.ref m] [v0, v1, v2, v4, v5, v7, [(m, .inr (12, [.ref ls, .ref lb, .ref lk, .ref lp, .ref lr, .ref le, .ref lm, .ref lo, .int (nI 0), .int (dZz D), .int (nI (dBn D)), .int (nI (dCm D))]))], v6, lu1_o, lwi_o, lu2_o] (60 + 10070 + 640 * (dMs D).length) (8000 + 130200 + 1600 * (dMs D).length) from ?_)
  obtain ⟨nd_o, ch_o, ev_o, cv_o, fn_o, fc_o, v0_o, v1_o, hM_o, hfn_o, hoc_o, hcv_o, hv0_o, hv1_o, rfl⟩ := hlwi_o
  refine g_open 9 rfl rfl rfl ?_
  refine (show Go g κ 68 [some (.ref m), some (.int (nI i)), some (.int (nI j)), some (.ref x35), some (.ref x47), none, none, none] [.ref m] [v0, v1, v2, v4, v5, v7, [(m, .inr (12, [.ref ls, .ref lb, .ref lk, .ref lp, .ref lr, .ref le, .ref lm, .ref lo, .int (nI 0), .int (dZz D), .int (nI (dBn D)), .int (nI (dCm D))]))], v6, lu1_o, lu2_o, [(x35, .inr (13, [.int (oI (mEp r)), .int (nI (mLf r)), .int (nI (mLs r)), .int (oI (mRn r)), .ref nd_o, .ref ch_o, .ref ev_o]))], [(nd_o, .inl (g.2.1 0, 31, .inl fn_o))], [(ch_o, .inl (g.2.1 5, 16, .inr (.inr (.inr (.inr fc_o)))))], v0_o, v1_o] (60 + 10070 + 640 * (dMs D).length) (8000 + 130200 + 1600 * (dMs D).length) from ?_)
  obtain ⟨ca, bu1, bwi, bu2, hca, hbwi, hbcl, hbe⟩ := BgM.opnF hv0_o hoc_o hc
  refine g_open 13 rfl hbe rfl ?_
  refine (show Go g κ 68 [some (.ref m), some (.int (nI i)), some (.int (nI j)), some (.ref x35), some (.ref x47), none, none, none] [.ref m] [v0, v1, v2, v4, v5, v7, [(m, .inr (12, [.ref ls, .ref lb, .ref lk, .ref lp, .ref lr, .ref le, .ref lm, .ref lo, .int (nI 0), .int (dZz D), .int (nI (dBn D)), .int (nI (dCm D))]))], v6, lu1_o, lu2_o, [(x35, .inr (13, [.int (oI (mEp r)), .int (nI (mLf r)), .int (nI (mLs r)), .int (oI (mRn r)), .ref nd_o, .ref ch_o, .ref ev_o]))], [(nd_o, .inl (g.2.1 0, 31, .inl fn_o))], [(ch_o, .inl (g.2.1 5, 16, .inr (.inr (.inr (.inr fc_o)))))], v1_o, bu1, bwi, bu2] (60 + 10070 + 640 * (dMs D).length) (8000 + 130200 + 1600 * (dMs D).length) from ?_)
  obtain ⟨pl_c, ky_c, cp_c, ck_c, v0_c, v1_c, hC_c, hcc_c, hv0_c, hv1_c, rfl⟩ := hbwi
  refine g_open 15 rfl rfl rfl ?_
  refine (show Go g κ 68 [some (.ref m), some (.int (nI i)), some (.int (nI j)), some (.ref x35), some (.ref x47), none, none, none] [.ref m] [v0, v1, v2, v4, v5, v7, [(m, .inr (12, [.ref ls, .ref lb, .ref lk, .ref lp, .ref lr, .ref le, .ref lm, .ref lo, .int (nI 0), .int (dZz D), .int (nI (dBn D)), .int (nI (dCm D))]))], v6, lu1_o, lu2_o, [(x35, .inr (13, [.int (oI (mEp r)), .int (nI (mLf r)), .int (nI (mLs r)), .int (oI (mRn r)), .ref nd_o, .ref ch_o, .ref ev_o]))], [(nd_o, .inl (g.2.1 0, 31, .inl fn_o))], [(ch_o, .inl (g.2.1 5, 16, .inr (.inr (.inr (.inr fc_o)))))], v1_o, bu1, bu2, [(ca, .inr (17, [.int (nI c.1), .int (nI c.2.1), .ref pl_c, .ref ky_c]))], v0_c, v1_c] (60 + 10070 + 640 * (dMs D).length) (8000 + 130200 + 1600 * (dMs D).length) from ?_)
  obtain ⟨hcb1, hcb2, hcb3, hcb4⟩ := (show McB c from hC_c)
  have hml : (c.2.2.map (·.1)).length = c.2.2.length := by simp
  have hml2 : (c.2.2.map (·.2)).length = c.2.2.length := by simp
  refine g_aload (q := 70) B dX3_read_68 rfl rfl (rv_r _) ?_
  refine g_getNM (q := 73) B (ci := 20) (k := 7) (j := 2) in_X22 rfl dX3_read_70 rfl rfl (hc_6_0) (Nat.le_of_ble_eq_true rfl) q3573 rfl rfl ?_
  refine g_aload_n (q := 74) B dX3_read_73 rfl rfl (rv_r _) ?_
  refine g_getN (q := 77) B (ci := 13) (k := 10) (j := 5) in_X5 rfl dX3_read_74 rfl rfl (Nat.le_of_ble_eq_true rfl) q3126 rfl rfl ?_
  refine g_aload (q := 79) B dX3_read_77 rfl rfl (rv_r _) ?_
  refine g_getNM (q := 82) B (ci := 20) (k := 7) (j := 1) in_X22 rfl dX3_read_79 rfl rfl (hc_6_0) (Nat.le_of_ble_eq_true rfl) q3571 rfl rfl ?_
  refine g_ald (r := some ca) (q := 83) B (k := 12) (t := 5) dX3_read_82 rfl rfl rfl (vp_in_nI (by omega) (by omega)) (by rw [nI_clamp (by omega)]; exact hca) ?_
  refine g_getN (q := 86) B (ci := 17) (k := 16) (j := 1) in_X14 rfl dX3_read_83 rfl rfl (Nat.le_of_ble_eq_true rfl) q3320 rfl rfl ?_
  refine g_iconst (v := nI 4) (q := 87) B dX3_read_86 rfl (by decide) ?_
  refine g_iadd (v := nI (c.2.1 + 4)) (q := 88) B dX3_read_87 rfl (nI_add _ _) ?_
  refine g_icmp_le (tgt := 95) (q := 91) B dX3_read_88 rfl (by decide) (nI_leI (by omega) (by omega)) (fun c88 => ?_) (fun c88 => ?_)
  · skip
    refine g_iconst (v := nI 0) (q := 96) B dX3_read_95 rfl (by decide) ?_
    refine g_callV (q := 99) (is := [6]) (kc2 := 60 + 10070 + 640 * (dMs D).length) (ks2 := 8000 + 130200 + 1600 * (dMs D).length) B [.int (nI 0)] (ct_X3_isWrong g J (m := m) (ls := ls) (lb := lb) (lk := lk) (lp := lp) (lr := lr) (le := le) (lm := lm) (lo := lo) (th := 0) (z := (dZz D)) (bo := (dBn D)) (cm := (dCm D)) (k := 0)  (by decide)) dX3_read_96 rfl (rc_at B (ci := 12) rfl (k := 6) rfl) rfl q3103 q3105 qs49 q85 q3106 rfl rfl moX3_isWrong rfl rfl (by decide) (by decide) (Nat.le_of_ble_eq_true rfl) (by omega) (by omega) (fun _ _ hx => noX_x hx) (fun v96 L1 hp96 => ?_)
    obtain ⟨rfl, rfl⟩ := hp96
    refine (show Go g κ 99 [some (.ref m), some (.int (nI i)), some (.int (nI j)), some (.ref x35), some (.ref x47), none, none, none] [.int (nI (if ¬ 0 = 0 then 1 else 0))] [v0, v1, v2, v4, v5, v7, v6, lu1_o, lu2_o, [(x35, .inr (13, [.int (oI (mEp r)), .int (nI (mLf r)), .int (nI (mLs r)), .int (oI (mRn r)), .ref nd_o, .ref ch_o, .ref ev_o]))], [(nd_o, .inl (g.2.1 0, 31, .inl fn_o))], [(ch_o, .inl (g.2.1 5, 16, .inr (.inr (.inr (.inr fc_o)))))], v1_o, bu1, bu2, [(ca, .inr (17, [.int (nI c.1), .int (nI c.2.1), .ref pl_c, .ref ky_c]))], v0_c, v1_c, [(m, .inr (12, [.ref ls, .ref lb, .ref lk, .ref lp, .ref lr, .ref le, .ref lm, .ref lo, .int (nI 0), .int (dZz D), .int (nI (dBn D)), .int (nI (dCm D))]))]] (60 + 10070 + 640 * (dMs D).length) (8000 + 130200 + 1600 * (dMs D).length) from ?_)
    refine g_if_eq (tgt := 104) (q := 102) B dX3_read_99 rfl (by decide) (iff_true_intro (by decide)) (fun _ => ?_) (fun z => absurd trivial z)
    refine g_aload_n (q := 105) B dX3_read_104 rfl rfl (rv_r _) ?_
    refine g_getN (q := 108) B (ci := 13) (k := 9) (j := 5) in_X5 rfl dX3_read_105 rfl rfl (Nat.le_of_ble_eq_true rfl) q3126 rfl rfl ?_
    refine g_aload (q := 110) B dX3_read_108 rfl rfl (rv_r _) ?_
    refine g_getNM (q := 113) B (ci := 20) (k := 6) (j := 1) in_X22 rfl dX3_read_110 rfl rfl (hc_6_0) (Nat.le_of_ble_eq_true rfl) q3571 rfl rfl ?_
    refine g_ald (r := some ca) (q := 114) B (k := 11) (t := 5) dX3_read_113 rfl rfl rfl (vp_in_nI (by omega) (by omega)) (by rw [nI_clamp (by omega)]; exact hca) ?_
    refine g_astore (q := 116) (lv2 := [some (.ref m), some (.int (nI i)), some (.int (nI j)), some (.ref x35), some (.ref x47), some (.ref ca), none, none]) B dX3_read_114 rfl (Nat.le_of_ble_eq_true rfl) (rv_r _) rfl ?_
    refine g_iconst (v := -1) (q := 117) B dX3_read_116 rfl (by decide) ?_
    refine g_istore (q := 119) (lv2 := [some (.ref m), some (.int (nI i)), some (.int (nI j)), some (.ref x35), some (.ref x47), some (.ref ca), some (.int (-1)), none]) B dX3_read_117 rfl (Nat.le_of_ble_eq_true rfl) rfl ?_
    refine g_iconst (v := nI 0) (q := 120) B dX3_read_119 rfl (by decide) ?_
    refine g_istore (q := 122) (lv2 := [some (.ref m), some (.int (nI i)), some (.int (nI j)), some (.ref x35), some (.ref x47), some (.ref ca), some (.int (-1)), some (.int (nI 0))]) B dX3_read_120 rfl (Nat.le_of_ble_eq_true rfl) rfl ?_
    have lp122 : ∀ (n122 : Nat) (k : Nat) (ho : Option Nat) , (k ≤ (c.2.2.map (·.1)).length) → (ho = none → ∀ n, n < k → ¬ (c.2.2.map (·.1))[n]? = some q.2.2.1) → (∀ n, ho = some n → n < k ∧ (c.2.2.map (·.1))[n]? = some q.2.2.1) → (c.2.2.map (·.1)).length - k = n122 → Go g κ 122 [some (.ref m), some (.int (nI i)), some (.int (nI j)), some (.ref x35), some (.ref x47), some (.ref ca), some (.int (oI ho)), some (.int (nI k))] [] [v0, v1, v2, v4, v5, v7, v6, lu1_o, lu2_o, [(x35, .inr (13, [.int (oI (mEp r)), .int (nI (mLf r)), .int (nI (mLs r)), .int (oI (mRn r)), .ref nd_o, .ref ch_o, .ref ev_o]))], [(nd_o, .inl (g.2.1 0, 31, .inl fn_o))], [(ch_o, .inl (g.2.1 5, 16, .inr (.inr (.inr (.inr fc_o)))))], v1_o, bu1, bu2, [(ca, .inr (17, [.int (nI c.1), .int (nI c.2.1), .ref pl_c, .ref ky_c]))], v0_c, v1_c, [(m, .inr (12, [.ref ls, .ref lb, .ref lk, .ref lp, .ref lr, .ref le, .ref lm, .ref lo, .int (nI 0), .int (dZz D), .int (nI (dBn D)), .int (nI (dCm D))]))]] (60 + 10070 + 640 * (dMs D).length) (8000 + 130200 + 1600 * (dMs D).length) := by
      intro n122
      induction n122 using Nat.strongRecOn with
      | _ n122 ih122 =>
      intro k ho  hk hho1 hho2 hmu122
      have hml : (c.2.2.map (·.1)).length = c.2.2.length := by simp
      refine g_iload (q := 124) B dX3_read_122 rfl rfl ?_
      refine g_aload (q := 126) B dX3_read_124 rfl rfl (rv_r _) ?_
      refine g_getN (q := 129) B (ci := 17) (k := 15) (j := 2) in_X14 rfl dX3_read_126 rfl rfl (Nat.le_of_ble_eq_true rfl) q3322 rfl rfl ?_
      obtain ⟨ps_7, md_7, hli_7, hln_7, hel_7⟩ := LhP.at (Sub.self hv0_c)
      refine g_callV (q := 132) (is := [16]) (kc2 := 60 + 10070 + 640 * (dMs D).length) (ks2 := 8000 + 130200 + 1600 * (dMs D).length) B [] (ct_J2_size_s g J (p := pl_c) (xs := ps_7) (md := md_7) (cap := cp_c) (W0 := v0_c)  (hli_7)) dX3_read_129 rfl (rc_in B (ci := 21) rfl (k := 16) rfl (LhP.hm hv0_c)) rfl q3102 q321 q3665 q81 q323 rfl rfl moJ2_size rfl rfl (by decide) (by decide) (Nat.le_of_ble_eq_true rfl) (by omega) (by omega) (fun _ _ hx => noX_x hx) (fun v129 L1 hp129 => ?_)
      obtain ⟨rfl, rfl⟩ := hp129
      refine (show Go g κ 132 [some (.ref m), some (.int (nI i)), some (.int (nI j)), some (.ref x35), some (.ref x47), some (.ref ca), some (.int (oI ho)), some (.int (nI k))] [.int (nI ps_7.length), .int (nI k)] [v0, v1, v2, v4, v5, v7, v6, lu1_o, lu2_o, [(x35, .inr (13, [.int (oI (mEp r)), .int (nI (mLf r)), .int (nI (mLs r)), .int (oI (mRn r)), .ref nd_o, .ref ch_o, .ref ev_o]))], [(nd_o, .inl (g.2.1 0, 31, .inl fn_o))], [(ch_o, .inl (g.2.1 5, 16, .inr (.inr (.inr (.inr fc_o)))))], v1_o, bu1, bu2, [(ca, .inr (17, [.int (nI c.1), .int (nI c.2.1), .ref pl_c, .ref ky_c]))], v1_c, [(m, .inr (12, [.ref ls, .ref lb, .ref lk, .ref lp, .ref lr, .ref le, .ref lm, .ref lo, .int (nI 0), .int (dZz D), .int (nI (dBn D)), .int (nI (dCm D))]))], v0_c] (60 + 10070 + 640 * (dMs D).length) (8000 + 130200 + 1600 * (dMs D).length) from ?_)
      rw [hln_7.1]
      refine (show Go g κ 132 [some (.ref m), some (.int (nI i)), some (.int (nI j)), some (.ref x35), some (.ref x47), some (.ref ca), some (.int (oI ho)), some (.int (nI k))] [.int (nI ((c.2.2.map (·.1)).length)), .int (nI k)] [v0, v1, v2, v4, v5, v7, v6, lu1_o, lu2_o, [(x35, .inr (13, [.int (oI (mEp r)), .int (nI (mLf r)), .int (nI (mLs r)), .int (oI (mRn r)), .ref nd_o, .ref ch_o, .ref ev_o]))], [(nd_o, .inl (g.2.1 0, 31, .inl fn_o))], [(ch_o, .inl (g.2.1 5, 16, .inr (.inr (.inr (.inr fc_o)))))], v1_o, bu1, bu2, [(ca, .inr (17, [.int (nI c.1), .int (nI c.2.1), .ref pl_c, .ref ky_c]))], v1_c, [(m, .inr (12, [.ref ls, .ref lb, .ref lk, .ref lp, .ref lr, .ref le, .ref lm, .ref lo, .int (nI 0), .int (dZz D), .int (nI (dBn D)), .int (nI (dCm D))]))], v0_c] (60 + 10070 + 640 * (dMs D).length) (8000 + 130200 + 1600 * (dMs D).length) from ?_)
      refine g_icmp_ge (tgt := 174) (q := 135) B dX3_read_132 rfl (by decide) (nI_leI (by omega) (by omega)) (fun c132 => ?_) (fun c132 => ?_)
      · skip
        have hhoj : ho = none := by
          cases e9 : ho with
          | none => rfl
          | some n =>
            obtain ⟨y, y1, y2⟩ := List.mem_map.mp (List.mem_of_getElem? (hho2 n e9).2)
            have := hpb y y1
            omega
        refine g_lvs (lv2 := [some (.ref m), some (.int (nI i)), some (.int (nI j)), some (.ref x35), some (.ref x47), some (.ref ca), some (.int (-1)), some (.int (nI k))]) (st2 := []) (by rw [(show oI ho = -1 from by rw [hhoj]; rfl)]) (by first | rfl | rw [(show oI ho = -1 from by rw [hhoj]; rfl)]) ?_
        refine (show Go g κ 174 [some (.ref m), some (.int (nI i)), some (.int (nI j)), some (.ref x35), some (.ref x47), some (.ref ca), some (.int (-1)), some (.int (nI k))] [] [v0, v1, v2, v4, v5, v7, v6, lu1_o, lu2_o, [(x35, .inr (13, [.int (oI (mEp r)), .int (nI (mLf r)), .int (nI (mLs r)), .int (oI (mRn r)), .ref nd_o, .ref ch_o, .ref ev_o]))], [(nd_o, .inl (g.2.1 0, 31, .inl fn_o))], [(ch_o, .inl (g.2.1 5, 16, .inr (.inr (.inr (.inr fc_o)))))], v1_o, bu1, bu2, [(ca, .inr (17, [.int (nI c.1), .int (nI c.2.1), .ref pl_c, .ref ky_c]))], v1_c, [(m, .inr (12, [.ref ls, .ref lb, .ref lk, .ref lp, .ref lr, .ref le, .ref lm, .ref lo, .int (nI 0), .int (dZz D), .int (nI (dBn D)), .int (nI (dCm D))]))], v0_c] (60 + 10070 + 640 * (dMs D).length) (8000 + 130200 + 1600 * (dMs D).length) from ?_)
        refine g_aload_n (q := 175) B dX3_read_174 rfl rfl (rv_r _) ?_
        refine g_aload (q := 177) B dX3_read_175 rfl rfl (rv_r _) ?_
        refine g_getNM (q := 180) B (ci := 20) (k := 6) (j := 2) in_X22 rfl dX3_read_177 rfl rfl (hc_6_0) (Nat.le_of_ble_eq_true rfl) q3573 rfl rfl ?_
        refine g_aload (q := 182) B dX3_read_180 rfl rfl (rv_r _) ?_
        refine g_getN (q := 185) B (ci := 17) (k := 15) (j := 1) in_X14 rfl dX3_read_182 rfl rfl (Nat.le_of_ble_eq_true rfl) q3320 rfl rfl ?_
        refine g_icmp_ge (tgt := 198) (q := 188) B dX3_read_185 rfl (by decide) (nI_leI (by omega) (by omega)) (fun c185 => ?_) (fun c185 => ?_)
        · skip
          refine g_iconst (v := nI 0) (q := 199) B dX3_read_198 rfl (by decide) ?_
          refine g_callV (q := 202) (is := [17]) (kc2 := 60 + 10070 + 640 * (dMs D).length) (ks2 := 8000 + 130200 + 1600 * (dMs D).length) B [.int (nI 0)] (ct_X3_isWrong g J (m := m) (ls := ls) (lb := lb) (lk := lk) (lp := lp) (lr := lr) (le := le) (lm := lm) (lo := lo) (th := 0) (z := (dZz D)) (bo := (dBn D)) (cm := (dCm D)) (k := 0)  (by decide)) dX3_read_199 rfl (rc_at B (ci := 12) rfl (k := 17) rfl) rfl q3103 q3105 qs49 q85 q3106 rfl rfl moX3_isWrong rfl rfl (by decide) (by decide) (Nat.le_of_ble_eq_true rfl) (by omega) (by omega) (fun _ _ hx => noX_x hx) (fun v199 L1 hp199 => ?_)
          obtain ⟨rfl, rfl⟩ := hp199
          refine (show Go g κ 202 [some (.ref m), some (.int (nI i)), some (.int (nI j)), some (.ref x35), some (.ref x47), some (.ref ca), some (.int (-1)), some (.int (nI k))] [.int (nI (if ¬ 0 = 0 then 1 else 0))] [v0, v1, v2, v4, v5, v7, v6, lu1_o, lu2_o, [(x35, .inr (13, [.int (oI (mEp r)), .int (nI (mLf r)), .int (nI (mLs r)), .int (oI (mRn r)), .ref nd_o, .ref ch_o, .ref ev_o]))], [(nd_o, .inl (g.2.1 0, 31, .inl fn_o))], [(ch_o, .inl (g.2.1 5, 16, .inr (.inr (.inr (.inr fc_o)))))], v1_o, bu1, bu2, [(ca, .inr (17, [.int (nI c.1), .int (nI c.2.1), .ref pl_c, .ref ky_c]))], v1_c, v0_c, [(m, .inr (12, [.ref ls, .ref lb, .ref lk, .ref lp, .ref lr, .ref le, .ref lm, .ref lo, .int (nI 0), .int (dZz D), .int (nI (dBn D)), .int (nI (dCm D))]))]] (60 + 10070 + 640 * (dMs D).length) (8000 + 130200 + 1600 * (dMs D).length) from ?_)
          refine g_if_eq (tgt := 207) (q := 205) B dX3_read_202 rfl (by decide) (iff_true_intro (by decide)) (fun _ => ?_) (fun z => absurd trivial z)
          refine g_iload (q := 209) B dX3_read_207 rfl rfl ?_
          refine g_iconst (v := -1) (q := 210) B dX3_read_209 rfl (by decide) ?_
          refine g_icmp_eq (tgt := 235) (q := 213) B dX3_read_210 rfl (by decide) (iff_true_intro (rfl)) (fun _ => ?_) (fun z => absurd trivial z)
          have lp235 : ∀ (n235 : Nat) (k : Nat) (fin : Bool) (s9 : List Sec) (sec : Nat) (pl : Nat) (l9 : List (Nat × Nat)) (cp9 : Nat) (ck9 : Nat) (l235_0 : va_W) (l235_16 : va_W) (l235_17 : va_W), LhP g (SecP g) ls s9 (capF s9.length) l235_0 → LhP g (BxE g) ky_c (l9.map (·.2)) ck9 l235_16 → LhP g (BxE g) pl_c (l9.map (·.1)) cp9 l235_17 → (k ≤ (q.2.2.1 - c.2.1)) → (fin = false → (s9, sec, pl, l9) = rdmK ((dSs D, c) : RdM) k ∧ pl = c.2.1 + k) → (fin = true → s9 = fs ∧ sec = fi ∧ pl = q.2.2.1 + 1 ∧ l9 = (rdmK ((dSs D, c) : RdM) (q.2.2.1 - c.2.1)).2.2.2) → (∀ y ∈ l9, y.1 < 100 ∧ y.2 < 1000) → (cp9 ≤ 60) → (ck9 ≤ 60) → (l9.length ≤ 30 + k) → (s9.length ≤ 980) → (pl < 100) → q.2.2.1 + 1 - pl = n235 → Go g κ 235 [some (.ref m), some (.int (nI i)), some (.int (nI j)), some (.ref x35), some (.ref x47), some (.ref ca), some (.int (-1)), some (.int (nI k))] [] [l235_0, v1, v2, v4, v5, v7, v6, lu1_o, lu2_o, [(x35, .inr (13, [.int (oI (mEp r)), .int (nI (mLf r)), .int (nI (mLs r)), .int (oI (mRn r)), .ref nd_o, .ref ch_o, .ref ev_o]))], [(nd_o, .inl (g.2.1 0, 31, .inl fn_o))], [(ch_o, .inl (g.2.1 5, 16, .inr (.inr (.inr (.inr fc_o)))))], v1_o, bu1, bu2, [(ca, .inr (17, [.int (nI sec), .int (nI pl), .ref pl_c, .ref ky_c]))], l235_16, l235_17, [(m, .inr (12, [.ref ls, .ref lb, .ref lk, .ref lp, .ref lr, .ref le, .ref lm, .ref lo, .int (nI 0), .int (dZz D), .int (nI (dBn D)), .int (nI (dCm D))]))]] (10 * (q.2.2.1 + 1 - pl) + 10070 + 640 * (dMs D).length) (200 * (q.2.2.1 + 1 - pl) + 4 * (1480 - capF s9.length) + 130200 + 1600 * (dMs D).length) := by
            intro n235
            induction n235 using Nat.strongRecOn with
            | _ n235 ih235 =>
            intro k fin s9 sec pl l9 cp9 ck9 l235_0 l235_16 l235_17 hl235_0 hl235_16 hl235_17 hkn hA hB hlb hcp9 hck9 hl9 hs9 hpl8 hmu235
            have hcf9 := capF_le s9.length
            have hml9 : (l9.map (·.1)).length = l9.length := by simp
            have hml8 : (l9.map (·.2)).length = l9.length := by simp
            refine g_aload (q := 237) B dX3_read_235 rfl rfl (rv_r _) ?_
            refine g_getN (q := 240) B (ci := 17) (k := 15) (j := 1) in_X14 rfl dX3_read_237 rfl rfl (Nat.le_of_ble_eq_true rfl) q3320 rfl rfl ?_
            refine g_aload (q := 242) B dX3_read_240 rfl rfl (rv_r _) ?_
            refine g_getNM (q := 245) B (ci := 20) (k := 6) (j := 2) in_X22 rfl dX3_read_242 rfl rfl (hc_6_0) (Nat.le_of_ble_eq_true rfl) q3573 rfl rfl ?_
            refine g_icmp_gt (tgt := 333) (q := 248) B dX3_read_245 rfl (by decide) (nI_ltI (by omega) (by omega)) (fun c245 => ?_) (fun c245 => ?_)
            · skip
              have hft : fin = true := by
                cases e9 : fin with
                | true => rfl
                | false => have := (hA e9).2; omega
              obtain ⟨b1, b2, b3, b4⟩ := hB hft
              have hr_8 : LhP g (SecP g) ls fs (capF fs.length) l235_0 := by rw [← b1]; exact hl235_0
              have hr_9 : LhP g (BxE g) pl_c ((rdmK ((dSs D, c) : RdM) (q.2.2.1 - c.2.1)).2.2.2.map (·.1)) cp9 l235_17 := by rw [← b4]; exact hl235_17
              have hr_10 : LhP g (BxE g) ky_c ((rdmK ((dSs D, c) : RdM) (q.2.2.1 - c.2.1)).2.2.2.map (·.2)) ck9 l235_16 := by rw [← b4]; exact hl235_16
              rw [(show nI sec = nI fi from by rw [b2])]
              refine (show Go g κ 333 [some (.ref m), some (.int (nI i)), some (.int (nI j)), some (.ref x35), some (.ref x47), some (.ref ca), some (.int (-1)), some (.int (nI k))] [] [l235_0, v1, v2, v4, v5, v7, v6, lu1_o, lu2_o, [(x35, .inr (13, [.int (oI (mEp r)), .int (nI (mLf r)), .int (nI (mLs r)), .int (oI (mRn r)), .ref nd_o, .ref ch_o, .ref ev_o]))], [(nd_o, .inl (g.2.1 0, 31, .inl fn_o))], [(ch_o, .inl (g.2.1 5, 16, .inr (.inr (.inr (.inr fc_o)))))], v1_o, bu1, bu2, [(ca, .inr (17, [.int (nI sec), .int (nI pl), .ref pl_c, .ref ky_c]))], l235_16, l235_17, [(m, .inr (12, [.ref ls, .ref lb, .ref lk, .ref lp, .ref lr, .ref le, .ref lm, .ref lo, .int (nI 0), .int (dZz D), .int (nI (dBn D)), .int (nI (dCm D))]))]] (10 * (q.2.2.1 + 1 - pl) + 10070 + 640 * (dMs D).length) (200 * (q.2.2.1 + 1 - pl) + 4 * (1480 - capF s9.length) + 130200 + 1600 * (dMs D).length) from ?_)
              rw [(show nI pl = nI (q.2.2.1 + 1) from by rw [b3])]
              refine (show Go g κ 333 [some (.ref m), some (.int (nI i)), some (.int (nI j)), some (.ref x35), some (.ref x47), some (.ref ca), some (.int (-1)), some (.int (nI k))] [] [l235_0, v1, v2, v4, v5, v7, v6, lu1_o, lu2_o, [(x35, .inr (13, [.int (oI (mEp r)), .int (nI (mLf r)), .int (nI (mLs r)), .int (oI (mRn r)), .ref nd_o, .ref ch_o, .ref ev_o]))], [(nd_o, .inl (g.2.1 0, 31, .inl fn_o))], [(ch_o, .inl (g.2.1 5, 16, .inr (.inr (.inr (.inr fc_o)))))], v1_o, bu1, bu2, [(ca, .inr (17, [.int (nI sec), .int (nI pl), .ref pl_c, .ref ky_c]))], l235_16, l235_17, [(m, .inr (12, [.ref ls, .ref lb, .ref lk, .ref lp, .ref lr, .ref le, .ref lm, .ref lo, .int (nI 0), .int (dZz D), .int (nI (dBn D)), .int (nI (dCm D))]))]] (10 * (q.2.2.1 + 1 - pl) + 10070 + 640 * (dMs D).length) (200 * (q.2.2.1 + 1 - pl) + 4 * (1480 - capF s9.length) + 130200 + 1600 * (dMs D).length) from ?_)
              have hfi := (Ph_fr hF).2.2
              have hC2 : McB ((fi, q.2.2.1 + 1, (rdmK ((dSs D, c) : RdM) (q.2.2.1 - c.2.1)).2.2.2) : McS) := ⟨(show fi < 1000 by omega), (show q.2.2.1 + 1 < 100 by omega), (by rw [← b4]; show l9.length ≤ 40; omega), (by rw [← b4]; exact hlb)⟩
              obtain ⟨wc_11, ewc_11⟩ : ∃ w : va_W, w = ([[(ca, .inr (17, [.int (nI sec), .int (nI pl), .ref pl_c, .ref ky_c]))], l235_17, l235_16] : List va_W).flatten := ⟨_, rfl⟩
              have hwc_11 : McP g ca ((fi, q.2.2.1 + 1, (rdmK ((dSs D, c) : RdM) (q.2.2.1 - c.2.1)).2.2.2) : McS) wc_11 := by
                rw [ewc_11]
                exact ⟨pl_c, ky_c, cp9, ck9, _, _, hC2, ⟨hcp9, hck9⟩, hr_9, hr_10, rfl⟩
              refine g_close (w := wc_11) [15, 16, 15] rfl ewc_11 rfl ?_
              refine (show Go g κ 333 [some (.ref m), some (.int (nI i)), some (.int (nI j)), some (.ref x35), some (.ref x47), some (.ref ca), some (.int (-1)), some (.int (nI k))] [] [l235_0, v1, v2, v4, v5, v7, v6, lu1_o, lu2_o, [(x35, .inr (13, [.int (oI (mEp r)), .int (nI (mLf r)), .int (nI (mLs r)), .int (oI (mRn r)), .ref nd_o, .ref ch_o, .ref ev_o]))], [(nd_o, .inl (g.2.1 0, 31, .inl fn_o))], [(ch_o, .inl (g.2.1 5, 16, .inr (.inr (.inr (.inr fc_o)))))], v1_o, bu1, bu2, [(m, .inr (12, [.ref ls, .ref lb, .ref lk, .ref lp, .ref lr, .ref le, .ref lm, .ref lo, .int (nI 0), .int (dZz D), .int (nI (dBn D)), .int (nI (dCm D))]))], wc_11] (10 * (q.2.2.1 + 1 - pl) + 10070 + 640 * (dMs D).length) (200 * (q.2.2.1 + 1 - pl) + 4 * (1480 - capF s9.length) + 130200 + 1600 * (dMs D).length) from ?_)
              obtain ⟨wc_12, ewc_12⟩ : ∃ w : va_W, w = ([bu1, wc_11, bu2] : List va_W).flatten := ⟨_, rfl⟩
              have hwc_12 : BgM (McP g) fc_o (fup (mCh r) q.2.1 (some ((fi, q.2.2.1 + 1, (rdmK ((dSs D, c) : RdM) (q.2.2.1 - c.2.1)).2.2.2) : McS))) wc_12 := by
                rw [ewc_12]
                exact hbcl _ _ hwc_11
              refine g_close (w := wc_12) [13, 15, 13] rfl ewc_12 rfl ?_
              refine (show Go g κ 333 [some (.ref m), some (.int (nI i)), some (.int (nI j)), some (.ref x35), some (.ref x47), some (.ref ca), some (.int (-1)), some (.int (nI k))] [] [l235_0, v1, v2, v4, v5, v7, v6, lu1_o, lu2_o, [(x35, .inr (13, [.int (oI (mEp r)), .int (nI (mLf r)), .int (nI (mLs r)), .int (oI (mRn r)), .ref nd_o, .ref ch_o, .ref ev_o]))], [(nd_o, .inl (g.2.1 0, 31, .inl fn_o))], [(ch_o, .inl (g.2.1 5, 16, .inr (.inr (.inr (.inr fc_o)))))], v1_o, [(m, .inr (12, [.ref ls, .ref lb, .ref lk, .ref lp, .ref lr, .ref le, .ref lm, .ref lo, .int (nI 0), .int (dZz D), .int (nI (dBn D)), .int (nI (dCm D))]))], wc_12] (10 * (q.2.2.1 + 1 - pl) + 10070 + 640 * (dMs D).length) (200 * (q.2.2.1 + 1 - pl) + 4 * (1480 - capF s9.length) + 130200 + 1600 * (dMs D).length) from ?_)
              obtain ⟨wc_13, ewc_13⟩ : ∃ w : va_W, w = ([[(x35, .inr (13, [.int (oI (mEp r)), .int (nI (mLf r)), .int (nI (mLs r)), .int (oI (mRn r)), .ref nd_o, .ref ch_o, .ref ev_o]))], [(nd_o, .inl (g.2.1 0, 31, .inl fn_o))], [(ch_o, .inl (g.2.1 5, 16, .inr (.inr (.inr (.inr fc_o)))))], wc_12, v1_o] : List va_W).flatten := ⟨_, rfl⟩
              have hwc_13 : MpP g x35 ((mEp r, mLf r, mLs r, mRn r, mNd r, fup (mCh r) q.2.1 (some ((fi, q.2.2.1 + 1, (rdmK ((dSs D, c) : RdM) (q.2.2.1 - c.2.1)).2.2.2) : McS)), mEv r) : MpS) wc_13 := by
                rw [ewc_13]
                exact ⟨nd_o, ch_o, ev_o, cv_o, fn_o, fc_o, _, _, (by obtain ⟨m1, m2, m3, m4, m5, m6, m7, m8⟩ := hM_o; exact ⟨m1, m2, m3, m4, m5, (fun i c9 h => by have h : fup (mCh r) q.2.1 (some ((fi, q.2.2.1 + 1, (rdmK ((dSs D, c) : RdM) (q.2.2.1 - c.2.1)).2.2.2) : McS)) i = some c9 := h; unfold fup at h; split at h; (rename_i e9; cases h; rw [e9]; exact ⟨hm2, hC2⟩); exact m6 i c9 h), m7, m8⟩), hfn_o, (fun j hj => ⟨(hoc_o j hj).1, by show fup (mCh r) q.2.1 _ j = none; rw [fup_n (by have : q.2.1 < 16 := hm2; omega)]; exact (hoc_o j hj).2⟩), hcv_o, hwc_12, hv1_o, rfl⟩
              refine g_close (w := wc_13) [9, 9, 9, 11, 9] rfl ewc_13 rfl ?_
              refine (show Go g κ 333 [some (.ref m), some (.int (nI i)), some (.int (nI j)), some (.ref x35), some (.ref x47), some (.ref ca), some (.int (-1)), some (.int (nI k))] [] [l235_0, v1, v2, v4, v5, v7, v6, lu1_o, lu2_o, [(m, .inr (12, [.ref ls, .ref lb, .ref lk, .ref lp, .ref lr, .ref le, .ref lm, .ref lo, .int (nI 0), .int (dZz D), .int (nI (dBn D)), .int (nI (dCm D))]))], wc_13] (10 * (q.2.2.1 + 1 - pl) + 10070 + 640 * (dMs D).length) (200 * (q.2.2.1 + 1 - pl) + 4 * (1480 - capF s9.length) + 130200 + 1600 * (dMs D).length) from ?_)
              obtain ⟨wc_14, ewc_14⟩ : ∃ w : va_W, w = ([lu1_o, wc_13, lu2_o] : List va_W).flatten := ⟨_, rfl⟩
              have hwc_14 : LoP g (MpP g) lp mps ((dPs D).set i ((mEp r, mLf r, mLs r, mRn r, mNd r, fup (mCh r) q.2.1 (some ((fi, q.2.2.1 + 1, (rdmK ((dSs D, c) : RdM) (q.2.2.1 - c.2.1)).2.2.2) : McS)), mEv r) : MpS)) pcap wc_14 := by
                rw [ewc_14]
                exact hlcl_o _ _ hwc_13
              refine g_close (w := wc_14) [7, 9, 7] rfl ewc_14 rfl ?_
              refine (show Go g κ 333 [some (.ref m), some (.int (nI i)), some (.int (nI j)), some (.ref x35), some (.ref x47), some (.ref ca), some (.int (-1)), some (.int (nI k))] [] [l235_0, v1, v2, v4, v5, v7, v6, [(m, .inr (12, [.ref ls, .ref lb, .ref lk, .ref lp, .ref lr, .ref le, .ref lm, .ref lo, .int (nI 0), .int (dZz D), .int (nI (dBn D)), .int (nI (dCm D))]))], wc_14] (10 * (q.2.2.1 + 1 - pl) + 10070 + 640 * (dMs D).length) (200 * (q.2.2.1 + 1 - pl) + 4 * (1480 - capF s9.length) + 130200 + 1600 * (dMs D).length) from ?_)
              have hpl9 : ((dPs D).set i ((mEp r, mLf r, mLs r, mRn r, mNd r, fup (mCh r) q.2.1 (some ((fi, q.2.2.1 + 1, (rdmK ((dSs D, c) : RdM) (q.2.2.1 - c.2.1)).2.2.2) : McS)), mEv r) : MpS)).length = (dPs D).length := List.length_set
              have hcfn := capF_le fs.length
              refine g_aload_n (q := 334) B dX3_read_333 rfl rfl (rv_r _) ?_
              have hnt := nt_r (Q := (dMs D).length) (show ((dPs D).set i ((mEp r, mLf r, mLs r, mRn r, mNd r, fup (mCh r) q.2.1 (some ((fi, q.2.2.1 + 1, (rdmK ((dSs D, c) : RdM) (q.2.2.1 - c.2.1)).2.2.2) : McS)), mEv r) : MpS)).length ≤ 10 from by omega) (show (dKs D).length ≤ 24 from by omega) (show fs.length ≤ 980 from hfl)
              obtain ⟨hnr1, hnr2⟩ := hnt
              refine g_callV (q := 337) (is := [7, 2, 6, 3]) (kc2 := 0) (ks2 := 0) B [] (ct_X3_notes g J (m := m) (ls := ls) (lb := lb) (lk := lk) (lp := lp) (lr := lr) (le := le) (lm := lm) (lo := lo) (th := 0) (z := (dZz D)) (bo := (dBn D)) (cm := (dCm D)) (mks := mks) (Ks := (dKs D)) (kcap := kcap) (mps := mps) (Ps := ((dPs D).set i ((mEp r, mLf r, mLs r, mRn r, mNd r, fup (mCh r) q.2.1 (some ((fi, q.2.2.1 + 1, (rdmK ((dSs D, c) : RdM) (q.2.2.1 - c.2.1)).2.2.2) : McS)), mEv r) : MpS))) (pcap := pcap) (Es := (dEs D)) (ecap := ecap) (n := fs.length) (Q := (dMs D).length) hv2 hwc_14 hv5 (by omega) (fun i_ r_ e_ h1_ h2_ => (hN i_ r_ h1_).1 e_ h2_) (fun i_ r_ k_ c_ h1_ h2_ => (hN i_ r_ h1_).2.1 k_ c_ h2_) (fun i_ r_ x_ h1_ h2_ => (hN i_ r_ h1_).2.2.1 x_ h2_) (fun i_ r_ h1_ => (hN i_ r_ h1_).2.2.2) (Nat.le_trans (hfl) (by decide : 980 ≤ 1000))) dX3_read_334 rfl (rc_at B (ci := 12) rfl (k := 7) rfl) rfl q3223 q3225 qs54 q85 q3226 rfl rfl moX3_notes rfl rfl (by decide) (by decide) (Nat.le_of_ble_eq_true rfl) (by omega) (by omega) (fun _ _ hx => noX_x hx) (fun v334 L1 hp334 => ?_)
              obtain ⟨Qs334, u2_334, rfl, rfl, hu2_334, hN_334⟩ := hp334
              refine (show Go g κ 337 [some (.ref m), some (.int (nI i)), some (.int (nI j)), some (.ref x35), some (.ref x47), some (.ref ca), some (.int (-1)), some (.int (nI k))] [] [l235_0, v1, v4, v7, v6, [(m, .inr (12, [.ref ls, .ref lb, .ref lk, .ref lp, .ref lr, .ref le, .ref lm, .ref lo, .int (nI 0), .int (dZz D), .int (nI (dBn D)), .int (nI (dCm D))]))], v2, u2_334, v5] 0 0 from ?_)
              refine g_aload_n (q := 338) B dX3_read_337 rfl rfl (rv_r _) ?_
              refine g_get (q := 341) B (ci := 12) (k := 5) (j := 0) in_X3 rfl dX3_read_338 rfl rfl (Nat.le_of_ble_eq_true rfl) q3057 rfl rfl ?_
              refine g_aload (q := 343) B dX3_read_341 rfl rfl (rv_r _) ?_
              refine g_getNM (q := 346) B (ci := 20) (k := 4) (j := 4) in_X22 rfl dX3_read_343 rfl rfl (hc_6_0) (Nat.le_of_ble_eq_true rfl) q3576 rfl rfl ?_
              obtain ⟨ps_15, md_15, hli_15, hln_15, hel_15⟩ := LhP.at (Sub.self hr_8)
              obtain ⟨r346, hr346⟩ := get_ex (xs := fs) (i := q.2.2.2.2) (by omega)
              obtain ⟨x346, hx346⟩ := get_ex (xs := ps_15) (i := q.2.2.2.2) (by have := get_lt2 hr346; have := hln_15.1; omega)
              have hE_16 := hel_15 _ _ _ hx346 hr346
              refine g_callV (q := 349) (is := [0]) (kc2 := 0) (ks2 := 0) B [.int (nI q.2.2.2.2)] (ct_J2_get_s g J (p := ls) (xs := ps_15) (md := md_15) (cap := (capF fs.length)) (i := q.2.2.2.2) (x := x346) (W0 := l235_0)  (hli_15) (hx346)) dX3_read_346 rfl (rc_in B (ci := 21) rfl (k := 0) rfl (LhP.hm hr_8)) rfl q3231 q1095 q3667 q81 q1097 rfl rfl moJ2_get rfl rfl (by decide) (by decide) (Nat.le_of_ble_eq_true rfl) (Nat.le_of_ble_eq_true rfl) (Nat.le_of_ble_eq_true rfl) (fun _ _ hx => noX_x hx) (fun v346 L1 hp346 => ?_)
              obtain ⟨rfl, rfl⟩ := hp346
              refine (show Go g κ 349 [some (.ref m), some (.int (nI i)), some (.int (nI j)), some (.ref x35), some (.ref x47), some (.ref ca), some (.int (-1)), some (.int (nI k))] [.ref x346] [v1, v4, v7, v6, [(m, .inr (12, [.ref ls, .ref lb, .ref lk, .ref lp, .ref lr, .ref le, .ref lm, .ref lo, .int (nI 0), .int (dZz D), .int (nI (dBn D)), .int (nI (dCm D))]))], v2, u2_334, v5, l235_0] 0 0 from ?_)
              refine g_castRS (ci := 14) (q := 352) B rfl (rc_in B (ci := 14) rfl (k := 8) rfl (Sub.hm (hE_16) fun _ z => SecP.hm z)) dX3_read_349 rfl q3175 ?_
              obtain ⟨hS_17, hc_17_0⟩ := SecP.at (hE_16)
              refine g_getNM (q := 355) B (ci := 14) (k := 8) (j := 0) in_X8 rfl dX3_read_352 rfl rfl (hc_17_0) (Nat.le_of_ble_eq_true rfl) q3182 rfl rfl ?_
              obtain ⟨wc_18, ewc_18⟩ : ∃ w : va_W, w = ([[(m, .inr (12, [.ref ls, .ref lb, .ref lk, .ref lp, .ref lr, .ref le, .ref lm, .ref lo, .int (nI 0), .int (dZz D), .int (nI (dBn D)), .int (nI (dCm D))]))], l235_0, v1, v2, u2_334, v4, v5, v6, v7] : List va_W).flatten := ⟨_, rfl⟩
              have hwc_18 : KdP g m ((fs, dBx D, dKs D, Qs334, dRs D, dEs D, dMs D, dSo D, 0, dZz D, dBn D, dCm D) : MdS) wc_18 := by
                rw [ewc_18]
                exact ⟨ls, lb, lk, lp, lr, le, lm, lo, kcap, pcap, rcap, ecap, mcap, mks, mps, _, _, _, _, _, _, _, _, (by first | exact hcap | exact ⟨by first | exact kc1 | exact grow_b (by omega) kc1, by first | exact kc2 | exact grow_b (by omega) kc2, by first | exact kc3 | exact grow_b (by omega) kc3, by first | exact kc4 | exact grow_b (by omega) kc4, by first | exact kc5 | (have := grow_b (n := (dMs D).length) (cap := mcap) (by omega); first | omega | (unfold growN; split <;> (try split) <;> omega))⟩), hr_8, hv1, hv2, hu2_334, hv4, hv5, hv6, hv7, rfl⟩
              refine g_close (w := wc_18) [4, 7, 0, 3, 3, 0, 2, 1, 0] rfl ewc_18 rfl ?_
              refine (show Go g κ 355 [some (.ref m), some (.int (nI i)), some (.int (nI j)), some (.ref x35), some (.ref x47), some (.ref ca), some (.int (-1)), some (.int (nI k))] [.int r346.1] [wc_18] 0 0 from ?_)
              exact g_iret B E dX3_read_355 (⟨Qs334, _, by rw [vl_eq hr346], rfl, hwc_18, hN_334⟩)
            · skip
              have hff : fin = false := by
                cases e9 : fin with
                | false => rfl
                | true => exact absurd (hB e9).2.2.1 (by omega)
              obtain ⟨hS9, hpl9⟩ := hA hff
              obtain ⟨hs1, hs2⟩ := hsc k hkn
              rw [← hS9] at hs1 hs2
              have hs1 : sec < s9.length := hs1
              have hs2 : s9.length ≤ 970 := hs2
              refine g_aload (q := 250) B dX3_read_248 rfl rfl (rv_r _) ?_
              refine g_getN (q := 253) B (ci := 17) (k := 15) (j := 1) in_X14 rfl dX3_read_250 rfl rfl (Nat.le_of_ble_eq_true rfl) q3320 rfl rfl ?_
              refine g_aload (q := 255) B dX3_read_253 rfl rfl (rv_r _) ?_
              refine g_getNM (q := 258) B (ci := 20) (k := 6) (j := 2) in_X22 rfl dX3_read_255 rfl rfl (hc_6_0) (Nat.le_of_ble_eq_true rfl) q3573 rfl rfl ?_
              refine g_icmp_ge (tgt := 302) (q := 261) B dX3_read_258 rfl (by decide) (nI_leI (by omega) (by omega)) (fun c258 => ?_) (fun c258 => ?_)
              · skip
                have hkN : k = (q.2.2.1 - c.2.1) := by omega
                have hF9 : frm s9 (sec, none, 8) = (fs, fi) := by have z := hF; rw [← hkN, ← hS9] at z; exact z
                have hg2 := Ph_fr hF9
                have hcq2 := capF_m hg2.2.1
                have hcq3 := capF_le fs.length
                refine g_aload (q := 304) B dX3_read_302 rfl rfl (rv_r _) ?_
                refine g_aload_n (q := 305) B dX3_read_304 rfl rfl (rv_r _) ?_
                refine g_aload (q := 307) B dX3_read_305 rfl rfl (rv_r _) ?_
                refine g_getN (q := 310) B (ci := 17) (k := 15) (j := 0) in_X14 rfl dX3_read_307 rfl rfl (Nat.le_of_ble_eq_true rfl) q3319 rfl rfl ?_
                refine g_iconst (v := -1) (q := 311) B dX3_read_310 rfl (by decide) ?_
                refine g_bipush (v := nI 8) (q := 313) B dX3_read_311 rfl (by decide) ?_
                refine g_callV (q := 316) (is := [18, 0]) (kc2 := (10 * (q.2.2.1 + 1 - pl) + 10070 + 640 * (dMs D).length) - 2) (ks2 := (200 * (q.2.2.1 + 1 - pl) + 4 * (1480 - capF s9.length) + 130200 + 1600 * (dMs D).length) - (4 + 4 * (capF fs.length - capF s9.length))) B [.int (nI sec), .int (-1), .int (nI 8)] (ct_X3_of g J (m := m) (ls := ls) (lb := lb) (lk := lk) (lp := lp) (lr := lr) (le := le) (lm := lm) (lo := lo) (th := 0) (z := (dZz D)) (bo := (dBn D)) (cm := (dCm D)) (ss := s9) (o := sec) (q := none) (l := 8) (s2 := fs) (i := fi) hl235_0 (by omega) (by omega) (fun n h => by cases h) (by decide) (hF9)) dX3_read_313 rfl (rc_at B (ci := 12) rfl (k := 18) rfl) rfl q3302 q3304 qs57 q85 q3305 rfl rfl moX3_of rfl rfl (by decide) (by decide) (Nat.le_of_ble_eq_true rfl) (by omega) (by omega) (fun _ _ hx => noX_x hx) (fun v313 L1 hp313 => ?_)
                obtain ⟨u1_313, rfl, rfl, hu1_313⟩ := hp313
                refine (show Go g κ 316 [some (.ref m), some (.int (nI i)), some (.int (nI j)), some (.ref x35), some (.ref x47), some (.ref ca), some (.int (-1)), some (.int (nI k))] [.int (nI fi), .ref ca] [v1, v2, v4, v5, v7, v6, lu1_o, lu2_o, [(x35, .inr (13, [.int (oI (mEp r)), .int (nI (mLf r)), .int (nI (mLs r)), .int (oI (mRn r)), .ref nd_o, .ref ch_o, .ref ev_o]))], [(nd_o, .inl (g.2.1 0, 31, .inl fn_o))], [(ch_o, .inl (g.2.1 5, 16, .inr (.inr (.inr (.inr fc_o)))))], v1_o, bu1, bu2, [(ca, .inr (17, [.int (nI sec), .int (nI pl), .ref pl_c, .ref ky_c]))], l235_16, l235_17, [(m, .inr (12, [.ref ls, .ref lb, .ref lk, .ref lp, .ref lr, .ref le, .ref lm, .ref lo, .int (nI 0), .int (dZz D), .int (nI (dBn D)), .int (nI (dCm D))]))], u1_313] ((10 * (q.2.2.1 + 1 - pl) + 10070 + 640 * (dMs D).length) - 2) ((200 * (q.2.2.1 + 1 - pl) + 4 * (1480 - capF s9.length) + 130200 + 1600 * (dMs D).length) - (4 + 4 * (capF fs.length - capF s9.length))) from ?_)
                refine g_putN (q := 319) (L2 := [v1, v2, v4, v5, v7, v6, lu1_o, lu2_o, [(x35, .inr (13, [.int (oI (mEp r)), .int (nI (mLf r)), .int (nI (mLs r)), .int (oI (mRn r)), .ref nd_o, .ref ch_o, .ref ev_o]))], [(nd_o, .inl (g.2.1 0, 31, .inl fn_o))], [(ch_o, .inl (g.2.1 5, 16, .inr (.inr (.inr (.inr fc_o)))))], v1_o, bu1, bu2, [(ca, .inr (17, [.int (nI fi), .int (nI pl), .ref pl_c, .ref ky_c]))], l235_16, l235_17, [(m, .inr (12, [.ref ls, .ref lb, .ref lk, .ref lp, .ref lr, .ref le, .ref lm, .ref lo, .int (nI 0), .int (dZz D), .int (nI (dBn D)), .int (nI (dCm D))]))], u1_313]) B (ci := 17) (k := 14) (j := 0) in_X14 tyX14 tyX14_ok nmX14 rfl dX3_read_316 rfl rfl (Nat.le_of_ble_eq_true rfl) q3319 rfl rfl rfl rfl (Nat.le_of_ble_eq_true rfl) rfl ?_
                refine g_aload (q := 321) B dX3_read_319 rfl rfl (rv_r _) ?_
                refine g_dup (q := 322) B dX3_read_321 rfl rfl ?_
                refine g_getN (q := 325) B (ci := 17) (k := 14) (j := 1) in_X14 rfl dX3_read_322 rfl rfl (Nat.le_of_ble_eq_true rfl) q3320 rfl rfl ?_
                refine g_iconst (v := nI 1) (q := 326) B dX3_read_325 rfl (by decide) ?_
                refine g_iadd (v := nI (pl + 1)) (q := 327) B dX3_read_326 rfl (nI_add _ _) ?_
                refine g_putN (q := 330) (L2 := [v1, v2, v4, v5, v7, v6, lu1_o, lu2_o, [(x35, .inr (13, [.int (oI (mEp r)), .int (nI (mLf r)), .int (nI (mLs r)), .int (oI (mRn r)), .ref nd_o, .ref ch_o, .ref ev_o]))], [(nd_o, .inl (g.2.1 0, 31, .inl fn_o))], [(ch_o, .inl (g.2.1 5, 16, .inr (.inr (.inr (.inr fc_o)))))], v1_o, bu1, bu2, [(ca, .inr (17, [.int (nI fi), .int (nI (pl + 1)), .ref pl_c, .ref ky_c]))], l235_16, l235_17, [(m, .inr (12, [.ref ls, .ref lb, .ref lk, .ref lp, .ref lr, .ref le, .ref lm, .ref lo, .int (nI 0), .int (dZz D), .int (nI (dBn D)), .int (nI (dCm D))]))], u1_313]) B (ci := 17) (k := 14) (j := 1) in_X14 tyX14 tyX14_ok nmX14 rfl dX3_read_327 rfl rfl (Nat.le_of_ble_eq_true rfl) q3320 rfl rfl rfl rfl (Nat.le_of_ble_eq_true rfl) rfl ?_
                refine g_goto (tgt := 235) B dX3_read_330 (by decide) ?_
                refine g_pk [18, 0, 0, 0, 0, 0, 0, 0, 0, 0, 0, 0, 0, 0, 0, 0, 0, 0, 0] rfl rfl ?_
                refine (show Go g κ 235 [some (.ref m), some (.int (nI i)), some (.int (nI j)), some (.ref x35), some (.ref x47), some (.ref ca), some (.int (-1)), some (.int (nI k))] [] [u1_313, v1, v2, v4, v5, v7, v6, lu1_o, lu2_o, [(x35, .inr (13, [.int (oI (mEp r)), .int (nI (mLf r)), .int (nI (mLs r)), .int (oI (mRn r)), .ref nd_o, .ref ch_o, .ref ev_o]))], [(nd_o, .inl (g.2.1 0, 31, .inl fn_o))], [(ch_o, .inl (g.2.1 5, 16, .inr (.inr (.inr (.inr fc_o)))))], v1_o, bu1, bu2, [(ca, .inr (17, [.int (nI fi), .int (nI (pl + 1)), .ref pl_c, .ref ky_c]))], l235_16, l235_17, [(m, .inr (12, [.ref ls, .ref lb, .ref lk, .ref lp, .ref lr, .ref le, .ref lm, .ref lo, .int (nI 0), .int (dZz D), .int (nI (dBn D)), .int (nI (dCm D))]))]] ((10 * (q.2.2.1 + 1 - pl) + 10070 + 640 * (dMs D).length) - 2) ((200 * (q.2.2.1 + 1 - pl) + 4 * (1480 - capF s9.length) + 130200 + 1600 * (dMs D).length) - (4 + 4 * (capF fs.length - capF s9.length))) from ?_)
                refine g_room (kc2 := 10 * (q.2.2.1 + 1 - (pl + 1)) + 10070 + 640 * (dMs D).length) (ks2 := 200 * (q.2.2.1 + 1 - (pl + 1)) + 4 * (1480 - capF fs.length) + 130200 + 1600 * (dMs D).length) (by omega) (by omega) ?_
                exact ih235 _ (by omega) k true fs fi (pl + 1) l9 cp9 ck9 u1_313 l235_16 l235_17 hu1_313 hl235_16 hl235_17 (hkn) (fun z => by cases z) (fun _ => ⟨rfl, rfl, by omega, by rw [← hkN, ← hS9]⟩) (hlb) (hcp9) (hck9) (hl9) (by omega) (by omega) rfl
              · skip
                obtain ⟨⟨q1, k1⟩, hq1⟩ : ∃ p, frm s9 (sec, none, 7) = p := ⟨_, rfl⟩
                obtain ⟨⟨q2, k2⟩, hq2⟩ : ∃ p, frm q1 (sec, none, 8) = p := ⟨_, rfl⟩
                have hg1 := Ph_fr hq1
                have hg2 := Ph_fr hq2
                have hrd : rdmK ((dSs D, c) : RdM) (k + 1) = (q2, (k2, pl + 1, l9 ++ [(pl, k1)])) := by show rdm1 (rdmK ((dSs D, c) : RdM) k) = _; rw [← hS9]; exact rdm_s (S := (s9, (sec, pl, l9))) hq1 hq2
                obtain ⟨hs3, hs4⟩ := hsc (k + 1) (by omega)
                rw [hrd] at hs3 hs4
                have hs4 : q2.length ≤ 970 := hs4
                have hcq1 := capF_m hg1.2.1
                have hcq2 := capF_m hg2.2.1
                have hcq3 := capF_le q2.length
                refine g_aload (q := 263) B dX3_read_261 rfl rfl (rv_r _) ?_
                refine g_getN (q := 266) B (ci := 17) (k := 15) (j := 2) in_X14 rfl dX3_read_263 rfl rfl (Nat.le_of_ble_eq_true rfl) q3322 rfl rfl ?_
                refine g_aload (q := 268) B dX3_read_266 rfl rfl (rv_r _) ?_
                refine g_getN (q := 271) B (ci := 17) (k := 15) (j := 1) in_X14 rfl dX3_read_268 rfl rfl (Nat.le_of_ble_eq_true rfl) q3320 rfl rfl ?_
                refine g_callS (q := 274) (is := []) (kc2 := (10 * (q.2.2.1 + 1 - pl) + 10070 + 640 * (dMs D).length) - 1) (ks2 := (200 * (q.2.2.1 + 1 - pl) + 4 * (1480 - capF s9.length) + 130200 + 1600 * (dMs D).length) - 1) B [.int (nI pl)] (ct_J26_valueOf g J (v := nI pl)  ) dX3_read_271 rfl q3242 q686 q111 q687 rfl rfl moJ26_valueOf rfl rfl (by decide) (by decide) (Nat.le_of_ble_eq_true rfl) (by omega) (by omega) (fun _ _ hx => noX_x hx) (fun v271 L1 hp271 => ?_)
                obtain ⟨a271, u0_271, rfl, rfl, hu0_271⟩ := hp271
                refine (show Go g κ 274 [some (.ref m), some (.int (nI i)), some (.int (nI j)), some (.ref x35), some (.ref x47), some (.ref ca), some (.int (-1)), some (.int (nI k))] [.ref a271, .ref pl_c] [l235_0, v1, v2, v4, v5, v7, v6, lu1_o, lu2_o, [(x35, .inr (13, [.int (oI (mEp r)), .int (nI (mLf r)), .int (nI (mLs r)), .int (oI (mRn r)), .ref nd_o, .ref ch_o, .ref ev_o]))], [(nd_o, .inl (g.2.1 0, 31, .inl fn_o))], [(ch_o, .inl (g.2.1 5, 16, .inr (.inr (.inr (.inr fc_o)))))], v1_o, bu1, bu2, [(ca, .inr (17, [.int (nI sec), .int (nI pl), .ref pl_c, .ref ky_c]))], l235_16, l235_17, [(m, .inr (12, [.ref ls, .ref lb, .ref lk, .ref lp, .ref lr, .ref le, .ref lm, .ref lo, .int (nI 0), .int (dZz D), .int (nI (dBn D)), .int (nI (dCm D))]))], u0_271] ((10 * (q.2.2.1 + 1 - pl) + 10070 + 640 * (dMs D).length) - 1) ((200 * (q.2.2.1 + 1 - pl) + 4 * (1480 - capF s9.length) + 130200 + 1600 * (dMs D).length) - 1) from ?_)
                obtain ⟨ps_19, md_19, hli_19, hln_19, hel_19⟩ := LhP.at (Sub.self hl235_17)
                refine g_callV (q := 277) (is := [17, 18]) (kc2 := (10 * (q.2.2.1 + 1 - pl) + 10070 + 640 * (dMs D).length) - 2) (ks2 := (200 * (q.2.2.1 + 1 - pl) + 4 * (1480 - capF s9.length) + 130200 + 1600 * (dMs D).length) - 61) B [.ref a271] (ct_add_IlP g J (p := pl_c) (rs := (l9.map (·.1))) (cap := cp9) (a := a271) (r := pl) (mc := 1) (ms := 60) hl235_17 hu0_271 (by omega) (fun h => grow_s (by omega) h)) dX3_read_274 rfl (rc_in B (ci := 21) rfl (k := 17) rfl (LhP.hm hl235_17)) rfl q3144 q711 q3666 q81 q713 rfl rfl moJ2_add rfl rfl (by decide) (by decide) (Nat.le_of_ble_eq_true rfl) (by omega) (by omega) (fun _ _ hx => noX_x hx) (fun v274 L1 hp274 => ?_)
                obtain ⟨u0_274, rfl, rfl, hu0_274⟩ := hp274
                refine (show Go g κ 277 [some (.ref m), some (.int (nI i)), some (.int (nI j)), some (.ref x35), some (.ref x47), some (.ref ca), some (.int (-1)), some (.int (nI k))] [.int (nI 1)] [l235_0, v1, v2, v4, v5, v7, v6, lu1_o, lu2_o, [(x35, .inr (13, [.int (oI (mEp r)), .int (nI (mLf r)), .int (nI (mLs r)), .int (oI (mRn r)), .ref nd_o, .ref ch_o, .ref ev_o]))], [(nd_o, .inl (g.2.1 0, 31, .inl fn_o))], [(ch_o, .inl (g.2.1 5, 16, .inr (.inr (.inr (.inr fc_o)))))], v1_o, bu1, bu2, [(ca, .inr (17, [.int (nI sec), .int (nI pl), .ref pl_c, .ref ky_c]))], l235_16, [(m, .inr (12, [.ref ls, .ref lb, .ref lk, .ref lp, .ref lr, .ref le, .ref lm, .ref lo, .int (nI 0), .int (dZz D), .int (nI (dBn D)), .int (nI (dCm D))]))], u0_274] ((10 * (q.2.2.1 + 1 - pl) + 10070 + 640 * (dMs D).length) - 2) ((200 * (q.2.2.1 + 1 - pl) + 4 * (1480 - capF s9.length) + 130200 + 1600 * (dMs D).length) - 61) from ?_)
                refine g_pop (q := 278) B dX3_read_277 rfl rfl ?_
                refine g_aload (q := 280) B dX3_read_278 rfl rfl (rv_r _) ?_
                refine g_getN (q := 283) B (ci := 17) (k := 15) (j := 3) in_X14 rfl dX3_read_280 rfl rfl (Nat.le_of_ble_eq_true rfl) q3324 rfl rfl ?_
                refine g_aload_n (q := 284) B dX3_read_283 rfl rfl (rv_r _) ?_
                refine g_aload (q := 286) B dX3_read_284 rfl rfl (rv_r _) ?_
                refine g_getN (q := 289) B (ci := 17) (k := 15) (j := 0) in_X14 rfl dX3_read_286 rfl rfl (Nat.le_of_ble_eq_true rfl) q3319 rfl rfl ?_
                refine g_iconst (v := -1) (q := 290) B dX3_read_289 rfl (by decide) ?_
                refine g_bipush (v := nI 7) (q := 292) B dX3_read_290 rfl (by decide) ?_
                refine g_callV (q := 295) (is := [17, 0]) (kc2 := (10 * (q.2.2.1 + 1 - pl) + 10070 + 640 * (dMs D).length) - 4) (ks2 := ((200 * (q.2.2.1 + 1 - pl) + 4 * (1480 - capF s9.length) + 130200 + 1600 * (dMs D).length) - 61) - (4 + 4 * (capF q1.length - capF s9.length))) B [.int (nI sec), .int (-1), .int (nI 7)] (ct_X3_of g J (m := m) (ls := ls) (lb := lb) (lk := lk) (lp := lp) (lr := lr) (le := le) (lm := lm) (lo := lo) (th := 0) (z := (dZz D)) (bo := (dBn D)) (cm := (dCm D)) (ss := s9) (o := sec) (q := none) (l := 7) (s2 := q1) (i := k1) hl235_0 (by omega) (hs1) (fun n h => by cases h) (by decide) (hq1)) dX3_read_292 rfl (rc_at B (ci := 12) rfl (k := 17) rfl) rfl q3302 q3304 qs57 q85 q3305 rfl rfl moX3_of rfl rfl (by decide) (by decide) (Nat.le_of_ble_eq_true rfl) (by omega) (by omega) (fun _ _ hx => noX_x hx) (fun v292 L1 hp292 => ?_)
                obtain ⟨u1_292, rfl, rfl, hu1_292⟩ := hp292
                refine (show Go g κ 295 [some (.ref m), some (.int (nI i)), some (.int (nI j)), some (.ref x35), some (.ref x47), some (.ref ca), some (.int (-1)), some (.int (nI k))] [.int (nI k1), .ref ky_c] [v1, v2, v4, v5, v7, v6, lu1_o, lu2_o, [(x35, .inr (13, [.int (oI (mEp r)), .int (nI (mLf r)), .int (nI (mLs r)), .int (oI (mRn r)), .ref nd_o, .ref ch_o, .ref ev_o]))], [(nd_o, .inl (g.2.1 0, 31, .inl fn_o))], [(ch_o, .inl (g.2.1 5, 16, .inr (.inr (.inr (.inr fc_o)))))], v1_o, bu1, bu2, [(ca, .inr (17, [.int (nI sec), .int (nI pl), .ref pl_c, .ref ky_c]))], l235_16, u0_274, [(m, .inr (12, [.ref ls, .ref lb, .ref lk, .ref lp, .ref lr, .ref le, .ref lm, .ref lo, .int (nI 0), .int (dZz D), .int (nI (dBn D)), .int (nI (dCm D))]))], u1_292] ((10 * (q.2.2.1 + 1 - pl) + 10070 + 640 * (dMs D).length) - 4) (((200 * (q.2.2.1 + 1 - pl) + 4 * (1480 - capF s9.length) + 130200 + 1600 * (dMs D).length) - 61) - (4 + 4 * (capF q1.length - capF s9.length))) from ?_)
                refine g_callS (q := 298) (is := []) (kc2 := (10 * (q.2.2.1 + 1 - pl) + 10070 + 640 * (dMs D).length) - 5) (ks2 := (((200 * (q.2.2.1 + 1 - pl) + 4 * (1480 - capF s9.length) + 130200 + 1600 * (dMs D).length) - 61) - (4 + 4 * (capF q1.length - capF s9.length))) - 1) B [.int (nI k1)] (ct_J26_valueOf g J (v := nI k1)  ) dX3_read_295 rfl q3242 q686 q111 q687 rfl rfl moJ26_valueOf rfl rfl (by decide) (by decide) (Nat.le_of_ble_eq_true rfl) (by omega) (by omega) (fun _ _ hx => noX_x hx) (fun v295 L1 hp295 => ?_)
                obtain ⟨a295, u0_295, rfl, rfl, hu0_295⟩ := hp295
                refine (show Go g κ 298 [some (.ref m), some (.int (nI i)), some (.int (nI j)), some (.ref x35), some (.ref x47), some (.ref ca), some (.int (-1)), some (.int (nI k))] [.ref a295, .ref ky_c] [v1, v2, v4, v5, v7, v6, lu1_o, lu2_o, [(x35, .inr (13, [.int (oI (mEp r)), .int (nI (mLf r)), .int (nI (mLs r)), .int (oI (mRn r)), .ref nd_o, .ref ch_o, .ref ev_o]))], [(nd_o, .inl (g.2.1 0, 31, .inl fn_o))], [(ch_o, .inl (g.2.1 5, 16, .inr (.inr (.inr (.inr fc_o)))))], v1_o, bu1, bu2, [(ca, .inr (17, [.int (nI sec), .int (nI pl), .ref pl_c, .ref ky_c]))], l235_16, u0_274, [(m, .inr (12, [.ref ls, .ref lb, .ref lk, .ref lp, .ref lr, .ref le, .ref lm, .ref lo, .int (nI 0), .int (dZz D), .int (nI (dBn D)), .int (nI (dCm D))]))], u1_292, u0_295] ((10 * (q.2.2.1 + 1 - pl) + 10070 + 640 * (dMs D).length) - 5) ((((200 * (q.2.2.1 + 1 - pl) + 4 * (1480 - capF s9.length) + 130200 + 1600 * (dMs D).length) - 61) - (4 + 4 * (capF q1.length - capF s9.length))) - 1) from ?_)
                obtain ⟨ps_20, md_20, hli_20, hln_20, hel_20⟩ := LhP.at (Sub.self hl235_16)
                refine g_callV (q := 301) (is := [15, 18]) (kc2 := (10 * (q.2.2.1 + 1 - pl) + 10070 + 640 * (dMs D).length) - 6) (ks2 := (((200 * (q.2.2.1 + 1 - pl) + 4 * (1480 - capF s9.length) + 130200 + 1600 * (dMs D).length) - 61) - (4 + 4 * (capF q1.length - capF s9.length))) - 61) B [.ref a295] (ct_add_IlP g J (p := ky_c) (rs := (l9.map (·.2))) (cap := ck9) (a := a295) (r := k1) (mc := 1) (ms := 60) hl235_16 hu0_295 (by omega) (fun h => grow_s (by omega) h)) dX3_read_298 rfl (rc_in B (ci := 21) rfl (k := 15) rfl (LhP.hm hl235_16)) rfl q3144 q711 q3666 q81 q713 rfl rfl moJ2_add rfl rfl (by decide) (by decide) (Nat.le_of_ble_eq_true rfl) (by omega) (by omega) (fun _ _ hx => noX_x hx) (fun v298 L1 hp298 => ?_)
                obtain ⟨u0_298, rfl, rfl, hu0_298⟩ := hp298
                refine (show Go g κ 301 [some (.ref m), some (.int (nI i)), some (.int (nI j)), some (.ref x35), some (.ref x47), some (.ref ca), some (.int (-1)), some (.int (nI k))] [.int (nI 1)] [v1, v2, v4, v5, v7, v6, lu1_o, lu2_o, [(x35, .inr (13, [.int (oI (mEp r)), .int (nI (mLf r)), .int (nI (mLs r)), .int (oI (mRn r)), .ref nd_o, .ref ch_o, .ref ev_o]))], [(nd_o, .inl (g.2.1 0, 31, .inl fn_o))], [(ch_o, .inl (g.2.1 5, 16, .inr (.inr (.inr (.inr fc_o)))))], v1_o, bu1, bu2, [(ca, .inr (17, [.int (nI sec), .int (nI pl), .ref pl_c, .ref ky_c]))], u0_274, [(m, .inr (12, [.ref ls, .ref lb, .ref lk, .ref lp, .ref lr, .ref le, .ref lm, .ref lo, .int (nI 0), .int (dZz D), .int (nI (dBn D)), .int (nI (dCm D))]))], u1_292, u0_298] ((10 * (q.2.2.1 + 1 - pl) + 10070 + 640 * (dMs D).length) - 6) ((((200 * (q.2.2.1 + 1 - pl) + 4 * (1480 - capF s9.length) + 130200 + 1600 * (dMs D).length) - 61) - (4 + 4 * (capF q1.length - capF s9.length))) - 61) from ?_)
                refine g_pop (q := 302) B dX3_read_301 rfl rfl ?_
                refine g_aload (q := 304) B dX3_read_302 rfl rfl (rv_r _) ?_
                refine g_aload_n (q := 305) B dX3_read_304 rfl rfl (rv_r _) ?_
                refine g_aload (q := 307) B dX3_read_305 rfl rfl (rv_r _) ?_
                refine g_getN (q := 310) B (ci := 17) (k := 14) (j := 0) in_X14 rfl dX3_read_307 rfl rfl (Nat.le_of_ble_eq_true rfl) q3319 rfl rfl ?_
                refine g_iconst (v := -1) (q := 311) B dX3_read_310 rfl (by decide) ?_
                refine g_bipush (v := nI 8) (q := 313) B dX3_read_311 rfl (by decide) ?_
                refine g_callV (q := 316) (is := [16, 16]) (kc2 := (10 * (q.2.2.1 + 1 - pl) + 10070 + 640 * (dMs D).length) - 8) (ks2 := ((((200 * (q.2.2.1 + 1 - pl) + 4 * (1480 - capF s9.length) + 130200 + 1600 * (dMs D).length) - 61) - (4 + 4 * (capF q1.length - capF s9.length))) - 61) - (4 + 4 * (capF q2.length - capF q1.length))) B [.int (nI sec), .int (-1), .int (nI 8)] (ct_X3_of g J (m := m) (ls := ls) (lb := lb) (lk := lk) (lp := lp) (lr := lr) (le := le) (lm := lm) (lo := lo) (th := 0) (z := (dZz D)) (bo := (dBn D)) (cm := (dCm D)) (ss := q1) (o := sec) (q := none) (l := 8) (s2 := q2) (i := k2) hu1_292 (by omega) (by omega) (fun n h => by cases h) (by decide) (hq2)) dX3_read_313 rfl (rc_at B (ci := 12) rfl (k := 16) rfl) rfl q3302 q3304 qs57 q85 q3305 rfl rfl moX3_of rfl rfl (by decide) (by decide) (Nat.le_of_ble_eq_true rfl) (by omega) (by omega) (fun _ _ hx => noX_x hx) (fun v313 L1 hp313 => ?_)
                obtain ⟨u1_313, rfl, rfl, hu1_313⟩ := hp313
                refine (show Go g κ 316 [some (.ref m), some (.int (nI i)), some (.int (nI j)), some (.ref x35), some (.ref x47), some (.ref ca), some (.int (-1)), some (.int (nI k))] [.int (nI k2), .ref ca] [v1, v2, v4, v5, v7, v6, lu1_o, lu2_o, [(x35, .inr (13, [.int (oI (mEp r)), .int (nI (mLf r)), .int (nI (mLs r)), .int (oI (mRn r)), .ref nd_o, .ref ch_o, .ref ev_o]))], [(nd_o, .inl (g.2.1 0, 31, .inl fn_o))], [(ch_o, .inl (g.2.1 5, 16, .inr (.inr (.inr (.inr fc_o)))))], v1_o, bu1, bu2, [(ca, .inr (17, [.int (nI sec), .int (nI pl), .ref pl_c, .ref ky_c]))], u0_274, u0_298, [(m, .inr (12, [.ref ls, .ref lb, .ref lk, .ref lp, .ref lr, .ref le, .ref lm, .ref lo, .int (nI 0), .int (dZz D), .int (nI (dBn D)), .int (nI (dCm D))]))], u1_313] ((10 * (q.2.2.1 + 1 - pl) + 10070 + 640 * (dMs D).length) - 8) (((((200 * (q.2.2.1 + 1 - pl) + 4 * (1480 - capF s9.length) + 130200 + 1600 * (dMs D).length) - 61) - (4 + 4 * (capF q1.length - capF s9.length))) - 61) - (4 + 4 * (capF q2.length - capF q1.length))) from ?_)
                refine g_putN (q := 319) (L2 := [v1, v2, v4, v5, v7, v6, lu1_o, lu2_o, [(x35, .inr (13, [.int (oI (mEp r)), .int (nI (mLf r)), .int (nI (mLs r)), .int (oI (mRn r)), .ref nd_o, .ref ch_o, .ref ev_o]))], [(nd_o, .inl (g.2.1 0, 31, .inl fn_o))], [(ch_o, .inl (g.2.1 5, 16, .inr (.inr (.inr (.inr fc_o)))))], v1_o, bu1, bu2, [(ca, .inr (17, [.int (nI k2), .int (nI pl), .ref pl_c, .ref ky_c]))], u0_274, u0_298, [(m, .inr (12, [.ref ls, .ref lb, .ref lk, .ref lp, .ref lr, .ref le, .ref lm, .ref lo, .int (nI 0), .int (dZz D), .int (nI (dBn D)), .int (nI (dCm D))]))], u1_313]) B (ci := 17) (k := 14) (j := 0) in_X14 tyX14 tyX14_ok nmX14 rfl dX3_read_316 rfl rfl (Nat.le_of_ble_eq_true rfl) q3319 rfl rfl rfl rfl (Nat.le_of_ble_eq_true rfl) rfl ?_
                refine g_aload (q := 321) B dX3_read_319 rfl rfl (rv_r _) ?_
                refine g_dup (q := 322) B dX3_read_321 rfl rfl ?_
                refine g_getN (q := 325) B (ci := 17) (k := 14) (j := 1) in_X14 rfl dX3_read_322 rfl rfl (Nat.le_of_ble_eq_true rfl) q3320 rfl rfl ?_
                refine g_iconst (v := nI 1) (q := 326) B dX3_read_325 rfl (by decide) ?_
                refine g_iadd (v := nI (pl + 1)) (q := 327) B dX3_read_326 rfl (nI_add _ _) ?_
                refine g_putN (q := 330) (L2 := [v1, v2, v4, v5, v7, v6, lu1_o, lu2_o, [(x35, .inr (13, [.int (oI (mEp r)), .int (nI (mLf r)), .int (nI (mLs r)), .int (oI (mRn r)), .ref nd_o, .ref ch_o, .ref ev_o]))], [(nd_o, .inl (g.2.1 0, 31, .inl fn_o))], [(ch_o, .inl (g.2.1 5, 16, .inr (.inr (.inr (.inr fc_o)))))], v1_o, bu1, bu2, [(ca, .inr (17, [.int (nI k2), .int (nI (pl + 1)), .ref pl_c, .ref ky_c]))], u0_274, u0_298, [(m, .inr (12, [.ref ls, .ref lb, .ref lk, .ref lp, .ref lr, .ref le, .ref lm, .ref lo, .int (nI 0), .int (dZz D), .int (nI (dBn D)), .int (nI (dCm D))]))], u1_313]) B (ci := 17) (k := 14) (j := 1) in_X14 tyX14 tyX14_ok nmX14 rfl dX3_read_327 rfl rfl (Nat.le_of_ble_eq_true rfl) q3320 rfl rfl rfl rfl (Nat.le_of_ble_eq_true rfl) rfl ?_
                refine g_goto (tgt := 235) B dX3_read_330 (by decide) ?_
                have hr_21 : LhP g (BxE g) pl_c ((l9 ++ [(pl, k1)]).map (·.1)) (if (l9.map (·.1)).length = cp9 then growN cp9 else cp9) u0_274 := by rw [List.map_append]; exact hu0_274
                have hr_22 : LhP g (BxE g) ky_c ((l9 ++ [(pl, k1)]).map (·.2)) (if (l9.map (·.2)).length = ck9 then growN ck9 else ck9) u0_298 := by rw [List.map_append]; exact hu0_298
                refine g_pk [18, 0, 0, 0, 0, 0, 0, 0, 0, 0, 0, 0, 0, 0, 0, 0, 1, 0, 0] rfl rfl ?_
                refine (show Go g κ 235 [some (.ref m), some (.int (nI i)), some (.int (nI j)), some (.ref x35), some (.ref x47), some (.ref ca), some (.int (-1)), some (.int (nI k))] [] [u1_313, v1, v2, v4, v5, v7, v6, lu1_o, lu2_o, [(x35, .inr (13, [.int (oI (mEp r)), .int (nI (mLf r)), .int (nI (mLs r)), .int (oI (mRn r)), .ref nd_o, .ref ch_o, .ref ev_o]))], [(nd_o, .inl (g.2.1 0, 31, .inl fn_o))], [(ch_o, .inl (g.2.1 5, 16, .inr (.inr (.inr (.inr fc_o)))))], v1_o, bu1, bu2, [(ca, .inr (17, [.int (nI k2), .int (nI (pl + 1)), .ref pl_c, .ref ky_c]))], u0_298, u0_274, [(m, .inr (12, [.ref ls, .ref lb, .ref lk, .ref lp, .ref lr, .ref le, .ref lm, .ref lo, .int (nI 0), .int (dZz D), .int (nI (dBn D)), .int (nI (dCm D))]))]] ((10 * (q.2.2.1 + 1 - pl) + 10070 + 640 * (dMs D).length) - 8) (((((200 * (q.2.2.1 + 1 - pl) + 4 * (1480 - capF s9.length) + 130200 + 1600 * (dMs D).length) - 61) - (4 + 4 * (capF q1.length - capF s9.length))) - 61) - (4 + 4 * (capF q2.length - capF q1.length))) from ?_)
                refine g_room (kc2 := 10 * (q.2.2.1 + 1 - (pl + 1)) + 10070 + 640 * (dMs D).length) (ks2 := 200 * (q.2.2.1 + 1 - (pl + 1)) + 4 * (1480 - capF q2.length) + 130200 + 1600 * (dMs D).length) (by omega) (by omega) ?_
                exact ih235 _ (by omega) (k + 1) false q2 k2 (pl + 1) (l9 ++ [(pl, k1)]) (if (l9.map (·.1)).length = cp9 then growN cp9 else cp9) (if (l9.map (·.2)).length = ck9 then growN ck9 else ck9) u1_313 u0_298 u0_274 hu1_313 hr_22 hr_21 (by omega) (fun _ => ⟨hrd.symm, by omega⟩) (fun z => by cases z) (fun y hy => by rcases List.mem_append.mp hy with z | z; exact hlb y z; simp at z; rw [z]; exact ⟨(show pl < 100 by omega), (show k1 < 1000 by omega)⟩) (grow_b (by omega) hcp9) (grow_b (by omega) hck9) (by rw [List.length_append]; show l9.length + 1 ≤ _; omega) (by omega) (by omega) rfl
          have hcf0 := capF_le (dSs D).length
          refine g_room (kc2 := 10 * (q.2.2.1 + 1 - c.2.1) + 10070 + 640 * (dMs D).length) (ks2 := 200 * (q.2.2.1 + 1 - c.2.1) + 4 * (1480 - capF (dSs D).length) + 130200 + 1600 * (dMs D).length) (by omega) (by omega) ?_
          exact lp235 _ 0 false (dSs D) c.1 c.2.1 c.2.2 cp_c ck_c v0 v1_c v0_c hv0 hv1_c hv0_c (Nat.zero_le _) (fun _ => ⟨rfl, rfl⟩) (fun z => by cases z) (hcb4) (hcc_c.1) (hcc_c.2) (hcl) (by omega) (hcb2) rfl
        · skip
          exact absurd hge (by omega)
      · skip
        refine g_aload (q := 137) B dX3_read_135 rfl rfl (rv_r _) ?_
        refine g_getN (q := 140) B (ci := 17) (k := 15) (j := 2) in_X14 rfl dX3_read_137 rfl rfl (Nat.le_of_ble_eq_true rfl) q3322 rfl rfl ?_
        refine g_iload (q := 142) B dX3_read_140 rfl rfl ?_
        obtain ⟨r142, hr142⟩ := get_ex (xs := (c.2.2.map (·.1))) (i := k) (by omega)
        obtain ⟨x142, hx142⟩ := get_ex (xs := ps_7) (i := k) (by have := get_lt2 hr142; have := hln_7.1; omega)
        have hb_23 := Sub.box (hel_7 _ _ _ hx142 hr142)
        refine g_callV (q := 145) (is := [18]) (kc2 := 60 + 10070 + 640 * (dMs D).length) (ks2 := 8000 + 130200 + 1600 * (dMs D).length) B [.int (nI k)] (ct_J2_get_s g J (p := pl_c) (xs := ps_7) (md := md_7) (cap := cp_c) (i := k) (x := x142) (W0 := v0_c)  (hli_7) (hx142)) dX3_read_142 rfl (rc_in B (ci := 21) rfl (k := 18) rfl (LhP.hm hv0_c)) rfl q3231 q1095 q3667 q81 q1097 rfl rfl moJ2_get rfl rfl (by decide) (by decide) (Nat.le_of_ble_eq_true rfl) (by omega) (by omega) (fun _ _ hx => noX_x hx) (fun v142 L1 hp142 => ?_)
        obtain ⟨rfl, rfl⟩ := hp142
        refine (show Go g κ 145 [some (.ref m), some (.int (nI i)), some (.int (nI j)), some (.ref x35), some (.ref x47), some (.ref ca), some (.int (oI ho)), some (.int (nI k))] [.ref x142] [v0, v1, v2, v4, v5, v7, v6, lu1_o, lu2_o, [(x35, .inr (13, [.int (oI (mEp r)), .int (nI (mLf r)), .int (nI (mLs r)), .int (oI (mRn r)), .ref nd_o, .ref ch_o, .ref ev_o]))], [(nd_o, .inl (g.2.1 0, 31, .inl fn_o))], [(ch_o, .inl (g.2.1 5, 16, .inr (.inr (.inr (.inr fc_o)))))], v1_o, bu1, bu2, [(ca, .inr (17, [.int (nI c.1), .int (nI c.2.1), .ref pl_c, .ref ky_c]))], v1_c, [(m, .inr (12, [.ref ls, .ref lb, .ref lk, .ref lp, .ref lr, .ref le, .ref lm, .ref lo, .int (nI 0), .int (dZz D), .int (nI (dBn D)), .int (nI (dCm D))]))], v0_c] (60 + 10070 + 640 * (dMs D).length) (8000 + 130200 + 1600 * (dMs D).length) from ?_)
        refine g_castRS (ci := 35) (q := 148) B rfl (rc_bxat B J (k := 18) rfl hb_23) dX3_read_145 rfl q3240 ?_
        refine g_callV (q := 151) (is := [18]) (kc2 := 60 + 10070 + 640 * (dMs D).length) (ks2 := 8000 + 130200 + 1600 * (dMs D).length) B [] (ct_J26_intValue_b g J (a := x142) (v := nI r142) (wb := v0_c)  (hb_23)) dX3_read_148 rfl (rc_bxat B J (k := 18) rfl hb_23) rfl q3241 q1052 q1053 q111 q1054 rfl rfl moJ26_intValue rfl rfl (by decide) (by decide) (Nat.le_of_ble_eq_true rfl) (by omega) (by omega) (fun _ _ hx => noX_x hx) (fun v148 L1 hp148 => ?_)
        obtain ⟨rfl, rfl⟩ := hp148
        refine (show Go g κ 151 [some (.ref m), some (.int (nI i)), some (.int (nI j)), some (.ref x35), some (.ref x47), some (.ref ca), some (.int (oI ho)), some (.int (nI k))] [.int (nI r142)] [v0, v1, v2, v4, v5, v7, v6, lu1_o, lu2_o, [(x35, .inr (13, [.int (oI (mEp r)), .int (nI (mLf r)), .int (nI (mLs r)), .int (oI (mRn r)), .ref nd_o, .ref ch_o, .ref ev_o]))], [(nd_o, .inl (g.2.1 0, 31, .inl fn_o))], [(ch_o, .inl (g.2.1 5, 16, .inr (.inr (.inr (.inr fc_o)))))], v1_o, bu1, bu2, [(ca, .inr (17, [.int (nI c.1), .int (nI c.2.1), .ref pl_c, .ref ky_c]))], v1_c, [(m, .inr (12, [.ref ls, .ref lb, .ref lk, .ref lp, .ref lr, .ref le, .ref lm, .ref lo, .int (nI 0), .int (dZz D), .int (nI (dBn D)), .int (nI (dCm D))]))], v0_c] (60 + 10070 + 640 * (dMs D).length) (8000 + 130200 + 1600 * (dMs D).length) from ?_)
        have hr9 : r142 < 100 := by
          obtain ⟨y, y1, y2⟩ := List.mem_map.mp (List.mem_of_getElem? hr142)
          rw [← y2]; exact (hcb4 y y1).1
        refine g_aload (q := 153) B dX3_read_151 rfl rfl (rv_r _) ?_
        refine g_getNM (q := 156) B (ci := 20) (k := 6) (j := 2) in_X22 rfl dX3_read_153 rfl rfl (hc_6_0) (Nat.le_of_ble_eq_true rfl) q3573 rfl rfl ?_
        refine g_icmp_ne (tgt := 164) (q := 159) B dX3_read_156 rfl (by decide) (not_congr (nI_eq (by omega) (by omega))) (fun c156 => ?_) (fun c156 => ?_)
        · skip
          refine g_iload (q := 166) B dX3_read_164 rfl rfl ?_
          refine g_istore (q := 168) (lv2 := [some (.ref m), some (.int (nI i)), some (.int (nI j)), some (.ref x35), some (.ref x47), some (.ref ca), some (.int (oI ho)), some (.int (nI k))]) B dX3_read_166 rfl (Nat.le_of_ble_eq_true rfl) rfl ?_
          refine g_iinc (v := nI (k + 1)) (q := 171) (lv2 := [some (.ref m), some (.int (nI i)), some (.int (nI j)), some (.ref x35), some (.ref x47), some (.ref ca), some (.int (oI ho)), some (.int (nI (k + 1)))]) B dX3_read_168 rfl rfl (nI_add _ 1) (Nat.le_of_ble_eq_true rfl) rfl ?_
          refine g_goto (tgt := 122) B dX3_read_171 (by decide) ?_
          refine g_pk [0, 0, 0, 0, 0, 0, 0, 0, 0, 0, 0, 0, 0, 0, 0, 0, 2, 0, 0] rfl rfl ?_
          refine (show Go g κ 122 [some (.ref m), some (.int (nI i)), some (.int (nI j)), some (.ref x35), some (.ref x47), some (.ref ca), some (.int (oI ho)), some (.int (nI (k + 1)))] [] [v0, v1, v2, v4, v5, v7, v6, lu1_o, lu2_o, [(x35, .inr (13, [.int (oI (mEp r)), .int (nI (mLf r)), .int (nI (mLs r)), .int (oI (mRn r)), .ref nd_o, .ref ch_o, .ref ev_o]))], [(nd_o, .inl (g.2.1 0, 31, .inl fn_o))], [(ch_o, .inl (g.2.1 5, 16, .inr (.inr (.inr (.inr fc_o)))))], v1_o, bu1, bu2, [(ca, .inr (17, [.int (nI c.1), .int (nI c.2.1), .ref pl_c, .ref ky_c]))], v0_c, v1_c, [(m, .inr (12, [.ref ls, .ref lb, .ref lk, .ref lp, .ref lr, .ref le, .ref lm, .ref lo, .int (nI 0), .int (dZz D), .int (nI (dBn D)), .int (nI (dCm D))]))]] (60 + 10070 + 640 * (dMs D).length) (8000 + 130200 + 1600 * (dMs D).length) from ?_)
          exact ih122 _ (by omega) (k + 1) ho (by omega) (fun z n h => by rcases Nat.lt_or_ge n k with y | y; exact hho1 z n y; rw [show n = k by omega, hr142]; intro w; cases w; exact c156 rfl) (fun n h => by have := hho2 n h; exact ⟨by omega, this.2⟩) rfl
        · skip
          have c156 := Classical.not_not.mp c156
          refine g_iload (q := 161) B dX3_read_159 rfl rfl ?_
          refine g_goto (tgt := 166) B dX3_read_161 (by decide) ?_
          refine g_istore (q := 168) (lv2 := [some (.ref m), some (.int (nI i)), some (.int (nI j)), some (.ref x35), some (.ref x47), some (.ref ca), some (.int (nI k)), some (.int (nI k))]) B dX3_read_166 rfl (Nat.le_of_ble_eq_true rfl) rfl ?_
          refine g_iinc (v := nI (k + 1)) (q := 171) (lv2 := [some (.ref m), some (.int (nI i)), some (.int (nI j)), some (.ref x35), some (.ref x47), some (.ref ca), some (.int (nI k)), some (.int (nI (k + 1)))]) B dX3_read_168 rfl rfl (nI_add _ 1) (Nat.le_of_ble_eq_true rfl) rfl ?_
          refine g_goto (tgt := 122) B dX3_read_171 (by decide) ?_
          refine g_pk [0, 0, 0, 0, 0, 0, 0, 0, 0, 0, 0, 0, 0, 0, 0, 0, 2, 0, 0] rfl rfl ?_
          refine (show Go g κ 122 [some (.ref m), some (.int (nI i)), some (.int (nI j)), some (.ref x35), some (.ref x47), some (.ref ca), some (.int (nI k)), some (.int (nI (k + 1)))] [] [v0, v1, v2, v4, v5, v7, v6, lu1_o, lu2_o, [(x35, .inr (13, [.int (oI (mEp r)), .int (nI (mLf r)), .int (nI (mLs r)), .int (oI (mRn r)), .ref nd_o, .ref ch_o, .ref ev_o]))], [(nd_o, .inl (g.2.1 0, 31, .inl fn_o))], [(ch_o, .inl (g.2.1 5, 16, .inr (.inr (.inr (.inr fc_o)))))], v1_o, bu1, bu2, [(ca, .inr (17, [.int (nI c.1), .int (nI c.2.1), .ref pl_c, .ref ky_c]))], v0_c, v1_c, [(m, .inr (12, [.ref ls, .ref lb, .ref lk, .ref lp, .ref lr, .ref le, .ref lm, .ref lo, .int (nI 0), .int (dZz D), .int (nI (dBn D)), .int (nI (dCm D))]))]] (60 + 10070 + 640 * (dMs D).length) (8000 + 130200 + 1600 * (dMs D).length) from ?_)
          exact ih122 _ (by omega) (k + 1) (some k) (by omega) (fun z => by cases z) (fun n h => by cases h; exact ⟨by omega, by rw [hr142, c156]⟩) rfl
    exact lp122 _ 0 none (Nat.zero_le _) (fun _ n h => absurd h (Nat.not_lt_zero n)) (fun n h => by cases h) rfl
  · skip
    exact absurd hle c88
