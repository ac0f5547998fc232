set_option maxRecDepth 100000
def rnM1 (Rs : List MrS) (Ps : List MpS) (i : Nat) (T : TrS) (q : MrS) : TrS := match Ps[q.2.1]? with
  | none => T
  | some o => if q.1 = 110 ∧ ¬ q.2.1 = i ∧ ¬ prR Rs (mLf o) = true then blkF (setN T (2 * mLf o) q.2.2) (inW T.1 (mLf o)) else T
def rnM (Rs : List MrS) (Ps : List MpS) (i : Nat) (T : TrS) (k : Nat) : TrS := (Rs.take k).foldl (rnM1 Rs Ps i) T
theorem rnM_s {Rs : List MrS} {Ps : List MpS} {i : Nat} {T : TrS} {k : Nat} {q : MrS} (h : Rs[k]? = some q) : rnM Rs Ps i T (k + 1) = rnM1 Rs Ps i (rnM Rs Ps i T k) q := fold_tk h
theorem rnM1_d (Rs : List MrS) (Ps : List MpS) (i : Nat) (T : TrS) (q : MrS) : (rnM1 Rs Ps i T q).1 = T.1 := by
  unfold rnM1
  split
  · rfl
  · split <;> rfl
theorem rnM_d0 (Rs : List MrS) (Ps : List MpS) (i : Nat) : ∀ (l : List MrS) (T : TrS), (l.foldl (rnM1 Rs Ps i) T).1 = T.1
  | [], _ => rfl
  | q :: l, T => (rnM_d0 Rs Ps i l _).trans (rnM1_d Rs Ps i T q)
theorem rnM_d (Rs : List MrS) (Ps : List MpS) (i : Nat) (T : TrS) (k : Nat) : (rnM Rs Ps i T k).1 = T.1 := rnM_d0 Rs Ps i _ T
theorem rnM1_n {Rs : List MrS} {Ps : List MpS} {i : Nat} {T : TrS} {q : MrS} (h : ¬ (q.1 = 110 ∧ ¬ q.2.1 = i)) : rnM1 Rs Ps i T q = T := by
  unfold rnM1
  split
  · rfl
  · rw [if_neg (fun z => h ⟨z.1, z.2.1⟩)]
theorem rnM1_p {Rs : List MrS} {Ps : List MpS} {i : Nat} {T : TrS} {q : MrS} {o : MpS} (ho : Ps[q.2.1]? = some o) (h : prR Rs (mLf o) = true) : rnM1 Rs Ps i T q = T := by
  unfold rnM1; rw [ho]
  exact if_neg (fun z => z.2.2 h)
theorem rnM1_y {Rs : List MrS} {Ps : List MpS} {i : Nat} {T : TrS} {q : MrS} {o : MpS} (ho : Ps[q.2.1]? = some o) (h1 : q.1 = 110) (h2 : ¬ q.2.1 = i) (h3 : ¬ prR Rs (mLf o) = true) : rnM1 Rs Ps i T q = blkF (setN T (2 * mLf o) q.2.2) (inW T.1 (mLf o)) := by
  unfold rnM1; rw [ho]
  exact if_pos ⟨h1, h2, h3⟩
/-- welcomes: for each leaf that was added, two boxes -/
def wlM1 (sec : Nat → Nat) (pk : Nat → Option Nat) (Ks : List MkS) (j : Nat) (U : BxS) (l : Nat) : BxS := match (pk l).bind fun k => Ks[k]? with
  | none => U
  | some q => ((frm (frm U.1 (q.2.2.1, none, 1)).1 (q.2.2.1, none, 1)).1, (U.2 ++ [((frm U.1 (q.2.2.1, none, 1)).2, j)]) ++ [((frm (frm U.1 (q.2.2.1, none, 1)).1 (q.2.2.1, none, 1)).2, sec l)])
def wlM (sec : Nat → Nat) (pk : Nat → Option Nat) (Ks : List MkS) (j : Nat) (U : BxS) : Nat → BxS
  | 0 => U
  | k + 1 => wlM1 sec pk Ks j (wlM sec pk Ks j U k) k
theorem wlM1_n {sec : Nat → Nat} {pk : Nat → Option Nat} {Ks : List MkS} {j l : Nat} {U : BxS} (h : pk l = none) : wlM1 sec pk Ks j U l = U := by unfold wlM1; rw [h]; rfl
theorem wlM1_y {sec : Nat → Nat} {pk : Nat → Option Nat} {Ks : List MkS} {j l k a b : Nat} {U : BxS} {q : MkS} {s1 s2 : List Sec} (h : pk l = some k) (hq : Ks[k]? = some q) (h1 : frm U.1 (q.2.2.1, none, 1) = (s1, a)) (h2 : frm s1 (q.2.2.1, none, 1) = (s2, b)) : wlM1 sec pk Ks j U l = (s2, (U.2 ++ [(a, j)]) ++ [(b, sec l)]) := by
  unfold wlM1; rw [h]
  show (match Ks[k]? with | none => U | some q => _) = _
  rw [hq]
  show ((frm (frm U.1 (q.2.2.1, none, 1)).1 (q.2.2.1, none, 1)).1, (U.2 ++ [((frm U.1 (q.2.2.1, none, 1)).2, j)]) ++ [((frm (frm U.1 (q.2.2.1, none, 1)).1 (q.2.2.1, none, 1)).2, sec l)]) = _
  rw [h1, h2]
theorem wlM1_m (sec : Nat → Nat) (pk : Nat → Option Nat) (Ks : List MkS) (j : Nat) (U : BxS) (l : Nat) : BxM U (wlM1 sec pk Ks j U l) := by
  unfold wlM1
  split
  · exact BxM.rfl
  · rename_i q _
    have h1 := Ph_frm U.1 (q.2.2.1, none, 1)
    have h2 := Ph_frm (frm U.1 (q.2.2.1, none, 1)).1 (q.2.2.1, none, 1)
    have h3 := @frm_le U.1 (q.2.2.1, none, 1)
    have h4 := @frm_le (frm U.1 (q.2.2.1, none, 1)).1 (q.2.2.1, none, 1)
    refine ⟨Nat.le_trans h1.1 h2.1, Nat.le_trans h3.1 h4.1, ?_⟩
    simp only [List.length_append, List.length_cons, List.length_nil]
    omega
theorem wlM_m (sec : Nat → Nat) (pk : Nat → Option Nat) (Ks : List MkS) (j : Nat) (U : BxS) {k m : Nat} (h : k ≤ m) : BxM (wlM sec pk Ks j U k) (wlM sec pk Ks j U m) := by
  induction m with
  | zero => rw [Nat.le_zero.mp h]; exact BxM.rfl
  | succ m ih =>
    rcases Nat.lt_or_ge m k with z | z
    · rw [show k = m + 1 by omega]; exact BxM.rfl
    · exact (ih z).tr (wlM1_m sec pk Ks j _ m)
def cmCanM (D : MdS) (r : MpS) : Prop := isF (dEs D).length (mEp r) = true ∧ ¬ prR (dRs D) (mLf r) = true
theorem ct_clear_MrL (g : Gv) (J : Jd g) {p : Nat} {rs : List MrS} {cap : Nat} {w0 : va_W} (hw0 : LhP g (MrP g) p rs cap w0) : Ct g yJ2_clear (ws_ yJ2_clear cJ2_clear 4 none) 1 0 0 [.ref p] [w0] (fun (rv_ : Option Value) (rL_ : List va_W) => ∃ (u0 : va_W), rv_ = none ∧ rL_ = [u0] ∧ LhP g (MrP g) p ([]) cap u0) noX := by
  obtain ⟨ps, md, w1, w2, h1, h2, rfl⟩ := hw0
  refine Ct.lift (ct_J2_clear g J h1) [w2] (perm_cnt fun ct h h0 => by simp only [List.flatten_cons, List.flatten_nil, h, h0]; omega) ?_
  rintro v R ⟨md2, u, e1, rfl, h⟩
  exact ⟨[u], w2, perm_cnt fun ct h h0 => (by simp only [List.flatten_cons, List.flatten_nil, List.flatten_append, h, h0]; omega), u, e1, rfl, ListP.nilH h⟩
theorem ct_X3_commit_x (g : Gv) (J : Jd g) {m : Nat} {D : MdS} {v : Int32} {w0 : va_W} (hw0 : KdP g m D w0) (hD : MdB D) (hRs : RsB D) (hx : ¬ (∃ (i : Nat) (r : MpS), v = nI i ∧ (dPs D)[i]? = some r ∧ cmCanM D r ∧ ¬ (dEs D).length = 24)) : Ct g yX3_commit (ws_ yX3_commit cX3_commit 9 (some .int)) 15 10 60 [.ref m, .int v] [w0] (fun (rv_ : Option Value) (rL_ : List va_W) => ∃ (k : Nat) (x : Int32) (u0 : va_W), rv_ = some (.int x) ∧ rL_ = [u0] ∧ KdP g m (dT D k) u0 ∧ ((k = 1 ∧ ¬ inR v (dPs D).length = true) ∨ ∃ (i : Nat) (r : MpS), v = nI i ∧ (dPs D)[i]? = some r ∧ ((k = 2 ∧ ¬ cmCanM D r) ∨ (k = 3 ∧ cmCanM D r ∧ (dEs D).length = 24)))) noX := by
  refine Ct.of "KeygroveModel" [some (.ref m), some (.int v), none, none, none, none, none, none, none] rfl (by decide) rfl (Nat.le_of_ble_eq_true rfl) rfl ?_
  intro κ B E tb
  have hD0 := hD
  obtain ⟨hd1, hd2, hd3, hd4, hd5, hd6, hd7, hd8, hd9⟩ := hD0
  obtain ⟨ls, lb, lk, lp, lr, le, lm, lo, kcap, pcap, rcap, ecap, mcap, mks, mps, v0, v1, v2, v3, v4, v5, v6, v7, hcap, hv0, hv1, hv2, hv3, hv4, hv5, hv6, hv7, rfl⟩ := hw0
  refine g_open 0 rfl rfl rfl ?_
  refine (show Go g κ 0 [some (.ref m), some (.int v), none, none, none, none, none, none, none] [] [[(m, .inr (12, [.ref ls, .ref lb, .ref lk, .ref lp, .ref lr, .ref le, .ref lm, .ref lo, .int (nI (dTh D)), .int (dZz D), .int (nI (dBn D)), .int (nI (dCm D))]))], v0, v1, v2, v3, v4, v5, v6, v7] 10 60 from ?_)
  obtain ⟨kc1, kc2, kc3, kc4, kc5⟩ := (show capM kcap pcap rcap ecap mcap from hcap)
  have hrs9 := hRs
  obtain ⟨hrs1, hrs2⟩ := hrs9
  refine g_aload_n (q := 1) B dX3_commit_0 rfl rfl (rv_r _) ?_
  refine g_aload_n (q := 2) B dX3_commit_1 rfl rfl (rv_r _) ?_
  refine g_iload_n (q := 3) B dX3_commit_2 rfl rfl ?_
  refine g_callV (q := 6) (is := [0, 3]) (kc2 := 10) (ks2 := 60) B [.int v] (ct_X3_isPerson g J (m := m) (ls := ls) (lb := lb) (lk := lk) (lp := lp) (lr := lr) (le := le) (lm := lm) (lo := lo) (th := dTh D) (z := dZz D) (bo := dBn D) (cm := dCm D) (mps := mps) (Ps := (dPs D)) (pcap := pcap) (v := v) hv3 (by omega)) dX3_commit_3 rfl (rc_at B (ci := 12) rfl (k := 0) rfl) rfl q3153 q3155 qs51 q85 q3156 rfl rfl moX3_isPerson rfl rfl (by decide) (by decide) (Nat.le_of_ble_eq_true rfl) (Nat.le_of_ble_eq_true rfl) (Nat.le_of_ble_eq_true rfl) (fun _ _ hx => noX_x hx) (fun v3 L1 hp3 => ?_)
  obtain ⟨rfl, rfl⟩ := hp3
  refine (show Go g κ 6 [some (.ref m), some (.int v), none, none, none, none, none, none, none] [.int (nI (if inR v (dPs D).length = true then 1 else 0)), .ref m] [v0, v1, v2, v4, v5, v6, v7, [(m, .inr (12, [.ref ls, .ref lb, .ref lk, .ref lp, .ref lr, .ref le, .ref lm, .ref lo, .int (nI (dTh D)), .int (dZz D), .int (nI (dBn D)), .int (nI (dCm D))]))], v3] 10 60 from ?_)
  refine g_if_ne (tgt := 13) (q := 9) B dX3_commit_6 rfl (by decide) (bo_ne) (fun c6 => ?_) (fun c6 => ?_)
  · skip
    obtain ⟨i, hii, rfl⟩ := inR_t c6
    obtain ⟨r, hr⟩ := get_ex (xs := dPs D) (i := i) hii
    refine (show Go g κ 13 [some (.ref m), some (.int (nI i)), none, none, none, none, none, none, none] [.ref m] [v0, v1, v2, v4, v5, v6, v7, [(m, .inr (12, [.ref ls, .ref lb, .ref lk, .ref lp, .ref lr, .ref le, .ref lm, .ref lo, .int (nI (dTh D)), .int (dZz D), .int (nI (dBn D)), .int (nI (dCm D))]))], v3] 10 60 from ?_)
    refine g_aload_n (q := 14) B dX3_commit_13 rfl rfl (rv_r _) ?_
    refine g_iload_n (q := 15) B dX3_commit_14 rfl rfl ?_
    refine g_callV (q := 18) (is := [7, 7, 4]) (kc2 := 10) (ks2 := 60) B [.int (nI i)] (ct_X3_isNew g J (m := m) (ls := ls) (lb := lb) (lk := lk) (lp := lp) (lr := lr) (le := le) (lm := lm) (lo := lo) (th := (dTh D)) (z := (dZz D)) (bo := (dBn D)) (cm := (dCm D)) (mps := mps) (Ps := (dPs D)) (pcap := pcap) (Es := (dEs D)) (ecap := ecap) (i := i) (r := r) hv3 hv5 (hr) (by omega) (by omega)) dX3_commit_15 rfl (rc_at B (ci := 12) rfl (k := 7) rfl) rfl q3370 q3372 qs62 q85 q3373 rfl rfl moX3_isNew rfl rfl (by decide) (by decide) (Nat.le_of_ble_eq_true rfl) (Nat.le_of_ble_eq_true rfl) (Nat.le_of_ble_eq_true rfl) (fun _ _ hx => noX_x hx) (fun v15 L1 hp15 => ?_)
    obtain ⟨rfl, rfl⟩ := hp15
    refine (show Go g κ 18 [some (.ref m), some (.int (nI i)), none, none, none, none, none, none, none] [.int (nI (if isF (dEs D).length (mEp r) = true then 1 else 0)), .ref m] [v0, v1, v2, v4, v6, v7, [(m, .inr (12, [.ref ls, .ref lb, .ref lk, .ref lp, .ref lr, .ref le, .ref lm, .ref lo, .int (nI (dTh D)), .int (dZz D), .int (nI (dBn D)), .int (nI (dCm D))]))], v3, v5] 10 60 from ?_)
    refine g_if_eq (tgt := 44) (q := 21) B dX3_commit_18 rfl (by decide) (bo_eq) (fun c18 => ?_) (fun c18 => ?_)
    · skip
      refine g_iconst (v := nI 2) (q := 45) B dX3_commit_44 rfl (by decide) ?_
      refine g_goto (tgt := 67) B dX3_commit_45 (by decide) ?_
      refine g_callV (q := 70) (is := [6]) (kc2 := 10) (ks2 := 60) B [.int (nI 2)] (ct_X3_isWrong g J (m := m) (ls := ls) (lb := lb) (lk := lk) (lp := lp) (lr := lr) (le := le) (lm := lm) (lo := lo) (th := (dTh D)) (z := (dZz D)) (bo := (dBn D)) (cm := (dCm D)) (k := 2)  (by decide)) dX3_commit_67 rfl (rc_at B (ci := 12) rfl (k := 6) rfl) rfl q3103 q3105 qs49 q85 q3106 rfl rfl moX3_isWrong rfl rfl (by decide) (by decide) (Nat.le_of_ble_eq_true rfl) (Nat.le_of_ble_eq_true rfl) (Nat.le_of_ble_eq_true rfl) (fun _ _ hx => noX_x hx) (fun v67 L1 hp67 => ?_)
      obtain ⟨rfl, rfl⟩ := hp67
      refine (show Go g κ 70 [some (.ref m), some (.int (nI i)), none, none, none, none, none, none, none] [.int (nI (if ¬ 2 = 0 then 1 else 0))] [v0, v1, v2, v4, v6, v7, v3, v5, [(m, .inr (12, [.ref ls, .ref lb, .ref lk, .ref lp, .ref lr, .ref le, .ref lm, .ref lo, .int (nI 2), .int (dZz D), .int (nI (dBn D)), .int (nI (dCm D))]))]] 10 60 from ?_)
      refine g_if_eq (tgt := 75) (q := 73) B dX3_commit_70 rfl (by decide) (iff_false_intro (by decide)) (fun z => z.elim) (fun _ => ?_)
      refine g_iconst (v := nI 0) (q := 74) B dX3_commit_73 rfl (by decide) ?_
      obtain ⟨wc_1, ewc_1⟩ : ∃ w : va_W, w = ([[(m, .inr (12, [.ref ls, .ref lb, .ref lk, .ref lp, .ref lr, .ref le, .ref lm, .ref lo, .int (nI 2), .int (dZz D), .int (nI (dBn D)), .int (nI (dCm D))]))], v0, v1, v2, v3, v4, v5, v6, v7] : List va_W).flatten := ⟨_, rfl⟩
      have hwc_1 : KdP g m (dT D 2) wc_1 := by
        rw [ewc_1]
        exact ⟨ls, lb, lk, lp, lr, le, lm, lo, kcap, pcap, rcap, ecap, mcap, mks, mps, _, _, _, _, _, _, _, _, hcap, hv0, hv1, hv2, hv3, hv4, hv5, hv6, hv7, rfl⟩
      refine g_close (w := wc_1) [8, 0, 0, 0, 3, 0, 2, 0, 0] rfl ewc_1 rfl ?_
      refine (show Go g κ 74 [some (.ref m), some (.int (nI i)), none, none, none, none, none, none, none] [.int (nI 0)] [wc_1] 10 60 from ?_)
      exact g_iret B E dX3_commit_74 (⟨2, nI 0, _, rfl, rfl, hwc_1, Or.inr ⟨i, r, rfl, hr, Or.inl ⟨rfl, by rintro ⟨z1, z2⟩; first | exact c18 z1 | exact z2 c41⟩⟩⟩)
    · skip
      have c18 := Classical.not_not.mp c18
      refine g_aload_n (q := 22) B dX3_commit_21 rfl rfl (rv_r _) ?_
      refine g_bipush (v := nI 114) (q := 24) B dX3_commit_22 rfl (by decide) ?_
      refine g_aload_n (q := 25) B dX3_commit_24 rfl rfl (rv_r _) ?_
      refine g_get (q := 28) B (ci := 12) (k := 6) (j := 3) in_X3 rfl dX3_commit_25 rfl rfl (Nat.le_of_ble_eq_true rfl) q3060 rfl rfl ?_
      refine g_iload_n (q := 29) B dX3_commit_28 rfl rfl ?_
      obtain ⟨md_2, hli_2, hln_2, hel_2⟩ := LoP.at (Sub.self hv3)
      obtain ⟨x29, hx29⟩ := get_ex (xs := mps) (i := i) (by have := get_lt2 (show (dPs D)[i]? = some r from hr); have := hln_2.1; omega)
      have hE_3 := hel_2 _ _ _ hx29 (show (dPs D)[i]? = some r from hr)
      refine g_callV (q := 32) (is := [7]) (kc2 := 10) (ks2 := 60) B [.int (nI i)] (ct_J2_get_s g J (p := lp) (xs := mps) (md := md_2) (cap := pcap) (i := i) (x := x29) (W0 := v3)  (hli_2) (hx29)) dX3_commit_29 rfl (rc_in B (ci := 21) rfl (k := 7) rfl (LoP.hm hv3)) rfl q3231 q1095 q3667 q81 q1097 rfl rfl moJ2_get rfl rfl (by decide) (by decide) (Nat.le_of_ble_eq_true rfl) (Nat.le_of_ble_eq_true rfl) (Nat.le_of_ble_eq_true rfl) (fun _ _ hx => noX_x hx) (fun v29 L1 hp29 => ?_)
      obtain ⟨rfl, rfl⟩ := hp29
      refine (show Go g κ 32 [some (.ref m), some (.int (nI i)), none, none, none, none, none, none, none] [.ref x29, .int (nI 114), .ref m, .ref m] [v0, v1, v2, v4, v6, v7, [(m, .inr (12, [.ref ls, .ref lb, .ref lk, .ref lp, .ref lr, .ref le, .ref lm, .ref lo, .int (nI (dTh D)), .int (dZz D), .int (nI (dBn D)), .int (nI (dCm D))]))], v5, v3] 10 60 from ?_)
      have hlfx := (MpP.b2 (hE_3)).2.1
      refine g_castRS (ci := 13) (q := 35) B rfl (rc_in B (ci := 13) rfl (k := 8) rfl (Sub.hm (hE_3) fun _ z => MpP.hm z)) dX3_commit_32 rfl q3107 ?_
      obtain ⟨nd_4, ch_4, ev_4, cv_4, fn_4, fc_4, hM_4, hfn_4, hoc_4, hcv_4, hc_4_0, hc_4_1, hc_4_2, hs_4_0, hs_4_1⟩ := MpP.at (hE_3)
      refine g_getNM (q := 38) B (ci := 13) (k := 8) (j := 1) in_X5 rfl dX3_commit_35 rfl rfl (hc_4_0) (Nat.le_of_ble_eq_true rfl) q3119 rfl rfl ?_
      refine g_callV (q := 41) (is := [6, 3, 2]) (kc2 := 9) (ks2 := 56) B [.int (nI 114), .int (nI (mLf r))] (ct_X3_isProposed_114 g J (m := m) (ls := ls) (lb := lb) (lk := lk) (lp := lp) (lr := lr) (le := le) (lm := lm) (lo := lo) (th := (dTh D)) (z := (dZz D)) (bo := (dBn D)) (cm := (dCm D)) (w := mLf r) (Rs := (dRs D)) (rcap := rcap) (mks := mks) (Ks := (dKs D)) (kcap := kcap) hv4 hv2 (hrs1) (by omega)) dX3_commit_38 rfl (rc_at B (ci := 12) rfl (k := 6) rfl) rfl q3378 q3380 qs64 q85 q3381 rfl rfl moX3_isProposed rfl rfl (by decide) (by decide) (Nat.le_of_ble_eq_true rfl) (Nat.le_of_ble_eq_true rfl) (Nat.le_of_ble_eq_true rfl) (fun _ _ hx => noX_x hx) (fun v38 L1 hp38 => ?_)
      obtain ⟨rfl, rfl⟩ := hp38
      refine (show Go g κ 41 [some (.ref m), some (.int (nI i)), none, none, none, none, none, none, none] [.int (nI (if prR (dRs D) (mLf r) = true then 1 else 0)), .ref m] [v0, v1, v6, v7, v5, v3, [(m, .inr (12, [.ref ls, .ref lb, .ref lk, .ref lp, .ref lr, .ref le, .ref lm, .ref lo, .int (nI (dTh D)), .int (dZz D), .int (nI (dBn D)), .int (nI (dCm D))]))], v4, v2] 9 56 from ?_)
      refine g_if_eq (tgt := 48) (q := 44) B dX3_commit_41 rfl (by decide) (bo_eq) (fun c41 => ?_) (fun c41 => ?_)
      · skip
        have hel := isF_ne c18
        refine g_aload_n (q := 49) B dX3_commit_48 rfl rfl (rv_r _) ?_
        refine g_get (q := 52) B (ci := 12) (k := 6) (j := 5) in_X3 rfl dX3_commit_49 rfl rfl (Nat.le_of_ble_eq_true rfl) q3062 rfl rfl ?_
        obtain ⟨ps_5, md_5, hli_5, hln_5, hel_5⟩ := LhP.at (Sub.self hv5)
        refine g_callV (q := 55) (is := [4]) (kc2 := 9) (ks2 := 56) B [] (ct_J2_size_s g J (p := le) (xs := ps_5) (md := md_5) (cap := ecap) (W0 := v5)  (hli_5)) dX3_commit_52 rfl (rc_in B (ci := 21) rfl (k := 4) rfl (LhP.hm hv5)) rfl q3102 q321 q3665 q81 q323 rfl rfl moJ2_size rfl rfl (by decide) (by decide) (Nat.le_of_ble_eq_true rfl) (Nat.le_of_ble_eq_true rfl) (Nat.le_of_ble_eq_true rfl) (fun _ _ hx => noX_x hx) (fun v52 L1 hp52 => ?_)
        obtain ⟨rfl, rfl⟩ := hp52
        refine (show Go g κ 55 [some (.ref m), some (.int (nI i)), none, none, none, none, none, none, none] [.int (nI ps_5.length), .ref m] [v0, v1, v6, v7, v3, [(m, .inr (12, [.ref ls, .ref lb, .ref lk, .ref lp, .ref lr, .ref le, .ref lm, .ref lo, .int (nI (dTh D)), .int (dZz D), .int (nI (dBn D)), .int (nI (dCm D))]))], v4, v2, v5] 9 56 from ?_)
        rw [hln_5.1]
        refine (show Go g κ 55 [some (.ref m), some (.int (nI i)), none, none, none, none, none, none, none] [.int (nI ((dEs D).length)), .ref m] [v0, v1, v6, v7, v3, [(m, .inr (12, [.ref ls, .ref lb, .ref lk, .ref lp, .ref lr, .ref le, .ref lm, .ref lo, .int (nI (dTh D)), .int (dZz D), .int (nI (dBn D)), .int (nI (dCm D))]))], v4, v2, v5] 9 56 from ?_)
        refine g_iconst (v := nI 1) (q := 56) B dX3_commit_55 rfl (by decide) ?_
        refine g_isub (v := nI (((dEs D).length) - 1)) (q := 57) B dX3_commit_56 rfl (pk_sub (by omega)) ?_
        refine g_bipush (v := nI 23) (q := 59) B dX3_commit_57 rfl (by decide) ?_
        refine g_icmp_ne (tgt := 66) (q := 62) B dX3_commit_59 rfl (by decide) (not_congr (nI_eq (by omega) (by omega))) (fun c59 => ?_) (fun c59 => ?_)
        · skip
          refine g_iconst (v := nI 0) (q := 67) B dX3_commit_66 rfl (by decide) ?_
          refine g_callV (q := 70) (is := [5]) (kc2 := 9) (ks2 := 56) B [.int (nI 0)] (ct_X3_isWrong g J (m := m) (ls := ls) (lb := lb) (lk := lk) (lp := lp) (lr := lr) (le := le) (lm := lm) (lo := lo) (th := (dTh D)) (z := (dZz D)) (bo := (dBn D)) (cm := (dCm D)) (k := 0)  (by decide)) dX3_commit_67 rfl (rc_at B (ci := 12) rfl (k := 5) rfl) rfl q3103 q3105 qs49 q85 q3106 rfl rfl moX3_isWrong rfl rfl (by decide) (by decide) (Nat.le_of_ble_eq_true rfl) (Nat.le_of_ble_eq_true rfl) (Nat.le_of_ble_eq_true rfl) (fun _ _ hx => noX_x hx) (fun v67 L1 hp67 => ?_)
          obtain ⟨rfl, rfl⟩ := hp67
          refine (show Go g κ 70 [some (.ref m), some (.int (nI i)), none, none, none, none, none, none, none] [.int (nI (if ¬ 0 = 0 then 1 else 0))] [v0, v1, v6, v7, v3, v4, v2, v5, [(m, .inr (12, [.ref ls, .ref lb, .ref lk, .ref lp, .ref lr, .ref le, .ref lm, .ref lo, .int (nI 0), .int (dZz D), .int (nI (dBn D)), .int (nI (dCm D))]))]] 9 56 from ?_)
          refine g_if_eq (tgt := 75) (q := 73) B dX3_commit_70 rfl (by decide) (iff_true_intro (by decide)) (fun _ => ?_) (fun z => absurd trivial z)
          exact absurd ⟨i, r, rfl, hr, ⟨c18, c41⟩, by omega⟩ hx
        · skip
          refine g_iconst (v := nI 3) (q := 63) B dX3_commit_62 rfl (by decide) ?_
          refine g_goto (tgt := 67) B dX3_commit_63 (by decide) ?_
          refine g_callV (q := 70) (is := [5]) (kc2 := 9) (ks2 := 56) B [.int (nI 3)] (ct_X3_isWrong g J (m := m) (ls := ls) (lb := lb) (lk := lk) (lp := lp) (lr := lr) (le := le) (lm := lm) (lo := lo) (th := (dTh D)) (z := (dZz D)) (bo := (dBn D)) (cm := (dCm D)) (k := 3)  (by decide)) dX3_commit_67 rfl (rc_at B (ci := 12) rfl (k := 5) rfl) rfl q3103 q3105 qs49 q85 q3106 rfl rfl moX3_isWrong rfl rfl (by decide) (by decide) (Nat.le_of_ble_eq_true rfl) (Nat.le_of_ble_eq_true rfl) (Nat.le_of_ble_eq_true rfl) (fun _ _ hx => noX_x hx) (fun v67 L1 hp67 => ?_)
          obtain ⟨rfl, rfl⟩ := hp67
          refine (show Go g κ 70 [some (.ref m), some (.int (nI i)), none, none, none, none, none, none, none] [.int (nI (if ¬ 3 = 0 then 1 else 0))] [v0, v1, v6, v7, v3, v4, v2, v5, [(m, .inr (12, [.ref ls, .ref lb, .ref lk, .ref lp, .ref lr, .ref le, .ref lm, .ref lo, .int (nI 3), .int (dZz D), .int (nI (dBn D)), .int (nI (dCm D))]))]] 9 56 from ?_)
          refine g_if_eq (tgt := 75) (q := 73) B dX3_commit_70 rfl (by decide) (iff_false_intro (by decide)) (fun z => z.elim) (fun _ => ?_)
          refine g_iconst (v := nI 0) (q := 74) B dX3_commit_73 rfl (by decide) ?_
          obtain ⟨wc_6, ewc_6⟩ : ∃ w : va_W, w = ([[(m, .inr (12, [.ref ls, .ref lb, .ref lk, .ref lp, .ref lr, .ref le, .ref lm, .ref lo, .int (nI 3), .int (dZz D), .int (nI (dBn D)), .int (nI (dCm D))]))], v0, v1, v2, v3, v4, v5, v6, v7] : List va_W).flatten := ⟨_, rfl⟩
          have hwc_6 : KdP g m (dT D 3) wc_6 := by
            rw [ewc_6]
            exact ⟨ls, lb, lk, lp, lr, le, lm, lo, kcap, pcap, rcap, ecap, mcap, mks, mps, _, _, _, _, _, _, _, _, hcap, hv0, hv1, hv2, hv3, hv4, hv5, hv6, hv7, rfl⟩
          refine g_close (w := wc_6) [8, 0, 0, 4, 2, 2, 2, 0, 0] rfl ewc_6 rfl ?_
          refine (show Go g κ 74 [some (.ref m), some (.int (nI i)), none, none, none, none, none, none, none] [.int (nI 0)] [wc_6] 9 56 from ?_)
          exact g_iret B E dX3_commit_74 (⟨3, nI 0, _, rfl, rfl, hwc_6, Or.inr ⟨i, r, rfl, hr, Or.inr ⟨rfl, ⟨c18, c41⟩, by omega⟩⟩⟩)
      · skip
        have c41 := Classical.not_not.mp c41
        refine g_iconst (v := nI 2) (q := 45) B dX3_commit_44 rfl (by decide) ?_
        refine g_goto (tgt := 67) B dX3_commit_45 (by decide) ?_
        refine g_callV (q := 70) (is := [6]) (kc2 := 9) (ks2 := 56) B [.int (nI 2)] (ct_X3_isWrong g J (m := m) (ls := ls) (lb := lb) (lk := lk) (lp := lp) (lr := lr) (le := le) (lm := lm) (lo := lo) (th := (dTh D)) (z := (dZz D)) (bo := (dBn D)) (cm := (dCm D)) (k := 2)  (by decide)) dX3_commit_67 rfl (rc_at B (ci := 12) rfl (k := 6) rfl) rfl q3103 q3105 qs49 q85 q3106 rfl rfl moX3_isWrong rfl rfl (by decide) (by decide) (Nat.le_of_ble_eq_true rfl) (Nat.le_of_ble_eq_true rfl) (Nat.le_of_ble_eq_true rfl) (fun _ _ hx => noX_x hx) (fun v67 L1 hp67 => ?_)
        obtain ⟨rfl, rfl⟩ := hp67
        refine (show Go g κ 70 [some (.ref m), some (.int (nI i)), none, none, none, none, none, none, none] [.int (nI (if ¬ 2 = 0 then 1 else 0))] [v0, v1, v6, v7, v5, v3, v4, v2, [(m, .inr (12, [.ref ls, .ref lb, .ref lk, .ref lp, .ref lr, .ref le, .ref lm, .ref lo, .int (nI 2), .int (dZz D), .int (nI (dBn D)), .int (nI (dCm D))]))]] 9 56 from ?_)
        refine g_if_eq (tgt := 75) (q := 73) B dX3_commit_70 rfl (by decide) (iff_false_intro (by decide)) (fun z => z.elim) (fun _ => ?_)
        refine g_iconst (v := nI 0) (q := 74) B dX3_commit_73 rfl (by decide) ?_
        obtain ⟨wc_7, ewc_7⟩ : ∃ w : va_W, w = ([[(m, .inr (12, [.ref ls, .ref lb, .ref lk, .ref lp, .ref lr, .ref le, .ref lm, .ref lo, .int (nI 2), .int (dZz D), .int (nI (dBn D)), .int (nI (dCm D))]))], v0, v1, v2, v3, v4, v5, v6, v7] : List va_W).flatten := ⟨_, rfl⟩
        have hwc_7 : KdP g m (dT D 2) wc_7 := by
          rw [ewc_7]
          exact ⟨ls, lb, lk, lp, lr, le, lm, lo, kcap, pcap, rcap, ecap, mcap, mks, mps, _, _, _, _, _, _, _, _, hcap, hv0, hv1, hv2, hv3, hv4, hv5, hv6, hv7, rfl⟩
        refine g_close (w := wc_7) [8, 0, 0, 5, 3, 3, 2, 0, 0] rfl ewc_7 rfl ?_
        refine (show Go g κ 74 [some (.ref m), some (.int (nI i)), none, none, none, none, none, none, none] [.int (nI 0)] [wc_7] 9 56 from ?_)
        exact g_iret B E dX3_commit_74 (⟨2, nI 0, _, rfl, rfl, hwc_7, Or.inr ⟨i, r, rfl, hr, Or.inl ⟨rfl, by rintro ⟨z1, z2⟩; first | exact c18 z1 | exact z2 c41⟩⟩⟩)
  · skip
    refine g_iconst (v := nI 1) (q := 10) B dX3_commit_9 rfl (by decide) ?_
    refine g_goto (tgt := 67) B dX3_commit_10 (by decide) ?_
    refine g_callV (q := 70) (is := [7]) (kc2 := 10) (ks2 := 60) B [.int (nI 1)] (ct_X3_isWrong g J (m := m) (ls := ls) (lb := lb) (lk := lk) (lp := lp) (lr := lr) (le := le) (lm := lm) (lo := lo) (th := (dTh D)) (z := (dZz D)) (bo := (dBn D)) (cm := (dCm D)) (k := 1)  (by decide)) dX3_commit_67 rfl (rc_at B (ci := 12) rfl (k := 7) rfl) rfl q3103 q3105 qs49 q85 q3106 rfl rfl moX3_isWrong rfl rfl (by decide) (by decide) (Nat.le_of_ble_eq_true rfl) (Nat.le_of_ble_eq_true rfl) (Nat.le_of_ble_eq_true rfl) (fun _ _ hx => noX_x hx) (fun v67 L1 hp67 => ?_)
    obtain ⟨rfl, rfl⟩ := hp67
    refine (show Go g κ 70 [some (.ref m), some (.int v), none, none, none, none, none, none, none] [.int (nI (if ¬ 1 = 0 then 1 else 0))] [v0, v1, v2, v4, v5, v6, v7, v3, [(m, .inr (12, [.ref ls, .ref lb, .ref lk, .ref lp, .ref lr, .ref le, .ref lm, .ref lo, .int (nI 1), .int (dZz D), .int (nI (dBn D)), .int (nI (dCm D))]))]] 10 60 from ?_)
    refine g_if_eq (tgt := 75) (q := 73) B dX3_commit_70 rfl (by decide) (iff_false_intro (by decide)) (fun z => z.elim) (fun _ => ?_)
    refine g_iconst (v := nI 0) (q := 74) B dX3_commit_73 rfl (by decide) ?_
    obtain ⟨wc_8, ewc_8⟩ : ∃ w : va_W, w = ([[(m, .inr (12, [.ref ls, .ref lb, .ref lk, .ref lp, .ref lr, .ref le, .ref lm, .ref lo, .int (nI 1), .int (dZz D), .int (nI (dBn D)), .int (nI (dCm D))]))], v0, v1, v2, v3, v4, v5, v6, v7] : List va_W).flatten := ⟨_, rfl⟩
    have hwc_8 : KdP g m (dT D 1) wc_8 := by
      rw [ewc_8]
      exact ⟨ls, lb, lk, lp, lr, le, lm, lo, kcap, pcap, rcap, ecap, mcap, mks, mps, _, _, _, _, _, _, _, _, hcap, hv0, hv1, hv2, hv3, hv4, hv5, hv6, hv7, rfl⟩
    refine g_close (w := wc_8) [8, 0, 0, 0, 4, 0, 0, 0, 0] rfl ewc_8 rfl ?_
    refine (show Go g κ 74 [some (.ref m), some (.int v), none, none, none, none, none, none, none] [.int (nI 0)] [wc_8] 10 60 from ?_)
    exact g_iret B E dX3_commit_74 (⟨1, nI 0, _, rfl, rfl, hwc_8, Or.inl ⟨rfl, c6⟩⟩)
theorem moX13_next : Mo yX13_next 0 := by
  refine ⟨by decide, by decide, by decide +kernel⟩
theorem moX3_removes : Mo yX3_removes 1 := by
  refine ⟨by decide, by decide, by decide +kernel⟩
theorem moX3_adds : Mo yX3_adds 1 := by
  refine ⟨by decide, by decide, by decide +kernel⟩
theorem moX3_lays : Mo yX3_lays 2 := by
  refine ⟨by decide, by decide, by decide +kernel⟩
theorem moJ2_clear : Mo yJ2_clear 0 := by
  refine ⟨by decide, by decide, by decide +kernel⟩
set_option maxHeartbeats 16000000 in
theorem ct_X3_commit_y (g : Gv) (J : Jd g) {m : Nat} {D : MdS} {i : Nat} {r : MpS} {Ep : MeS} {T1 : TrS} {T2 : TrS} {rm2 : Nat → Bool} {Ks2 : List MkS} {T4 : TrS} {Ks3 : List MkS} {pk : Nat → Option Nat} {L : LmS} {f1 : List Sec} {u1 : Nat} {f2 : List Sec} {bf : Nat} {sec : Nat → Nat} {W : BxS} {f4 : List Sec} {es : Nat} {g1 : List Sec} {on : Nat} {g2 : List Sec} {ky : Nat} {lsn : Nat} {BN : Nat} {w0 : va_W} (hw0 : KdP g m D w0) (hD : MdB D) (hRs : RsB D) (hr : (dPs D)[i]? = some r) (hT : (dEs D)[(dEs D).length - 1]? = some Ep) (hcan : cmCanM D r) (hn24 : (dEs D).length < 24) (heno : eNo Ep < 90) (hego : eGo Ep < (dSs D).length) (hrn : ∀ q ∈ dRs D, q.1 = 110 → ∃ o, (dPs D)[q.2.1]? = some o ∧ mLf o < 2 ^ (eTr Ep).1) (hRN : rnM (dRs D) (dPs D) i (eTr Ep) (dRs D).length = T1) (hrm : ∀ (k : Nat) (q : MrS), (dRs D)[k]? = some q → q.1 = 114 → q.2.2 < 2 ^ T1.1 ∧ ∃ p, (rmM (dRs D) ((T1, fun _ => false, dKs D) : RnS) k).1.2.2.2 q.2.2 = some p) (hL0 : LT0 T1) (hRM : rmM (dRs D) ((T1, fun _ => false, dKs D) : RnS) (dRs D).length = (T2, rm2, Ks2)) (hPN : PN T2) (hks2 : Ks2.length ≤ 24) (had : ∀ (k : Nat) (q : MrS), (dRs D)[k]? = some q → q.1 = 97 → q.2.2 < Ks2.length ∧ frlT (adM (dRs D) ((hlv T2, Ks2, fun _ => none) : AmS) k).1 < 16 ∧ PN (adM (dRs D) ((hlv T2, Ks2, fun _ => none) : AmS) k).1) (hAD : adM (dRs D) ((hlv T2, Ks2, fun _ => none) : AmS) (dRs D).length = (T4, Ks3, pk)) (hks3 : Ks3.length ≤ 24) (hL : (layM (mLf r) pk ((setN T4 (2 * mLf r) (dSs D).length, dSs D ++ [drw (dZz D)], dBx D, (dSs D).length, fun _ => false) : LmS) T4.1) = L) (hcl : ∀ k, k < T4.1 → (cov (layM (mLf r) pk ((setN T4 (2 * mLf r) (dSs D).length, dSs D ++ [drw (dZz D)], dBx D, (dSs D).length, fun _ => false) : LmS) k).1 (asd (mLf r) k)).length ≤ 40) (hcv : ∀ k, k < T4.1 → ∀ s, s = (frm (layM (mLf r) pk ((setN T4 (2 * mLf r) (dSs D).length, dSs D ++ [drw (dZz D)], dBx D, (dSs D).length, fun _ => false) : LmS) k).2.1 ((layM (mLf r) pk ((setN T4 (2 * mLf r) (dSs D).length, dSs D ++ [drw (dZz D)], dBx D, (dSs D).length, fun _ => false) : LmS) k).2.2.2.1, none, 2)).2 → ∀ n ∈ cov (layM (mLf r) pk ((setN T4 (2 * mLf r) (dSs D).length, dSs D ++ [drw (dZz D)], dBx D, (dSs D).length, fun _ => false) : LmS) k).1 (asd (mLf r) k), n < 31 ∧ ∃ h, (setN (blkN (layM (mLf r) pk ((setN T4 (2 * mLf r) (dSs D).length, dSs D ++ [drw (dZz D)], dBx D, (dSs D).length, fun _ => false) : LmS) k).1 (nab (mLf r) (k + 1))) (nab (mLf r) (k + 1)) s).2.1 n = some h ∧ h < (layM (mLf r) pk ((setN T4 (2 * mLf r) (dSs D).length, dSs D ++ [drw (dZz D)], dBx D, (dSs D).length, fun _ => false) : LmS) k).2.1.length) (hsc : ∀ k, k ≤ T4.1 → (layM (mLf r) pk ((setN T4 (2 * mLf r) (dSs D).length, dSs D ++ [drw (dZz D)], dBx D, (dSs D).length, fun _ => false) : LmS) k).2.2.2.1 < (layM (mLf r) pk ((setN T4 (2 * mLf r) (dSs D).length, dSs D ++ [drw (dZz D)], dBx D, (dSs D).length, fun _ => false) : LmS) k).2.1.length) (hLt : ∀ k, k < T4.1 → LtB (layM (mLf r) pk ((setN T4 (2 * mLf r) (dSs D).length, dSs D ++ [drw (dZz D)], dBx D, (dSs D).length, fun _ => false) : LmS) k).1) (hlf : mLf r < 2 ^ T4.1) (hf1 : frm L.2.1 (L.2.2.2.1, none, 2) = (f1, u1)) (hf2 : frm f1 (eGo Ep, some u1, 3) = (f2, bf)) (hlw : ∀ l kk, l < 2 ^ L.1.1 → pk l = some kk → ∃ q k0, Ks3[kk]? = some q ∧ q.2.2.1 < (dSs D).length ∧ 1 ≤ k0 ∧ k0 ≤ 4 ∧ L.2.2.2.2 (nab l k0) = true ∧ (∀ j, 1 ≤ j → j < k0 → ¬ L.2.2.2.2 (nab l j) = true) ∧ L.1.2.1 (nab l k0) = some (sec l) ∧ sec l < 1000) (hW : wlM sec pk Ks3 bf (f2, L.2.2.1) (2 ^ L.1.1) = W) (hf4 : frm W.1 (bf, none, 4) = (f4, es)) (hg1 : frm f4 (es, none, 5) = (g1, on)) (hg2 : frm g1 (es, none, 6) = (g2, ky)) (hfl : (chM L.1 es g2 (2 ^ L.1.1)).1.length ≤ 980) (hfb : W.2.length ≤ 1980) (hBN : W.2.length ≤ BN) (hls : L.1.2.1 (2 * mLf r) = some lsn) (hbn9 : dBn D + (W.2.length - (dBx D).length) ≤ 1990) (hN : NtB Ks3 (dEs D ++ [((eNo Ep + 1, L.1, on, ky, (chM L.1 es g2 (2 ^ L.1.1)).2, L.2.2.2.2, rm2, pk) : MeS)]) ((dPs D).set i (comR (getR ((mEp r, mLf r, lsn, mRn r, mNd r, mCh r, mEv r) : MpS) ((eNo Ep + 1, L.1, on, ky, (chM L.1 es g2 (2 ^ L.1.1)).2, L.2.2.2.2, rm2, pk) : MeS) 0) ((eNo Ep + 1, L.1, on, ky, (chM L.1 es g2 (2 ^ L.1.1)).2, L.2.2.2.2, rm2, pk) : MeS))) (chM L.1 es g2 (2 ^ L.1.1)).1.length (dMs D).length) : Ct g yX3_commit (ws_ yX3_commit cX3_commit 9 (some .int)) 16 (800 + 5 * (BN - (dBx D).length) + 10070 + 640 * (dMs D).length) (130000 + 130200 + 1600 * (dMs D).length) [.ref m, .int (nI i)] [w0] (fun (rv_ : Option Value) (rL_ : List va_W) => ∃ (Qs : List MpS) (u0 : va_W), rv_ = some (.int (nI (eNo Ep + 1))) ∧ rL_ = [u0] ∧ KdP g m (((chM L.1 es g2 (2 ^ L.1.1)).1, W.2, Ks3, Qs, [], dEs D ++ [((eNo Ep + 1, L.1, on, ky, (chM L.1 es g2 (2 ^ L.1.1)).2, L.2.2.2.2, rm2, pk) : MeS)], dMs D, dSo D, 0, lcg (dZz D), dBn D + (W.2.length - (dBx D).length), dCm D + 1) : MdS) u0 ∧ (NtR Ks3 (dEs D ++ [((eNo Ep + 1, L.1, on, ky, (chM L.1 es g2 (2 ^ L.1.1)).2, L.2.2.2.2, rm2, pk) : MeS)]) ((dPs D).set i (comR (getR ((mEp r, mLf r, lsn, mRn r, mNd r, mCh r, mEv r) : MpS) ((eNo Ep + 1, L.1, on, ky, (chM L.1 es g2 (2 ^ L.1.1)).2, L.2.2.2.2, rm2, pk) : MeS) 0) ((eNo Ep + 1, L.1, on, ky, (chM L.1 es g2 (2 ^ L.1.1)).2, L.2.2.2.2, rm2, pk) : MeS))) Qs ((dPs D).set i (comR (getR ((mEp r, mLf r, lsn, mRn r, mNd r, mCh r, mEv r) : MpS) ((eNo Ep + 1, L.1, on, ky, (chM L.1 es g2 (2 ^ L.1.1)).2, L.2.2.2.2, rm2, pk) : MeS) 0) ((eNo Ep + 1, L.1, on, ky, (chM L.1 es g2 (2 ^ L.1.1)).2, L.2.2.2.2, rm2, pk) : MeS))).length)) noX := by
  refine Ct.of "KeygroveModel" [some (.ref m), some (.int (nI i)), none, none, none, none, none, none, none] rfl (by decide) rfl (Nat.le_of_ble_eq_true rfl) rfl ?_
  intro κ B E tb
  have hD0 := hD
  obtain ⟨hd1, hd2, hd3, hd4, hd5, hd6, hd7, hd8, hd9⟩ := hD0
  obtain ⟨ls, lb, lk, lp, lr, le, lm, lo, kcap, pcap, rcap, ecap, mcap, mks, mps, v0, v1, v2, v3, v4, v5, v6, v7, hcap, hv0, hv1, hv2, hv3, hv4, hv5, hv6, hv7, rfl⟩ := hw0
  refine g_open 0 rfl rfl rfl ?_
  refine (show Go g κ 0 [some (.ref m), some (.int (nI i)), none, none, none, none, none, none, none] [] [[(m, .inr (12, [.ref ls, .ref lb, .ref lk, .ref lp, .ref lr, .ref le, .ref lm, .ref lo, .int (nI (dTh D)), .int (dZz D), .int (nI (dBn D)), .int (nI (dCm D))]))], v0, v1, v2, v3, v4, v5, v6, v7] (800 + 5 * (BN - (dBx D).length) + 10070 + 640 * (dMs D).length) (130000 + 130200 + 1600 * (dMs D).length) from ?_)
  obtain ⟨kc1, kc2, kc3, kc4, kc5⟩ := (show capM kcap pcap rcap ecap mcap from hcap)
  have hrs9 := hRs
  obtain ⟨hrs1, hrs2⟩ := hrs9
  have hcan9 := hcan
  refine g_aload_n (q := 1) B dX3_commit_0 rfl rfl (rv_r _) ?_
  refine g_aload_n (q := 2) B dX3_commit_1 rfl rfl (rv_r _) ?_
  refine g_iload_n (q := 3) B dX3_commit_2 rfl rfl ?_
  refine g_callV (q := 6) (is := [0, 3]) (kc2 := 800 + 5 * (BN - (dBx D).length) + 10070 + 640 * (dMs D).length) (ks2 := 130000 + 130200 + 1600 * (dMs D).length) B [.int (nI i)] (ct_X3_isPerson g J (m := m) (ls := ls) (lb := lb) (lk := lk) (lp := lp) (lr := lr) (le := le) (lm := lm) (lo := lo) (th := dTh D) (z := dZz D) (bo := dBn D) (cm := dCm D) (mps := mps) (Ps := (dPs D)) (pcap := pcap) (v := nI i) hv3 (by omega)) dX3_commit_3 rfl (rc_at B (ci := 12) rfl (k := 0) rfl) rfl q3153 q3155 qs51 q85 q3156 rfl rfl moX3_isPerson rfl rfl (by decide) (by decide) (Nat.le_of_ble_eq_true rfl) (by omega) (by omega) (fun _ _ hx => noX_x hx) (fun v3 L1 hp3 => ?_)
  obtain ⟨rfl, rfl⟩ := hp3
  refine (show Go g κ 6 [some (.ref m), some (.int (nI i)), none, none, none, none, none, none, none] [.int (nI (if inR (nI i) (dPs D).length = true then 1 else 0)), .ref m] [v0, v1, v2, v4, v5, v6, v7, [(m, .inr (12, [.ref ls, .ref lb, .ref lk, .ref lp, .ref lr, .ref le, .ref lm, .ref lo, .int (nI (dTh D)), .int (dZz D), .int (nI (dBn D)), .int (nI (dCm D))]))], v3] (800 + 5 * (BN - (dBx D).length) + 10070 + 640 * (dMs D).length) (130000 + 130200 + 1600 * (dMs D).length) from ?_)
  refine g_if_ne (tgt := 13) (q := 9) B dX3_commit_6 rfl (by decide) (iff_true_intro (bo_ne.mpr (by rw [inR_k (by have := get_lt2 hr; omega)]; simpa using (get_lt2 hr)))) (fun _ => ?_) (fun z => absurd trivial z)
  obtain ⟨hcan1, hcan2⟩ := hcan
  have hi := get_lt2 hr
  have hel := isF_ne hcan1
  refine g_aload_n (q := 14) B dX3_commit_13 rfl rfl (rv_r _) ?_
  refine g_iload_n (q := 15) B dX3_commit_14 rfl rfl ?_
  refine g_callV (q := 18) (is := [7, 7, 4]) (kc2 := 800 + 5 * (BN - (dBx D).length) + 10070 + 640 * (dMs D).length) (ks2 := 130000 + 130200 + 1600 * (dMs D).length) B [.int (nI i)] (ct_X3_isNew g J (m := m) (ls := ls) (lb := lb) (lk := lk) (lp := lp) (lr := lr) (le := le) (lm := lm) (lo := lo) (th := (dTh D)) (z := (dZz D)) (bo := (dBn D)) (cm := (dCm D)) (mps := mps) (Ps := (dPs D)) (pcap := pcap) (Es := (dEs D)) (ecap := ecap) (i := i) (r := r) hv3 hv5 (hr) (by omega) (by omega)) dX3_commit_15 rfl (rc_at B (ci := 12) rfl (k := 7) rfl) rfl q3370 q3372 qs62 q85 q3373 rfl rfl moX3_isNew rfl rfl (by decide) (by decide) (Nat.le_of_ble_eq_true rfl) (by omega) (by omega) (fun _ _ hx => noX_x hx) (fun v15 L1 hp15 => ?_)
  obtain ⟨rfl, rfl⟩ := hp15
  refine (show Go g κ 18 [some (.ref m), some (.int (nI i)), none, none, none, none, none, none, none] [.int (nI (if isF (dEs D).length (mEp r) = true then 1 else 0)), .ref m] [v0, v1, v2, v4, v6, v7, [(m, .inr (12, [.ref ls, .ref lb, .ref lk, .ref lp, .ref lr, .ref le, .ref lm, .ref lo, .int (nI (dTh D)), .int (dZz D), .int (nI (dBn D)), .int (nI (dCm D))]))], v3, v5] (800 + 5 * (BN - (dBx D).length) + 10070 + 640 * (dMs D).length) (130000 + 130200 + 1600 * (dMs D).length) from ?_)
  refine g_if_eq (tgt := 44) (q := 21) B dX3_commit_18 rfl (by decide) (iff_false_intro (fun z_ => absurd hcan1 (bo_eq.mp z_))) (fun z => z.elim) (fun _ => ?_)
  refine g_aload_n (q := 22) B dX3_commit_21 rfl rfl (rv_r _) ?_
  refine g_bipush (v := nI 114) (q := 24) B dX3_commit_22 rfl (by decide) ?_
  refine g_aload_n (q := 25) B dX3_commit_24 rfl rfl (rv_r _) ?_
  refine g_get (q := 28) B (ci := 12) (k := 6) (j := 3) in_X3 rfl dX3_commit_25 rfl rfl (Nat.le_of_ble_eq_true rfl) q3060 rfl rfl ?_
  refine g_iload_n (q := 29) B dX3_commit_28 rfl rfl ?_
  obtain ⟨md_1, hli_1, hln_1, hel_1⟩ := LoP.at (Sub.self hv3)
  obtain ⟨x29, hx29⟩ := get_ex (xs := mps) (i := i) (by have := get_lt2 (show (dPs D)[i]? = some r from hr); have := hln_1.1; omega)
  have hE_2 := hel_1 _ _ _ hx29 (show (dPs D)[i]? = some r from hr)
  refine g_callV (q := 32) (is := [7]) (kc2 := 800 + 5 * (BN - (dBx D).length) + 10070 + 640 * (dMs D).length) (ks2 := 130000 + 130200 + 1600 * (dMs D).length) B [.int (nI i)] (ct_J2_get_s g J (p := lp) (xs := mps) (md := md_1) (cap := pcap) (i := i) (x := x29) (W0 := v3)  (hli_1) (hx29)) dX3_commit_29 rfl (rc_in B (ci := 21) rfl (k := 7) rfl (LoP.hm hv3)) rfl q3231 q1095 q3667 q81 q1097 rfl rfl moJ2_get rfl rfl (by decide) (by decide) (Nat.le_of_ble_eq_true rfl) (by omega) (by omega) (fun _ _ hx => noX_x hx) (fun v29 L1 hp29 => ?_)
  obtain ⟨rfl, rfl⟩ := hp29
  refine (show Go g κ 32 [some (.ref m), some (.int (nI i)), none, none, none, none, none, none, none] [.ref x29, .int (nI 114), .ref m, .ref m] [v0, v1, v2, v4, v6, v7, [(m, .inr (12, [.ref ls, .ref lb, .ref lk, .ref lp, .ref lr, .ref le, .ref lm, .ref lo, .int (nI (dTh D)), .int (dZz D), .int (nI (dBn D)), .int (nI (dCm D))]))], v5, v3] (800 + 5 * (BN - (dBx D).length) + 10070 + 640 * (dMs D).length) (130000 + 130200 + 1600 * (dMs D).length) from ?_)
  have hlfx := (MpP.b2 (hE_2)).2.1
  refine g_castRS (ci := 13) (q := 35) B rfl (rc_in B (ci := 13) rfl (k := 8) rfl (Sub.hm (hE_2) fun _ z => MpP.hm z)) dX3_commit_32 rfl q3107 ?_
  obtain ⟨nd_3, ch_3, ev_3, cv_3, fn_3, fc_3, hM_3, hfn_3, hoc_3, hcv_3, hc_3_0, hc_3_1, hc_3_2, hs_3_0, hs_3_1⟩ := MpP.at (hE_2)
  refine g_getNM (q := 38) B (ci := 13) (k := 8) (j := 1) in_X5 rfl dX3_commit_35 rfl rfl (hc_3_0) (Nat.le_of_ble_eq_true rfl) q3119 rfl rfl ?_
  refine g_callV (q := 41) (is := [6, 3, 2]) (kc2 := (800 + 5 * (BN - (dBx D).length) + 10070 + 640 * (dMs D).length) - 1) (ks2 := (130000 + 130200 + 1600 * (dMs D).length) - 4) B [.int (nI 114), .int (nI (mLf r))] (ct_X3_isProposed_114 g J (m := m) (ls := ls) (lb := lb) (lk := lk) (lp := lp) (lr := lr) (le := le) (lm := lm) (lo := lo) (th := (dTh D)) (z := (dZz D)) (bo := (dBn D)) (cm := (dCm D)) (w := mLf r) (Rs := (dRs D)) (rcap := rcap) (mks := mks) (Ks := (dKs D)) (kcap := kcap) hv4 hv2 (hrs1) (by omega)) dX3_commit_38 rfl (rc_at B (ci := 12) rfl (k := 6) rfl) rfl q3378 q3380 qs64 q85 q3381 rfl rfl moX3_isProposed rfl rfl (by decide) (by decide) (Nat.le_of_ble_eq_true rfl) (by omega) (by omega) (fun _ _ hx => noX_x hx) (fun v38 L1 hp38 => ?_)
  obtain ⟨rfl, rfl⟩ := hp38
  refine (show Go g κ 41 [some (.ref m), some (.int (nI i)), none, none, none, none, none, none, none] [.int (nI (if prR (dRs D) (mLf r) = true then 1 else 0)), .ref m] [v0, v1, v6, v7, v5, v3, [(m, .inr (12, [.ref ls, .ref lb, .ref lk, .ref lp, .ref lr, .ref le, .ref lm, .ref lo, .int (nI (dTh D)), .int (dZz D), .int (nI (dBn D)), .int (nI (dCm D))]))], v4, v2] ((800 + 5 * (BN - (dBx D).length) + 10070 + 640 * (dMs D).length) - 1) ((130000 + 130200 + 1600 * (dMs D).length) - 4) from ?_)
  refine g_if_eq (tgt := 48) (q := 44) B dX3_commit_41 rfl (by decide) (iff_true_intro (bo_eq.mpr hcan2)) (fun _ => ?_) (fun z => absurd trivial z)
  refine g_aload_n (q := 49) B dX3_commit_48 rfl rfl (rv_r _) ?_
  refine g_get (q := 52) B (ci := 12) (k := 6) (j := 5) in_X3 rfl dX3_commit_49 rfl rfl (Nat.le_of_ble_eq_true rfl) q3062 rfl rfl ?_
  obtain ⟨ps_4, md_4, hli_4, hln_4, hel_4⟩ := LhP.at (Sub.self hv5)
  refine g_callV (q := 55) (is := [4]) (kc2 := (800 + 5 * (BN - (dBx D).length) + 10070 + 640 * (dMs D).length) - 1) (ks2 := (130000 + 130200 + 1600 * (dMs D).length) - 4) B [] (ct_J2_size_s g J (p := le) (xs := ps_4) (md := md_4) (cap := ecap) (W0 := v5)  (hli_4)) dX3_commit_52 rfl (rc_in B (ci := 21) rfl (k := 4) rfl (LhP.hm hv5)) rfl q3102 q321 q3665 q81 q323 rfl rfl moJ2_size rfl rfl (by decide) (by decide) (Nat.le_of_ble_eq_true rfl) (by omega) (by omega) (fun _ _ hx => noX_x hx) (fun v52 L1 hp52 => ?_)
  obtain ⟨rfl, rfl⟩ := hp52
  refine (show Go g κ 55 [some (.ref m), some (.int (nI i)), none, none, none, none, none, none, none] [.int (nI ps_4.length), .ref m] [v0, v1, v6, v7, v3, [(m, .inr (12, [.ref ls, .ref lb, .ref lk, .ref lp, .ref lr, .ref le, .ref lm, .ref lo, .int (nI (dTh D)), .int (dZz D), .int (nI (dBn D)), .int (nI (dCm D))]))], v4, v2, v5] ((800 + 5 * (BN - (dBx D).length) + 10070 + 640 * (dMs D).length) - 1) ((130000 + 130200 + 1600 * (dMs D).length) - 4) from ?_)
  rw [hln_4.1]
  refine (show Go g κ 55 [some (.ref m), some (.int (nI i)), none, none, none, none, none, none, none] [.int (nI ((dEs D).length)), .ref m] [v0, v1, v6, v7, v3, [(m, .inr (12, [.ref ls, .ref lb, .ref lk, .ref lp, .ref lr, .ref le, .ref lm, .ref lo, .int (nI (dTh D)), .int (dZz D), .int (nI (dBn D)), .int (nI (dCm D))]))], v4, v2, v5] ((800 + 5 * (BN - (dBx D).length) + 10070 + 640 * (dMs D).length) - 1) ((130000 + 130200 + 1600 * (dMs D).length) - 4) from ?_)
  refine g_iconst (v := nI 1) (q := 56) B dX3_commit_55 rfl (by decide) ?_
  refine g_isub (v := nI (((dEs D).length) - 1)) (q := 57) B dX3_commit_56 rfl (pk_sub (by omega)) ?_
  refine g_bipush (v := nI 23) (q := 59) B dX3_commit_57 rfl (by decide) ?_
  refine g_icmp_ne (tgt := 66) (q := 62) B dX3_commit_59 rfl (by decide) (iff_true_intro ((not_congr (nI_eq (by omega) (by omega))).mpr (by omega))) (fun _ => ?_) (fun z => absurd trivial z)
  refine g_iconst (v := nI 0) (q := 67) B dX3_commit_66 rfl (by decide) ?_
  refine g_callV (q := 70) (is := [5]) (kc2 := (800 + 5 * (BN - (dBx D).length) + 10070 + 640 * (dMs D).length) - 1) (ks2 := (130000 + 130200 + 1600 * (dMs D).length) - 4) B [.int (nI 0)] (ct_X3_isWrong g J (m := m) (ls := ls) (lb := lb) (lk := lk) (lp := lp) (lr := lr) (le := le) (lm := lm) (lo := lo) (th := (dTh D)) (z := (dZz D)) (bo := (dBn D)) (cm := (dCm D)) (k := 0)  (by decide)) dX3_commit_67 rfl (rc_at B (ci := 12) rfl (k := 5) rfl) rfl q3103 q3105 qs49 q85 q3106 rfl rfl moX3_isWrong rfl rfl (by decide) (by decide) (Nat.le_of_ble_eq_true rfl) (by omega) (by omega) (fun _ _ hx => noX_x hx) (fun v67 L1 hp67 => ?_)
  obtain ⟨rfl, rfl⟩ := hp67
  refine (show Go g κ 70 [some (.ref m), some (.int (nI i)), none, none, none, none, none, none, none] [.int (nI (if ¬ 0 = 0 then 1 else 0))] [v0, v1, v6, v7, v3, v4, v2, v5, [(m, .inr (12, [.ref ls, .ref lb, .ref lk, .ref lp, .ref lr, .ref le, .ref lm, .ref lo, .int (nI 0), .int (dZz D), .int (nI (dBn D)), .int (nI (dCm D))]))]] ((800 + 5 * (BN - (dBx D).length) + 10070 + 640 * (dMs D).length) - 1) ((130000 + 130200 + 1600 * (dMs D).length) - 4) from ?_)
  refine g_if_eq (tgt := 75) (q := 73) B dX3_commit_70 rfl (by decide) (iff_true_intro (by decide)) (fun _ => ?_) (fun z => absurd trivial z)
  refine g_aload_n (q := 76) B dX3_commit_75 rfl rfl (rv_r _) ?_
  refine g_callV (q := 79) (is := [8, 7]) (kc2 := (800 + 5 * (BN - (dBx D).length) + 10070 + 640 * (dMs D).length) - 1) (ks2 := (130000 + 130200 + 1600 * (dMs D).length) - 4) B [] (ct_X3_newest g J (m := m) (ls := ls) (lb := lb) (lk := lk) (lp := lp) (lr := lr) (le := le) (lm := lm) (lo := lo) (th := 0) (z := (dZz D)) (bo := (dBn D)) (cm := (dCm D)) (Es := (dEs D)) (ecap := ecap) (Ep := Ep) hv5 (hT) (by omega)) dX3_commit_76 rfl (rc_at B (ci := 12) rfl (k := 8) rfl) rfl q3374 q3376 qs63 q85 q3377 rfl rfl moX3_newest rfl rfl (by decide) (by decide) (Nat.le_of_ble_eq_true rfl) (by omega) (by omega) (fun _ _ hx => noX_x hx) (fun v76 L1 hp76 => ?_)
  obtain ⟨e76, rfl, rfl, hE_76⟩ := hp76
  refine (show Go g κ 79 [some (.ref m), some (.int (nI i)), none, none, none, none, none, none, none] [.ref e76] [v0, v1, v6, v7, v3, v4, v2, [(m, .inr (12, [.ref ls, .ref lb, .ref lk, .ref lp, .ref lr, .ref le, .ref lm, .ref lo, .int (nI 0), .int (dZz D), .int (nI (dBn D)), .int (nI (dCm D))]))], v5] ((800 + 5 * (BN - (dBx D).length) + 10070 + 640 * (dMs D).length) - 1) ((130000 + 130200 + 1600 * (dMs D).length) - 4) from ?_)
  have hEB9 := EpP.b2 hE_76
  have hTB9 := hEB9.2.1
  have hp29 := p2_4 hTB9.1
  refine g_astore_n (q := 80) (lv2 := [some (.ref m), some (.int (nI i)), some (.ref e76), none, none, none, none, none, none]) B dX3_commit_79 rfl (Nat.le_of_ble_eq_true rfl) (rv_r _) rfl ?_
  refine g_aload_n (q := 81) B dX3_commit_80 rfl rfl (rv_r _) ?_
  refine g_callV (q := 84) (is := [8]) (kc2 := (800 + 5 * (BN - (dBx D).length) + 10070 + 640 * (dMs D).length) - 9) (ks2 := (130000 + 130200 + 1600 * (dMs D).length) - 174) B [] (ct_X13_next_s g J (e := e76) (r := Ep) (W0 := v5)  (hE_76) (heno)) dX3_commit_81 rfl (rc_in B (ci := 16) rfl (k := 8) rfl (Sub.hm (hE_76) fun _ z => EpP.hm z)) rfl q3425 q3426 q3427 q137 q3428 rfl rfl moX13_next rfl rfl (by decide) (by decide) (Nat.le_of_ble_eq_true rfl) (by omega) (by omega) (fun _ _ hx => noX_x hx) (fun v81 L1 hp81 => ?_)
  obtain ⟨n81, u1_81, rfl, rfl, hu1_81⟩ := hp81
  refine (show Go g κ 84 [some (.ref m), some (.int (nI i)), some (.ref e76), none, none, none, none, none, none] [.ref n81] [v0, v1, v6, v7, v3, v4, v2, [(m, .inr (12, [.ref ls, .ref lb, .ref lk, .ref lp, .ref lr, .ref le, .ref lm, .ref lo, .int (nI 0), .int (dZz D), .int (nI (dBn D)), .int (nI (dCm D))]))], v5, u1_81] ((800 + 5 * (BN - (dBx D).length) + 10070 + 640 * (dMs D).length) - 9) ((130000 + 130200 + 1600 * (dMs D).length) - 174) from ?_)
  refine g_astore_n (q := 85) (lv2 := [some (.ref m), some (.int (nI i)), some (.ref e76), some (.ref n81), none, none, none, none, none]) B dX3_commit_84 rfl (Nat.le_of_ble_eq_true rfl) (rv_r _) rfl ?_
  refine g_aload_n (q := 86) B dX3_commit_85 rfl rfl (rv_r _) ?_
  refine g_get (q := 89) B (ci := 12) (k := 7) (j := 3) in_X3 rfl dX3_commit_86 rfl rfl (Nat.le_of_ble_eq_true rfl) q3060 rfl rfl ?_
  refine g_iload_n (q := 90) B dX3_commit_89 rfl rfl ?_
  have hE_5 := hel_1 _ _ _ hx29 (show (dPs D)[i]? = some r from hr)
  refine g_callV (q := 93) (is := [4]) (kc2 := (800 + 5 * (BN - (dBx D).length) + 10070 + 640 * (dMs D).length) - 9) (ks2 := (130000 + 130200 + 1600 * (dMs D).length) - 174) B [.int (nI i)] (ct_J2_get_s g J (p := lp) (xs := mps) (md := md_1) (cap := pcap) (i := i) (x := x29) (W0 := v3)  (hli_1) (hx29)) dX3_commit_90 rfl (rc_in B (ci := 21) rfl (k := 4) rfl (LoP.hm hv3)) rfl q3231 q1095 q3667 q81 q1097 rfl rfl moJ2_get rfl rfl (by decide) (by decide) (Nat.le_of_ble_eq_true rfl) (by omega) (by omega) (fun _ _ hx => noX_x hx) (fun v90 L1 hp90 => ?_)
  obtain ⟨rfl, rfl⟩ := hp90
  refine (show Go g κ 93 [some (.ref m), some (.int (nI i)), some (.ref e76), some (.ref n81), none, none, none, none, none] [.ref x29] [v0, v1, v6, v7, v4, v2, [(m, .inr (12, [.ref ls, .ref lb, .ref lk, .ref lp, .ref lr, .ref le, .ref lm, .ref lo, .int (nI 0), .int (dZz D), .int (nI (dBn D)), .int (nI (dCm D))]))], v5, u1_81, v3] ((800 + 5 * (BN - (dBx D).length) + 10070 + 640 * (dMs D).length) - 9) ((130000 + 130200 + 1600 * (dMs D).length) - 174) from ?_)
  refine g_castRS (ci := 13) (q := 96) B rfl (rc_in B (ci := 13) rfl (k := 9) rfl (Sub.hm (hE_5) fun _ z => MpP.hm z)) dX3_commit_93 rfl q3107 ?_
  refine g_astore (q := 98) (lv2 := [some (.ref m), some (.int (nI i)), some (.ref e76), some (.ref n81), some (.ref x29), none, none, none, none]) B dX3_commit_96 rfl (Nat.le_of_ble_eq_true rfl) (rv_r _) rfl ?_
  refine g_aload_n (q := 99) B dX3_commit_98 rfl rfl (rv_r _) ?_
  refine g_get (q := 102) B (ci := 12) (k := 6) (j := 4) in_X3 rfl dX3_commit_99 rfl rfl (Nat.le_of_ble_eq_true rfl) q3061 rfl rfl ?_
  obtain ⟨ps_6, md_6, hli_6, hln_6, hel_6⟩ := LhP.at (Sub.self hv4)
  refine g_callV (q := 105) (is := [4]) (kc2 := (800 + 5 * (BN - (dBx D).length) + 10070 + 640 * (dMs D).length) - 10) (ks2 := (130000 + 130200 + 1600 * (dMs D).length) - 178) B [] (ct_J2_iterator_s g J (p := lr) (xs := ps_6) (md := md_6) (cap := rcap) (W0 := v4)  (hli_6)) dX3_commit_102 rfl (rc_in B (ci := 21) rfl (k := 4) rfl (LhP.hm hv4)) rfl q3232 q805 q3668 q81 q807 rfl rfl moJ2_iterator rfl rfl (by decide) (by decide) (Nat.le_of_ble_eq_true rfl) (by omega) (by omega) (fun _ _ hx => noX_x hx) (fun v102 L1 hp102 => ?_)
  obtain ⟨it102, rfl, rfl⟩ := hp102
  refine (show Go g κ 105 [some (.ref m), some (.int (nI i)), some (.ref e76), some (.ref n81), some (.ref x29), none, none, none, none] [.ref it102] [v0, v1, v6, v7, v2, [(m, .inr (12, [.ref ls, .ref lb, .ref lk, .ref lp, .ref lr, .ref le, .ref lm, .ref lo, .int (nI 0), .int (dZz D), .int (nI (dBn D)), .int (nI (dCm D))]))], v5, u1_81, v3, [(it102, .inr (22, [.int (nI 0), .int (-1), .int md_6, .ref lr]))], v4] ((800 + 5 * (BN - (dBx D).length) + 10070 + 640 * (dMs D).length) - 10) ((130000 + 130200 + 1600 * (dMs D).length) - 178) from ?_)
  refine g_astore (q := 107) (lv2 := [some (.ref m), some (.int (nI i)), some (.ref e76), some (.ref n81), some (.ref x29), some (.ref it102), none, none, none]) B dX3_commit_105 rfl (Nat.le_of_ble_eq_true rfl) (rv_r _) rfl ?_
  have lp107 : ∀ (n107 : Nat) (k : Nat) (lrt : Int32) (S : TrS) (l107_7 : va_W), EpP g n81 ((eNo Ep + 1, S, 0, 0, fun _ => none, fun _ => false, fun _ => false, fun _ => none) : MeS) l107_7 → (k ≤ (dRs D).length) → (S = (rnM (dRs D) (dPs D) i (eTr Ep) k)) → (dRs D).length - k = n107 → Go g κ 107 [some (.ref m), some (.int (nI i)), some (.ref e76), some (.ref n81), some (.ref x29), some (.ref it102), none, none, none] [] [v0, v1, v6, v7, v2, [(m, .inr (12, [.ref ls, .ref lb, .ref lk, .ref lp, .ref lr, .ref le, .ref lm, .ref lo, .int (nI 0), .int (dZz D), .int (nI (dBn D)), .int (nI (dCm D))]))], v5, l107_7, v3, [(it102, .inr (22, [.int (nI k), .int lrt, .int md_6, .ref lr]))], v4] (700 - k + 5 * (BN - (dBx D).length) + 10070 + 640 * (dMs D).length) (129000 - 4 * k + 130200 + 1600 * (dMs D).length) := by
    intro n107
    induction n107 using Nat.strongRecOn with
    | _ n107 ih107 =>
    intro k lrt S l107_7 hl107_7 hk hS hmu107
    refine g_aload (q := 109) B dX3_commit_107 rfl rfl (rv_r _) ?_
    refine g_callF (q := 114) (is := [9, 9]) (kc2 := 700 - k + 5 * (BN - (dBx D).length) + 10070 + 640 * (dMs D).length) (ks2 := 129000 - 4 * k + 130200 + 1600 * (dMs D).length) B [] (ct_J19_hasNext_s g J (p := lr) (xs := ps_6) (md := md_6) (cap := rcap) (it := it102) (c := k) (lr := lrt) (W1 := v4)  (hli_6) (by have := hln_6.1; omega)) dX3_commit_109 rfl (ci := 22) rfl (rc_at B (ci := 22) rfl (k := 9) rfl) q3234 q940 q942 q104 q944 q938 q937 q943 q941 q939 rfl rfl mojava_util_Iterator_hasNext___Z rfl rfl (by decide) (by decide) (Nat.le_of_ble_eq_true rfl) (by omega) (by omega) (fun _ _ hx => noX_x hx) (fun v109 L1 hp109 => ?_)
    obtain ⟨rfl, rfl⟩ := hp109
    refine (show Go g κ 114 [some (.ref m), some (.int (nI i)), some (.ref e76), some (.ref n81), some (.ref x29), some (.ref it102), none, none, none] [.int (nI (if ¬ k = ps_6.length then 1 else 0))] [v0, v1, v6, v7, v2, [(m, .inr (12, [.ref ls, .ref lb, .ref lk, .ref lp, .ref lr, .ref le, .ref lm, .ref lo, .int (nI 0), .int (dZz D), .int (nI (dBn D)), .int (nI (dCm D))]))], v5, l107_7, v3, [(it102, .inr (22, [.int (nI k), .int lrt, .int md_6, .ref lr]))], v4] (700 - k + 5 * (BN - (dBx D).length) + 10070 + 640 * (dMs D).length) (129000 - 4 * k + 130200 + 1600 * (dMs D).length) from ?_)
    rw [hln_6.1]
    refine (show Go g κ 114 [some (.ref m), some (.int (nI i)), some (.ref e76), some (.ref n81), some (.ref x29), some (.ref it102), none, none, none] [.int (nI (if ¬ k = (dRs D).length then 1 else 0))] [v0, v1, v6, v7, v2, [(m, .inr (12, [.ref ls, .ref lb, .ref lk, .ref lp, .ref lr, .ref le, .ref lm, .ref lo, .int (nI 0), .int (dZz D), .int (nI (dBn D)), .int (nI (dCm D))]))], v5, l107_7, v3, [(it102, .inr (22, [.int (nI k), .int lrt, .int md_6, .ref lr]))], v4] (700 - k + 5 * (BN - (dBx D).length) + 10070 + 640 * (dMs D).length) (129000 - 4 * k + 130200 + 1600 * (dMs D).length) from ?_)
    refine g_if_eq (tgt := 221) (q := 117) B dX3_commit_114 rfl (by decide) (bo_eq) (fun c114 => ?_) (fun c114 => ?_)
    · skip
      refine g_aload_n (q := 222) B dX3_commit_221 rfl rfl (rv_r _) ?_
      refine g_aload_n (q := 223) B dX3_commit_222 rfl rfl (rv_r _) ?_
      have hSF : S = T1 := by rw [hS, show k = (dRs D).length by omega]; exact hRN
      have hr_7 : EpP g n81 ((eNo Ep + 1, T1, 0, 0, fun _ => none, fun _ => false, fun _ => false, fun _ => none) : MeS) l107_7 := by rw [← hSF]; exact hl107_7
      refine g_pk [0, 0, 0, 0, 0, 0, 0, 0, 0, 1] rfl rfl ?_
      refine (show Go g κ 223 [some (.ref m), some (.int (nI i)), some (.ref e76), some (.ref n81), some (.ref x29), some (.ref it102), none, none, none] [.ref n81, .ref m] [v0, v1, v6, v7, v2, [(m, .inr (12, [.ref ls, .ref lb, .ref lk, .ref lp, .ref lr, .ref le, .ref lm, .ref lo, .int (nI 0), .int (dZz D), .int (nI (dBn D)), .int (nI (dCm D))]))], v5, l107_7, v3, v4] (700 - k + 5 * (BN - (dBx D).length) + 10070 + 640 * (dMs D).length) (129000 - 4 * k + 130200 + 1600 * (dMs D).length) from ?_)
      refine g_callV (q := 226) (is := [5, 8, 4, 5]) (kc2 := (700 - k + 5 * (BN - (dBx D).length) + 10070 + 640 * (dMs D).length) - (1 + (dRs D).length)) (ks2 := (129000 - 4 * k + 130200 + 1600 * (dMs D).length) - (4 + 4 * (dRs D).length)) B [.ref n81] (ct_X3_removes g J (m := m) (ls := ls) (lb := lb) (lk := lk) (lp := lp) (lr := lr) (le := le) (lm := lm) (lo := lo) (th := 0) (z := (dZz D)) (bo := (dBn D)) (cm := (dCm D)) (Rs := (dRs D)) (rcap := rcap) (mks := mks) (Ks := (dKs D)) (kcap := kcap) (e := n81) (r := ((eNo Ep + 1, T1, 0, 0, fun _ => none, fun _ => false, fun _ => false, fun _ => none) : MeS)) hv4 hv2 hr_7 (hrs1) (hrm) (hL0) (by show PN (rmM (dRs D) ((T1, fun _ => false, dKs D) : RnS) (dRs D).length).1; rw [hRM]; exact hPN)) dX3_commit_223 rfl (rc_at B (ci := 12) rfl (k := 5) rfl) rfl q3445 q3447 qs66 q85 q3448 rfl rfl moX3_removes rfl rfl (by decide) (by decide) (Nat.le_of_ble_eq_true rfl) (by omega) (by omega) (fun _ _ hx => noX_x hx) (fun v223 L1 hp223 => ?_)
      obtain ⟨u2_223, u3_223, rfl, rfl, hu2_223, hu3_223⟩ := hp223
      refine (show Go g κ 226 [some (.ref m), some (.int (nI i)), some (.ref e76), some (.ref n81), some (.ref x29), some (.ref it102), none, none, none] [] [v0, v1, v6, v7, v5, v3, [(m, .inr (12, [.ref ls, .ref lb, .ref lk, .ref lp, .ref lr, .ref le, .ref lm, .ref lo, .int (nI 0), .int (dZz D), .int (nI (dBn D)), .int (nI (dCm D))]))], v4, u2_223, u3_223] ((700 - k + 5 * (BN - (dBx D).length) + 10070 + 640 * (dMs D).length) - (1 + (dRs D).length)) ((129000 - 4 * k + 130200 + 1600 * (dMs D).length) - (4 + 4 * (dRs D).length)) from ?_)
      have hr_8 : EpP g n81 ((eNo Ep + 1, hlv T2, 0, 0, fun _ => none, fun _ => false, rm2, fun _ => none) : MeS) u3_223 := by have z := hu3_223; rw [hRM] at z; exact z
      have hr_9 : LoP g (MqP g) lk mks Ks2 kcap u2_223 := by have z := hu2_223; rw [hRM] at z; exact z
      refine g_aload_n (q := 227) B dX3_commit_226 rfl rfl (rv_r _) ?_
      refine g_aload_n (q := 228) B dX3_commit_227 rfl rfl (rv_r _) ?_
      refine g_callV (q := 231) (is := [6, 6, 6, 6]) (kc2 := ((700 - k + 5 * (BN - (dBx D).length) + 10070 + 640 * (dMs D).length) - (1 + (dRs D).length)) - 1) (ks2 := ((129000 - 4 * k + 130200 + 1600 * (dMs D).length) - (4 + 4 * (dRs D).length)) - 4) B [.ref n81] (ct_X3_adds g J (m := m) (ls := ls) (lb := lb) (lk := lk) (lp := lp) (lr := lr) (le := le) (lm := lm) (lo := lo) (th := 0) (z := (dZz D)) (bo := (dBn D)) (cm := (dCm D)) (Rs := (dRs D)) (rcap := rcap) (mks := mks) (Ks := Ks2) (kcap := kcap) (e := n81) (r := ((eNo Ep + 1, hlv T2, 0, 0, fun _ => none, fun _ => false, rm2, fun _ => none) : MeS)) hv4 hr_9 hr_8 (hrs1) (by omega) (had)) dX3_commit_228 rfl (rc_at B (ci := 12) rfl (k := 6) rfl) rfl q3452 q3454 qs67 q85 q3455 rfl rfl moX3_adds rfl rfl (by decide) (by decide) (Nat.le_of_ble_eq_true rfl) (by omega) (by omega) (fun _ _ hx => noX_x hx) (fun v228 L1 hp228 => ?_)
      obtain ⟨u2_228, u3_228, rfl, rfl, hu2_228, hu3_228⟩ := hp228
      refine (show Go g κ 231 [some (.ref m), some (.int (nI i)), some (.ref e76), some (.ref n81), some (.ref x29), some (.ref it102), none, none, none] [] [v0, v1, v6, v7, v5, v3, [(m, .inr (12, [.ref ls, .ref lb, .ref lk, .ref lp, .ref lr, .ref le, .ref lm, .ref lo, .int (nI 0), .int (dZz D), .int (nI (dBn D)), .int (nI (dCm D))]))], v4, u2_228, u3_228] (((700 - k + 5 * (BN - (dBx D).length) + 10070 + 640 * (dMs D).length) - (1 + (dRs D).length)) - 1) (((129000 - 4 * k + 130200 + 1600 * (dMs D).length) - (4 + 4 * (dRs D).length)) - 4) from ?_)
      have hr_10 : EpP g n81 ((eNo Ep + 1, T4, 0, 0, fun _ => none, fun _ => false, rm2, pk) : MeS) u3_228 := by have z := hu3_228; rw [hAD] at z; exact z
      have hr_11 : LoP g (MqP g) lk mks Ks3 kcap u2_228 := by have z := hu2_228; rw [hAD] at z; exact z
      have hE3 := EpP.b hr_10
      have hT4B : TrB T4 := hE3.2.1
      have hp24 := p2_4 hT4B.1
      have hwm := wlM_m sec pk Ks3 bf (f2, L.2.2.1) (Nat.zero_le (2 ^ L.1.1))
      rw [hW] at hwm
      obtain ⟨hwm1, hwm2, hwm3⟩ := hwm
      have hwm2 : f2.length ≤ W.1.length := hwm2
      have hwm3 : L.2.2.1.length ≤ W.2.length := hwm3
      have hlm := layM_m (mLf r) pk ((setN T4 (2 * mLf r) (dSs D).length, dSs D ++ [drw (dZz D)], dBx D, (dSs D).length, fun _ => false) : LmS) (Nat.zero_le T4.1)
      rw [hL] at hlm
      obtain ⟨hlm1, hlm2, hlm3⟩ := hlm
      have hlm2 : (dSs D ++ [drw (dZz D)]).length ≤ L.2.1.length := hlm2
      have hlm3 : (dBx D).length ≤ L.2.2.1.length := hlm3
      have hsl1 : (dSs D ++ [drw (dZz D)]).length = (dSs D).length + 1 := by simp
      have hg1_ := Ph_fr hf1
      have hg2_ := Ph_fr hf2
      have hg4_ := Ph_fr hf4
      have hg5_ := Ph_fr hg1
      have hg6_ := Ph_fr hg2
      have hcA := chM_m L.1 es g2 (Nat.zero_le (2 ^ L.1.1))
      have hcA : g2.length ≤ (chM L.1 es g2 (2 ^ L.1.1)).1.length := hcA
      have hck0 := capF_le (dSs D).length
      have hck1 := capF_le L.2.1.length
      have hck2 := capF_le L.2.2.1.length
      have hck3 := capF_le W.2.length
      have hck4 := capF_le (chM L.1 es g2 (2 ^ L.1.1)).1.length
      have hck5 := capF_le (dBx D).length
      have hck6 := capF_le f1.length
      have hck7 := capF_le f2.length
      have hck8 := capF_le f4.length
      have hck9 := capF_le W.1.length
      refine g_aload_n (q := 232) B dX3_commit_231 rfl rfl (rv_r _) ?_
      refine g_aload_n (q := 233) B dX3_commit_232 rfl rfl (rv_r _) ?_
      refine g_aload (q := 235) B dX3_commit_233 rfl rfl (rv_r _) ?_
      refine g_getNM (q := 238) B (ci := 13) (k := 5) (j := 1) in_X5 rfl dX3_commit_235 rfl rfl (hc_3_0) (Nat.le_of_ble_eq_true rfl) q3119 rfl rfl ?_
      refine g_callV (q := 241) (is := [6, 0, 0, 6]) (kc2 := 400 + 5 * (BN - L.2.2.1.length) + 10070 + 640 * (dMs D).length) (ks2 := 60000 + 130200 + 1600 * (dMs D).length) B [.ref n81, .int (nI (mLf r))] (ct_X3_lays g J (m := m) (ls := ls) (lb := lb) (lk := lk) (lp := lp) (lr := lr) (le := le) (lm := lm) (lo := lo) (th := 0) (z := (dZz D)) (bo := (dBn D)) (cm := (dCm D)) (ss := (dSs D)) (bx := (dBx D)) (e := n81) (r := ((eNo Ep + 1, T4, 0, 0, fun _ => none, fun _ => false, rm2, pk) : MeS)) (own := mLf r) (TA := (capF L.2.1.length)) (BA := (capF L.2.2.1.length)) (BN := L.2.2.1.length) hv0 hv1 hr_10 (hcl) (hcv) (hsc) (hLt) (hlf) (by show (layM (mLf r) pk ((setN T4 (2 * mLf r) (dSs D).length, dSs D ++ [drw (dZz D)], dBx D, (dSs D).length, fun _ => false) : LmS) T4.1).2.1.length ≤ 980; rw [hL]; omega) (by show (layM (mLf r) pk ((setN T4 (2 * mLf r) (dSs D).length, dSs D ++ [drw (dZz D)], dBx D, (dSs D).length, fun _ => false) : LmS) T4.1).2.2.1.length ≤ 1980; rw [hL]; omega) (by omega) (by show capF (layM (mLf r) pk ((setN T4 (2 * mLf r) (dSs D).length, dSs D ++ [drw (dZz D)], dBx D, (dSs D).length, fun _ => false) : LmS) T4.1).2.1.length ≤ _; rw [hL]; exact Nat.le_refl _) (by show capF (layM (mLf r) pk ((setN T4 (2 * mLf r) (dSs D).length, dSs D ++ [drw (dZz D)], dBx D, (dSs D).length, fun _ => false) : LmS) T4.1).2.2.1.length ≤ _; rw [hL]; exact Nat.le_refl _) (by show (layM (mLf r) pk ((setN T4 (2 * mLf r) (dSs D).length, dSs D ++ [drw (dZz D)], dBx D, (dSs D).length, fun _ => false) : LmS) T4.1).2.2.1.length ≤ _; rw [hL]; exact Nat.le_refl _)) dX3_commit_238 rfl (rc_at B (ci := 12) rfl (k := 6) rfl) rfl q3456 q3458 qs68 q85 q3459 rfl rfl moX3_lays rfl rfl (by decide) (by decide) (Nat.le_of_ble_eq_true rfl) (by omega) (by omega) (fun _ _ hx => noX_x hx) (fun v238 L1 hp238 => ?_)
      obtain ⟨u1_238, u2_238, u3_238, rfl, rfl, hu1_238, hu2_238, hu3_238⟩ := hp238
      refine (show Go g κ 241 [some (.ref m), some (.int (nI i)), some (.ref e76), some (.ref n81), some (.ref x29), some (.ref it102), none, none, none] [.int (nI ((layM (mLf r) (ePk ((eNo Ep + 1, T4, 0, 0, fun _ => none, fun _ => false, rm2, pk) : MeS)) ((setN (eTr ((eNo Ep + 1, T4, 0, 0, fun _ => none, fun _ => false, rm2, pk) : MeS)) (2 * (mLf r)) (dSs D).length, (dSs D) ++ [drw (dZz D)], (dBx D), (dSs D).length, eWy ((eNo Ep + 1, T4, 0, 0, fun _ => none, fun _ => false, rm2, pk) : MeS)) : LmS) (eTr ((eNo Ep + 1, T4, 0, 0, fun _ => none, fun _ => false, rm2, pk) : MeS)).1).2.2.2.1))] [v6, v7, v5, v3, v4, u2_228, [(m, .inr (12, [.ref ls, .ref lb, .ref lk, .ref lp, .ref lr, .ref le, .ref lm, .ref lo, .int (nI 0), .int (lcg (dZz D)), .int (nI ((dBn D) + ((layM (mLf r) (ePk ((eNo Ep + 1, T4, 0, 0, fun _ => none, fun _ => false, rm2, pk) : MeS)) ((setN (eTr ((eNo Ep + 1, T4, 0, 0, fun _ => none, fun _ => false, rm2, pk) : MeS)) (2 * (mLf r)) (dSs D).length, (dSs D) ++ [drw (dZz D)], (dBx D), (dSs D).length, eWy ((eNo Ep + 1, T4, 0, 0, fun _ => none, fun _ => false, rm2, pk) : MeS)) : LmS) (eTr ((eNo Ep + 1, T4, 0, 0, fun _ => none, fun _ => false, rm2, pk) : MeS)).1).2.2.1.length - (dBx D).length))), .int (nI (dCm D))]))], u1_238, u2_238, u3_238] (400 + 5 * (BN - L.2.2.1.length) + 10070 + 640 * (dMs D).length) (60000 + 130200 + 1600 * (dMs D).length) from ?_)
      refine g_stk (y := .int (nI L.2.2.2.1)) (by show Value.int (nI (layM (mLf r) pk ((setN T4 (2 * mLf r) (dSs D).length, dSs D ++ [drw (dZz D)], dBx D, (dSs D).length, fun _ => false) : LmS) T4.1).2.2.2.1) = _; rw [hL]) ?_
      refine (show Go g κ 241 [some (.ref m), some (.int (nI i)), some (.ref e76), some (.ref n81), some (.ref x29), some (.ref it102), none, none, none] [.int (nI L.2.2.2.1)] [v6, v7, v5, v3, v4, u2_228, [(m, .inr (12, [.ref ls, .ref lb, .ref lk, .ref lp, .ref lr, .ref le, .ref lm, .ref lo, .int (nI 0), .int (lcg (dZz D)), .int (nI ((dBn D) + ((layM (mLf r) (ePk ((eNo Ep + 1, T4, 0, 0, fun _ => none, fun _ => false, rm2, pk) : MeS)) ((setN (eTr ((eNo Ep + 1, T4, 0, 0, fun _ => none, fun _ => false, rm2, pk) : MeS)) (2 * (mLf r)) (dSs D).length, (dSs D) ++ [drw (dZz D)], (dBx D), (dSs D).length, eWy ((eNo Ep + 1, T4, 0, 0, fun _ => none, fun _ => false, rm2, pk) : MeS)) : LmS) (eTr ((eNo Ep + 1, T4, 0, 0, fun _ => none, fun _ => false, rm2, pk) : MeS)).1).2.2.1.length - (dBx D).length))), .int (nI (dCm D))]))], u1_238, u2_238, u3_238] (400 + 5 * (BN - L.2.2.1.length) + 10070 + 640 * (dMs D).length) (60000 + 130200 + 1600 * (dMs D).length) from ?_)
      have hr_12 : EpP g n81 ((eNo Ep + 1, L.1, 0, 0, fun _ => none, L.2.2.2.2, rm2, pk) : MeS) u3_238 := by rw [← hL]; exact hu3_238
      have hr_13 : LhP g (SecP g) ls L.2.1 (capF L.2.1.length) u1_238 := by rw [← hL]; exact hu1_238
      have hr_14 : LhP g (BbP g) lb L.2.2.1 (capF L.2.2.1.length) u2_238 := by rw [← hL]; exact hu2_238
      rw [(show nI ((dBn D) + ((layM (mLf r) (ePk ((eNo Ep + 1, T4, 0, 0, fun _ => none, fun _ => false, rm2, pk) : MeS)) ((setN (eTr ((eNo Ep + 1, T4, 0, 0, fun _ => none, fun _ => false, rm2, pk) : MeS)) (2 * (mLf r)) (dSs D).length, (dSs D) ++ [drw (dZz D)], (dBx D), (dSs D).length, eWy ((eNo Ep + 1, T4, 0, 0, fun _ => none, fun _ => false, rm2, pk) : MeS)) : LmS) (eTr ((eNo Ep + 1, T4, 0, 0, fun _ => none, fun _ => false, rm2, pk) : MeS)).1).2.2.1.length - (dBx D).length)) = nI (dBn D + (L.2.2.1.length - (dBx D).length)) from by show nI (dBn D + ((layM (mLf r) pk ((setN T4 (2 * mLf r) (dSs D).length, dSs D ++ [drw (dZz D)], dBx D, (dSs D).length, fun _ => false) : LmS) T4.1).2.2.1.length - (dBx D).length)) = _; rw [hL])]
      refine (show Go g κ 241 [some (.ref m), some (.int (nI i)), some (.ref e76), some (.ref n81), some (.ref x29), some (.ref it102), none, none, none] [.int (nI L.2.2.2.1)] [v6, v7, v5, v3, v4, u2_228, [(m, .inr (12, [.ref ls, .ref lb, .ref lk, .ref lp, .ref lr, .ref le, .ref lm, .ref lo, .int (nI 0), .int (lcg (dZz D)), .int (nI (dBn D + (L.2.2.1.length - (dBx D).length))), .int (nI (dCm D))]))], u1_238, u2_238, u3_238] (400 + 5 * (BN - L.2.2.1.length) + 10070 + 640 * (dMs D).length) (60000 + 130200 + 1600 * (dMs D).length) from ?_)
      have hscF := hsc T4.1 (Nat.le_refl _)
      rw [hL] at hscF
      have hLd : L.1.1 = T4.1 := by rw [← hL]; exact layM_d _ _ _ _
      have hp2L : 2 ^ L.1.1 = 2 ^ T4.1 := by rw [hLd]
      have hp2M : 2 ^ L.1.1 ≤ 16 := by omega
      have hxe1 : 2 ^ (eTr ((eNo Ep + 1, L.1, 0, 0, fun _ => none, L.2.2.2.2, rm2, pk) : MeS)).1 = 2 ^ L.1.1 := rfl
      refine g_istore (q := 243) (lv2 := [some (.ref m), some (.int (nI i)), some (.ref e76), some (.ref n81), some (.ref x29), some (.int (nI L.2.2.2.1)), none, none, none]) B dX3_commit_241 rfl (Nat.le_of_ble_eq_true rfl) rfl ?_
      refine g_aload_n (q := 244) B dX3_commit_243 rfl rfl (rv_r _) ?_
      refine g_aload_n (q := 245) B dX3_commit_244 rfl rfl (rv_r _) ?_
      obtain ⟨ap_15, an_15, al_15, ac_15, aw_15, am_15, ak_15, fp_15, fn_15, fl_15, fc_15, fw_15, fm_15, fk_15, hE_15, hfp_15, hfn_15, hfl_15, hfc_15, hfw_15, hfm_15, hfk_15, hc_15_0, hc_15_1, hc_15_2, hc_15_3, hc_15_4, hc_15_5, hc_15_6, hc_15_7⟩ := EpP.at (hE_76)
      refine g_getNM (q := 248) B (ci := 16) (k := 2) (j := 2) in_X13 rfl dX3_commit_245 rfl rfl (hc_15_0) (Nat.le_of_ble_eq_true rfl) q3258 rfl rfl ?_
      refine g_aload_n (q := 249) B dX3_commit_248 rfl rfl (rv_r _) ?_
      refine g_iload (q := 251) B dX3_commit_249 rfl rfl ?_
      refine g_iconst (v := -1) (q := 252) B dX3_commit_251 rfl (by decide) ?_
      refine g_iconst (v := nI 2) (q := 253) B dX3_commit_252 rfl (by decide) ?_
      refine g_callV (q := 256) (is := [6, 6]) (kc2 := 390 + 10070 + 640 * (dMs D).length) (ks2 := 54000 + 130200 + 1600 * (dMs D).length) B [.int (nI L.2.2.2.1), .int (-1), .int (nI 2)] (ct_X3_of g J (m := m) (ls := ls) (lb := lb) (lk := lk) (lp := lp) (lr := lr) (le := le) (lm := lm) (lo := lo) (th := 0) (z := (lcg (dZz D))) (bo := dBn D + (L.2.2.1.length - (dBx D).length)) (cm := (dCm D)) (ss := L.2.1) (o := L.2.2.2.1) (q := none) (l := 2) (s2 := f1) (i := u1) hr_13 (by omega) (hscF) (fun n h => by cases h) (by decide) (hf1)) dX3_commit_253 rfl (rc_at B (ci := 12) rfl (k := 6) rfl) rfl q3302 q3304 qs57 q85 q3305 rfl rfl moX3_of rfl rfl (by decide) (by decide) (Nat.le_of_ble_eq_true rfl) (by omega) (by omega) (fun _ _ hx => noX_x hx) (fun v253 L1 hp253 => ?_)
      obtain ⟨u1_253, rfl, rfl, hu1_253⟩ := hp253
      refine (show Go g κ 256 [some (.ref m), some (.int (nI i)), some (.ref e76), some (.ref n81), some (.ref x29), some (.int (nI L.2.2.2.1)), none, none, none] [.int (nI u1), .int (nI (eGo Ep)), .ref m] [v6, v7, v5, v3, v4, u2_228, u2_238, u3_238, [(m, .inr (12, [.ref ls, .ref lb, .ref lk, .ref lp, .ref lr, .ref le, .ref lm, .ref lo, .int (nI 0), .int (lcg (dZz D)), .int (nI (dBn D + (L.2.2.1.length - (dBx D).length))), .int (nI (dCm D))]))], u1_253] (390 + 10070 + 640 * (dMs D).length) (54000 + 130200 + 1600 * (dMs D).length) from ?_)
      refine g_iconst (v := nI 3) (q := 257) B dX3_commit_256 rfl (by decide) ?_
      refine g_callV (q := 260) (is := [8, 8]) (kc2 := 380 + 10070 + 640 * (dMs D).length) (ks2 := 47000 + 130200 + 1600 * (dMs D).length) B [.int (nI (eGo Ep)), .int (nI u1), .int (nI 3)] (ct_X3_of g J (m := m) (ls := ls) (lb := lb) (lk := lk) (lp := lp) (lr := lr) (le := le) (lm := lm) (lo := lo) (th := 0) (z := (lcg (dZz D))) (bo := (dBn D + (L.2.2.1.length - (dBx D).length))) (cm := (dCm D)) (ss := f1) (o := eGo Ep) (q := (some u1)) (l := 3) (s2 := f2) (i := bf) hu1_253 (by omega) (by omega) (fun n h => by cases h; omega) (by decide) (hf2)) dX3_commit_257 rfl (rc_at B (ci := 12) rfl (k := 8) rfl) rfl q3302 q3304 qs57 q85 q3305 rfl rfl moX3_of rfl rfl (by decide) (by decide) (Nat.le_of_ble_eq_true rfl) (by omega) (by omega) (fun _ _ hx => noX_x hx) (fun v257 L1 hp257 => ?_)
      obtain ⟨u1_257, rfl, rfl, hu1_257⟩ := hp257
      refine (show Go g κ 260 [some (.ref m), some (.int (nI i)), some (.ref e76), some (.ref n81), some (.ref x29), some (.int (nI L.2.2.2.1)), none, none, none] [.int (nI bf)] [v6, v7, v5, v3, v4, u2_228, u2_238, u3_238, [(m, .inr (12, [.ref ls, .ref lb, .ref lk, .ref lp, .ref lr, .ref le, .ref lm, .ref lo, .int (nI 0), .int (lcg (dZz D)), .int (nI (dBn D + (L.2.2.1.length - (dBx D).length))), .int (nI (dCm D))]))], u1_257] (380 + 10070 + 640 * (dMs D).length) (47000 + 130200 + 1600 * (dMs D).length) from ?_)
      refine g_istore (q := 262) (lv2 := [some (.ref m), some (.int (nI i)), some (.ref e76), some (.ref n81), some (.ref x29), some (.int (nI L.2.2.2.1)), some (.int (nI bf)), none, none]) B dX3_commit_260 rfl (Nat.le_of_ble_eq_true rfl) rfl ?_
      refine g_iconst (v := nI 0) (q := 263) B dX3_commit_262 rfl (by decide) ?_
      refine g_istore (q := 265) (lv2 := [some (.ref m), some (.int (nI i)), some (.ref e76), some (.ref n81), some (.ref x29), some (.int (nI L.2.2.2.1)), some (.int (nI bf)), some (.int (nI 0)), none]) B dX3_commit_263 rfl (Nat.le_of_ble_eq_true rfl) rfl ?_
      have lp265 : ∀ (n265 : Nat) (k : Nat) (U : BxS) (bm : Nat) (l265_6 : va_W) (l265_9 : va_W), LhP g (BbP g) lb U.2 (capF U.2.length) l265_6 → LhP g (SecP g) ls U.1 (capF U.1.length) l265_9 → (k ≤ 2 ^ L.1.1) → (U = wlM sec pk Ks3 bf (f2, L.2.2.1) k) → (bm + (dBx D).length = dBn D + U.2.length) → 17 - k = n265 → Go g κ 265 [some (.ref m), some (.int (nI i)), some (.ref e76), some (.ref n81), some (.ref x29), some (.int (nI L.2.2.2.1)), some (.int (nI bf)), some (.int (nI k)), none] [] [v6, v7, v5, v3, v4, u2_228, l265_6, u3_238, [(m, .inr (12, [.ref ls, .ref lb, .ref lk, .ref lp, .ref lr, .ref le, .ref lm, .ref lo, .int (nI 0), .int (lcg (dZz D)), .int (nI bm), .int (nI (dCm D))]))], l265_9] (10 * (16 - k) + 150 + 10070 + 640 * (dMs D).length) (16 * (16 - k) + 4 * (1480 - capF U.1.length) + 4 * (3000 - capF U.2.length) + 20000 + 130200 + 1600 * (dMs D).length) := by
        intro n265
        induction n265 using Nat.strongRecOn with
        | _ n265 ih265 =>
        intro k U bm l265_6 l265_9 hl265_6 hl265_9 hk hU hbm hmu265
        refine g_iload (q := 267) B dX3_commit_265 rfl rfl ?_
        refine g_aload_n (q := 268) B dX3_commit_267 rfl rfl (rv_r _) ?_
        obtain ⟨ap_16, an_16, al_16, ac_16, aw_16, am_16, ak_16, fp_16, fn_16, fl_16, fc_16, fw_16, fm_16, fk_16, hE_16, hfp_16, hfn_16, hfl_16, hfc_16, hfw_16, hfm_16, hfk_16, hc_16_0, hc_16_1, hc_16_2, hc_16_3, hc_16_4, hc_16_5, hc_16_6, hc_16_7⟩ := EpP.at (Sub.self hr_12)
        refine g_getNM (q := 271) B (ci := 16) (k := 7) (j := 1) in_X13 rfl dX3_commit_268 rfl rfl (hc_16_0) (Nat.le_of_ble_eq_true rfl) q3257 rfl rfl ?_
        refine g_icmp_ge (tgt := 344) (q := 274) B dX3_commit_271 rfl (by decide) (nI_leI (by omega) (by omega)) (fun c271 => ?_) (fun c271 => ?_)
        · skip
          have hUF : U = W := by rw [hU, show k = 2 ^ L.1.1 by omega]; exact hW
          have hr_17 : LhP g (SecP g) ls W.1 (capF W.1.length) l265_9 := by rw [← hUF]; exact hl265_9
          have hr_18 : LhP g (BbP g) lb W.2 (capF W.2.length) l265_6 := by rw [← hUF]; exact hl265_6
          rw [(show nI bm = nI (dBn D + (W.2.length - (dBx D).length)) from by rw [← hUF]; congr 1; have h9 : (dBx D).length ≤ U.2.length := (by rw [hUF]; omega); omega)]
          refine (show Go g κ 344 [some (.ref m), some (.int (nI i)), some (.ref e76), some (.ref n81), some (.ref x29), some (.int (nI L.2.2.2.1)), some (.int (nI bf)), some (.int (nI k)), none] [] [v6, v7, v5, v3, v4, u2_228, l265_6, u3_238, [(m, .inr (12, [.ref ls, .ref lb, .ref lk, .ref lp, .ref lr, .ref le, .ref lm, .ref lo, .int (nI 0), .int (lcg (dZz D)), .int (nI (dBn D + (W.2.length - (dBx D).length))), .int (nI (dCm D))]))], l265_9] (10 * (16 - k) + 150 + 10070 + 640 * (dMs D).length) (16 * (16 - k) + 4 * (1480 - capF U.1.length) + 4 * (3000 - capF U.2.length) + 20000 + 130200 + 1600 * (dMs D).length) from ?_)
          refine g_aload_n (q := 345) B dX3_commit_344 rfl rfl (rv_r _) ?_
          refine g_aload_n (q := 346) B dX3_commit_345 rfl rfl (rv_r _) ?_
          refine g_aload_n (q := 347) B dX3_commit_346 rfl rfl (rv_r _) ?_
          refine g_iload (q := 349) B dX3_commit_347 rfl rfl ?_
          refine g_iconst (v := -1) (q := 350) B dX3_commit_349 rfl (by decide) ?_
          refine g_iconst (v := nI 4) (q := 351) B dX3_commit_350 rfl (by decide) ?_
          refine g_callV (q := 354) (is := [8, 8]) (kc2 := 120 + 10070 + 640 * (dMs D).length) (ks2 := 10000 + 130200 + 1600 * (dMs D).length) B [.int (nI bf), .int (-1), .int (nI 4)] (ct_X3_of g J (m := m) (ls := ls) (lb := lb) (lk := lk) (lp := lp) (lr := lr) (le := le) (lm := lm) (lo := lo) (th := 0) (z := (lcg (dZz D))) (bo := dBn D + (W.2.length - (dBx D).length)) (cm := (dCm D)) (ss := W.1) (o := bf) (q := none) (l := 4) (s2 := f4) (i := es) hr_17 (by omega) (by omega) (fun n h => by cases h) (by decide) (hf4)) dX3_commit_351 rfl (rc_at B (ci := 12) rfl (k := 8) rfl) rfl q3302 q3304 qs57 q85 q3305 rfl rfl moX3_of rfl rfl (by decide) (by decide) (Nat.le_of_ble_eq_true rfl) (by omega) (by omega) (fun _ _ hx => noX_x hx) (fun v351 L1 hp351 => ?_)
          obtain ⟨u1_351, rfl, rfl, hu1_351⟩ := hp351
          refine (show Go g κ 354 [some (.ref m), some (.int (nI i)), some (.ref e76), some (.ref n81), some (.ref x29), some (.int (nI L.2.2.2.1)), some (.int (nI bf)), some (.int (nI k)), none] [.int (nI es), .ref n81, .ref m] [v6, v7, v5, v3, v4, u2_228, l265_6, u3_238, [(m, .inr (12, [.ref ls, .ref lb, .ref lk, .ref lp, .ref lr, .ref le, .ref lm, .ref lo, .int (nI 0), .int (lcg (dZz D)), .int (nI (dBn D + (W.2.length - (dBx D).length))), .int (nI (dCm D))]))], u1_351] (120 + 10070 + 640 * (dMs D).length) (10000 + 130200 + 1600 * (dMs D).length) from ?_)
          refine g_callV (q := 357) (is := [8, 8, 7, 2]) (kc2 := 60 + 10070 + 640 * (dMs D).length) (ks2 := 400 + 130200 + 1600 * (dMs D).length) B [.ref n81, .int (nI es)] (ct_X3_begins g J (m := m) (ls := ls) (lb := lb) (lk := lk) (lp := lp) (lr := lr) (le := le) (lm := lm) (lo := lo) (th := 0) (z := (lcg (dZz D))) (bo := (dBn D + (W.2.length - (dBx D).length))) (cm := (dCm D)) (ss := f4) (e := n81) (r := ((eNo Ep + 1, L.1, 0, 0, fun _ => none, L.2.2.2.2, rm2, pk) : MeS)) (Es := (dEs D)) (ecap := ecap) (sec := es) (s1 := g1) (on := on) (s2 := g2) (ky := ky) (TA := (capF (chM L.1 es g2 (2 ^ L.1.1)).1.length)) hu1_351 hr_12 hv5 (by omega) (hg1) (hg2) (hfl) (Nat.le_refl _) (rfl) (by omega) (by omega)) dX3_commit_354 rfl (rc_at B (ci := 12) rfl (k := 8) rfl) rfl q3298 q3300 qs56 q85 q3301 rfl rfl moX3_begins rfl rfl (by decide) (by decide) (Nat.le_of_ble_eq_true rfl) (by omega) (by omega) (fun _ _ hx => noX_x hx) (fun v354 L1 hp354 => ?_)
          obtain ⟨u1_354, u2_354, rfl, rfl, hu1_354, hu2_354, hE_354⟩ := hp354
          refine (show Go g κ 357 [some (.ref m), some (.int (nI i)), some (.ref e76), some (.ref n81), some (.ref x29), some (.int (nI L.2.2.2.1)), some (.int (nI bf)), some (.int (nI k)), none] [] [v6, v7, v3, v4, u2_228, l265_6, [(m, .inr (12, [.ref ls, .ref lb, .ref lk, .ref lp, .ref lr, .ref le, .ref lm, .ref lo, .int (nI 0), .int (lcg (dZz D)), .int (nI (dBn D + (W.2.length - (dBx D).length))), .int (nI (dCm D))]))], u1_354, u2_354] (60 + 10070 + 640 * (dMs D).length) (400 + 130200 + 1600 * (dMs D).length) from ?_)
          refine g_aload_n (q := 358) B dX3_commit_357 rfl rfl (rv_r _) ?_
          refine g_dup (q := 359) B dX3_commit_358 rfl rfl ?_
          refine g_get (q := 362) B (ci := 12) (k := 6) (j := 11) in_X3 rfl dX3_commit_359 rfl rfl (Nat.le_of_ble_eq_true rfl) q3068 rfl rfl ?_
          refine g_iconst (v := nI 1) (q := 363) B dX3_commit_362 rfl (by decide) ?_
          refine g_iadd (v := nI ((dCm D) + 1)) (q := 364) B dX3_commit_363 rfl (nI_add _ _) ?_
          refine g_put (q := 367) (L2 := [v6, v7, v3, v4, u2_228, l265_6, [(m, .inr (12, [.ref ls, .ref lb, .ref lk, .ref lp, .ref lr, .ref le, .ref lm, .ref lo, .int (nI 0), .int (lcg (dZz D)), .int (nI (dBn D + (W.2.length - (dBx D).length))), .int (nI ((dCm D) + 1))]))], u1_354, u2_354]) B (ci := 12) (k := 6) (j := 11) in_X3 tyX3 tyX3_ok nmX3 rfl dX3_commit_364 rfl rfl (Nat.le_of_ble_eq_true rfl) q3068 rfl rfl rfl rfl (Nat.le_of_ble_eq_true rfl) rfl ?_
          refine g_aload_n (q := 368) B dX3_commit_367 rfl rfl (rv_r _) ?_
          refine g_get (q := 371) B (ci := 12) (k := 6) (j := 4) in_X3 rfl dX3_commit_368 rfl rfl (Nat.le_of_ble_eq_true rfl) q3061 rfl rfl ?_
          refine g_callV (q := 374) (is := [3]) (kc2 := 60 + 10070 + 640 * (dMs D).length) (ks2 := 400 + 130200 + 1600 * (dMs D).length) B [] (ct_clear_MrL g J (p := lr) (rs := (dRs D)) (cap := rcap) hv4 ) dX3_commit_371 rfl (rc_in B (ci := 21) rfl (k := 3) rfl (LhP.hm hv4)) rfl q3494 q2747 q3670 q81 q2749 rfl rfl moJ2_clear rfl rfl (by decide) (by decide) (Nat.le_of_ble_eq_true rfl) (by omega) (by omega) (fun _ _ hx => noX_x hx) (fun v371 L1 hp371 => ?_)
          obtain ⟨u0_371, rfl, rfl, hu0_371⟩ := hp371
          refine (show Go g κ 374 [some (.ref m), some (.int (nI i)), some (.ref e76), some (.ref n81), some (.ref x29), some (.int (nI L.2.2.2.1)), some (.int (nI bf)), some (.int (nI k)), none] [] [v6, v7, v3, u2_228, l265_6, [(m, .inr (12, [.ref ls, .ref lb, .ref lk, .ref lp, .ref lr, .ref le, .ref lm, .ref lo, .int (nI 0), .int (lcg (dZz D)), .int (nI (dBn D + (W.2.length - (dBx D).length))), .int (nI ((dCm D) + 1))]))], u1_354, u2_354, u0_371] (60 + 10070 + 640 * (dMs D).length) (400 + 130200 + 1600 * (dMs D).length) from ?_)
          obtain ⟨lu1_o, lwi_o, lu2_o, hlwi_o, hlcl_o, hle_o⟩ := LoP.opn hv3 hx29 hr
          refine g_open 2 rfl hle_o rfl ?_
          refine (show Go g κ 374 [some (.ref m), some (.int (nI i)), some (.ref e76), some (.ref n81), some (.ref x29), some (.int (nI L.2.2.2.1)), some (.int (nI bf)), some (.int (nI k)), none] [] [v6, v7, u2_228, l265_6, [(m, .inr (12, [.ref ls, .ref lb, .ref lk, .ref lp, .ref lr, .ref le, .ref lm, .ref lo, .int (nI 0), .int (lcg (dZz D)), .int (nI (dBn D + (W.2.length - (dBx D).length))), .int (nI ((dCm D) + 1))]))], u1_354, u2_354, u0_371, lu1_o, lwi_o, lu2_o] (60 + 10070 + 640 * (dMs D).length) (400 + 130200 + 1600 * (dMs D).length) from ?_)
          obtain ⟨nd_o, ch_o, ev_o, cv_o, fn_o, fc_o, v0_o, v1_o, hM_o, hfn_o, hoc_o, hcv_o, hv0_o, hv1_o, rfl⟩ := hlwi_o
          refine g_open 9 rfl rfl rfl ?_
          refine (show Go g κ 374 [some (.ref m), some (.int (nI i)), some (.ref e76), some (.ref n81), some (.ref x29), some (.int (nI L.2.2.2.1)), some (.int (nI bf)), some (.int (nI k)), none] [] [v6, v7, u2_228, l265_6, [(m, .inr (12, [.ref ls, .ref lb, .ref lk, .ref lp, .ref lr, .ref le, .ref lm, .ref lo, .int (nI 0), .int (lcg (dZz D)), .int (nI (dBn D + (W.2.length - (dBx D).length))), .int (nI ((dCm D) + 1))]))], u1_354, u2_354, u0_371, lu1_o, lu2_o, [(x29, .inr (13, [.int (oI (mEp r)), .int (nI (mLf r)), .int (nI (mLs r)), .int (oI (mRn r)), .ref nd_o, .ref ch_o, .ref ev_o]))], [(nd_o, .inl (g.2.1 0, 31, .inl fn_o))], [(ch_o, .inl (g.2.1 5, 16, .inr (.inr (.inr (.inr fc_o)))))], v0_o, v1_o] (60 + 10070 + 640 * (dMs D).length) (400 + 130200 + 1600 * (dMs D).length) from ?_)
          refine g_aload (q := 376) B dX3_commit_374 rfl rfl (rv_r _) ?_
          refine g_aload_n (q := 377) B dX3_commit_376 rfl rfl (rv_r _) ?_
          obtain ⟨ap_19, an_19, al_19, ac_19, aw_19, am_19, ak_19, fp_19, fn_19, fl_19, fc_19, fw_19, fm_19, fk_19, hE_19, hfp_19, hfn_19, hfl_19, hfc_19, hfw_19, hfm_19, hfk_19, hc_19_0, hc_19_1, hc_19_2, hc_19_3, hc_19_4, hc_19_5, hc_19_6, hc_19_7⟩ := EpP.at (hE_354)
          refine g_getNM (q := 380) B (ci := 16) (k := 6) (j := 5) in_X13 rfl dX3_commit_377 rfl rfl (hc_19_0) (Nat.le_of_ble_eq_true rfl) q3263 rfl rfl ?_
          refine g_iconst (v := nI 2) (q := 381) B dX3_commit_380 rfl (by decide) ?_
          refine g_aload (q := 383) B dX3_commit_381 rfl rfl (rv_r _) ?_
          refine g_getN (q := 386) B (ci := 13) (k := 10) (j := 1) in_X5 rfl dX3_commit_383 rfl rfl (Nat.le_of_ble_eq_true rfl) q3119 rfl rfl ?_
          refine g_imul (v := nI (2 * (mLf r))) (q := 387) B dX3_commit_386 rfl (pk_mul _ _) ?_
          refine g_ialdM (v := oI (((eTr ((eNo Ep + 1, L.1, on, ky, (chM L.1 es g2 (2 ^ L.1.1)).2, L.2.2.2.2, rm2, pk) : MeS)).2.1) (2 * (mLf r)))) (q := 388) B (k := 6) dX3_commit_387 rfl rfl (hc_19_2) (vp_in_nI (by omega) (by omega)) (by rw [nI_clamp (by omega)]; exact hfn_19 _ (by omega)) ?_
          refine g_stk (y := .int (nI lsn)) (by rw [hls]; rfl) ?_
          refine g_putN (q := 391) (L2 := [v6, v7, u2_228, l265_6, [(m, .inr (12, [.ref ls, .ref lb, .ref lk, .ref lp, .ref lr, .ref le, .ref lm, .ref lo, .int (nI 0), .int (lcg (dZz D)), .int (nI (dBn D + (W.2.length - (dBx D).length))), .int (nI ((dCm D) + 1))]))], u1_354, u2_354, u0_371, lu1_o, lu2_o, [(x29, .inr (13, [.int (oI (mEp r)), .int (nI (mLf r)), .int (nI lsn), .int (oI (mRn r)), .ref nd_o, .ref ch_o, .ref ev_o]))], [(nd_o, .inl (g.2.1 0, 31, .inl fn_o))], [(ch_o, .inl (g.2.1 5, 16, .inr (.inr (.inr (.inr fc_o)))))], v0_o, v1_o]) B (ci := 13) (k := 10) (j := 2) in_X5 tyX5 tyX5_ok nmX5 rfl dX3_commit_388 rfl rfl (Nat.le_of_ble_eq_true rfl) q3120 rfl rfl rfl rfl (Nat.le_of_ble_eq_true rfl) rfl ?_
          obtain ⟨wc_20, ewc_20⟩ : ∃ w : va_W, w = ([[(x29, .inr (13, [.int (oI (mEp r)), .int (nI (mLf r)), .int (nI lsn), .int (oI (mRn r)), .ref nd_o, .ref ch_o, .ref ev_o]))], [(nd_o, .inl (g.2.1 0, 31, .inl fn_o))], [(ch_o, .inl (g.2.1 5, 16, .inr (.inr (.inr (.inr fc_o)))))], v0_o, v1_o] : List va_W).flatten := ⟨_, rfl⟩
          have hwc_20 : MpP g x29 ((mEp r, mLf r, lsn, mRn r, mNd r, mCh r, mEv r) : MpS) wc_20 := by
            rw [ewc_20]
            exact ⟨nd_o, ch_o, ev_o, cv_o, fn_o, fc_o, _, _, (by obtain ⟨m1, m2, m3, m4, m5, m6, m7, m8⟩ := hM_o; exact ⟨m1, m2, (show lsn < 1000 from (EpP.b2 hE_354).2.1.2.1 _ _ hls), m4, m5, m6, m7, m8⟩), hfn_o, hoc_o, hcv_o, hv0_o, hv1_o, rfl⟩
          refine g_close (w := wc_20) [10, 10, 10, 10, 10] rfl ewc_20 rfl ?_
          refine (show Go g κ 391 [some (.ref m), some (.int (nI i)), some (.ref e76), some (.ref n81), some (.ref x29), some (.int (nI L.2.2.2.1)), some (.int (nI bf)), some (.int (nI k)), none] [] [v6, v7, u2_228, l265_6, [(m, .inr (12, [.ref ls, .ref lb, .ref lk, .ref lp, .ref lr, .ref le, .ref lm, .ref lo, .int (nI 0), .int (lcg (dZz D)), .int (nI (dBn D + (W.2.length - (dBx D).length))), .int (nI ((dCm D) + 1))]))], u1_354, u2_354, u0_371, lu1_o, lu2_o, wc_20] (60 + 10070 + 640 * (dMs D).length) (400 + 130200 + 1600 * (dMs D).length) from ?_)
          refine g_aload (q := 393) B dX3_commit_391 rfl rfl (rv_r _) ?_
          refine g_aload_n (q := 394) B dX3_commit_393 rfl rfl (rv_r _) ?_
          refine g_iconst (v := nI 0) (q := 395) B dX3_commit_394 rfl (by decide) ?_
          refine g_callS (q := 398) (is := [10, 6]) (kc2 := 60 + 10070 + 640 * (dMs D).length) (ks2 := 400 + 130200 + 1600 * (dMs D).length) B [.ref x29, .ref n81, .int (nI 0)] (ct_X3_gets g J (a := x29) (r := ((mEp r, mLf r, lsn, mRn r, mNd r, mCh r, mEv r) : MpS)) (e := n81) (Ep := ((eNo Ep + 1, L.1, on, ky, (chM L.1 es g2 (2 ^ L.1.1)).2, L.2.2.2.2, rm2, pk) : MeS)) (fm := 0) (we := u2_354) hwc_20 (hE_354) (by omega)) dX3_commit_395 rfl q3495 q3496 q85 q3497 rfl rfl moX3_gets rfl rfl (by decide) (by decide) (Nat.le_of_ble_eq_true rfl) (by omega) (by omega) (fun _ _ hx => noX_x hx) (fun v395 L1 hp395 => ?_)
          obtain ⟨u0_395, rfl, rfl, hu0_395⟩ := hp395
          refine (show Go g κ 398 [some (.ref m), some (.int (nI i)), some (.ref e76), some (.ref n81), some (.ref x29), some (.int (nI L.2.2.2.1)), some (.int (nI bf)), some (.int (nI k)), none] [] [v6, v7, u2_228, l265_6, [(m, .inr (12, [.ref ls, .ref lb, .ref lk, .ref lp, .ref lr, .ref le, .ref lm, .ref lo, .int (nI 0), .int (lcg (dZz D)), .int (nI (dBn D + (W.2.length - (dBx D).length))), .int (nI ((dCm D) + 1))]))], u1_354, u0_371, lu1_o, lu2_o, u0_395, u2_354] (60 + 10070 + 640 * (dMs D).length) (400 + 130200 + 1600 * (dMs D).length) from ?_)
          refine g_aload_n (q := 399) B dX3_commit_398 rfl rfl (rv_r _) ?_
          refine g_aload (q := 401) B dX3_commit_399 rfl rfl (rv_r _) ?_
          refine g_aload_n (q := 402) B dX3_commit_401 rfl rfl (rv_r _) ?_
          refine g_callV (q := 405) (is := [4, 8, 8]) (kc2 := (60 + 10070 + 640 * (dMs D).length) - 48) (ks2 := (400 + 130200 + 1600 * (dMs D).length) - 160) B [.ref x29, .ref n81] (ct_X3_comes g J (m := m) (ls := ls) (lb := lb) (lk := lk) (lp := lp) (lr := lr) (le := le) (lm := lm) (lo := lo) (th := 0) (z := (lcg (dZz D))) (bo := (dBn D + (W.2.length - (dBx D).length))) (cm := (dCm D) + 1) (a := x29) (r := (getR ((mEp r, mLf r, lsn, mRn r, mNd r, mCh r, mEv r) : MpS) ((eNo Ep + 1, L.1, on, ky, (chM L.1 es g2 (2 ^ L.1.1)).2, L.2.2.2.2, rm2, pk) : MeS) 0)) (e := n81) (Ep := ((eNo Ep + 1, L.1, on, ky, (chM L.1 es g2 (2 ^ L.1.1)).2, L.2.2.2.2, rm2, pk) : MeS)) (we := u2_354) hu0_395 (hE_354)) dX3_commit_402 rfl (rc_at B (ci := 12) rfl (k := 4) rfl) rfl q3306 q3308 qs58 q85 q3309 rfl rfl moX3_comes rfl rfl (by decide) (by decide) (Nat.le_of_ble_eq_true rfl) (by omega) (by omega) (fun _ _ hx => noX_x hx) (fun v402 L1 hp402 => ?_)
          obtain ⟨u1_402, rfl, rfl, hu1_402⟩ := hp402
          refine (show Go g κ 405 [some (.ref m), some (.int (nI i)), some (.ref e76), some (.ref n81), some (.ref x29), some (.int (nI L.2.2.2.1)), some (.int (nI bf)), some (.int (nI k)), none] [] [v6, v7, u2_228, l265_6, u1_354, u0_371, lu1_o, lu2_o, [(m, .inr (12, [.ref ls, .ref lb, .ref lk, .ref lp, .ref lr, .ref le, .ref lm, .ref lo, .int (nI 0), .int (lcg (dZz D)), .int (nI (dBn D + (W.2.length - (dBx D).length))), .int (nI ((dCm D) + 1))]))], u1_402, u2_354] ((60 + 10070 + 640 * (dMs D).length) - 48) ((400 + 130200 + 1600 * (dMs D).length) - 160) from ?_)
          obtain ⟨wc_21, ewc_21⟩ : ∃ w : va_W, w = ([lu1_o, u1_402, lu2_o] : List va_W).flatten := ⟨_, rfl⟩
          have hwc_21 : LoP g (MpP g) lp mps ((dPs D).set i (comR (getR ((mEp r, mLf r, lsn, mRn r, mNd r, mCh r, mEv r) : MpS) ((eNo Ep + 1, L.1, on, ky, (chM L.1 es g2 (2 ^ L.1.1)).2, L.2.2.2.2, rm2, pk) : MeS) 0) ((eNo Ep + 1, L.1, on, ky, (chM L.1 es g2 (2 ^ L.1.1)).2, L.2.2.2.2, rm2, pk) : MeS))) pcap wc_21 := by
            rw [ewc_21]
            exact hlcl_o _ _ hu1_402
          refine g_close (w := wc_21) [6, 8, 6] rfl ewc_21 rfl ?_
          refine (show Go g κ 405 [some (.ref m), some (.int (nI i)), some (.ref e76), some (.ref n81), some (.ref x29), some (.int (nI L.2.2.2.1)), some (.int (nI bf)), some (.int (nI k)), none] [] [v6, v7, u2_228, l265_6, u1_354, u0_371, [(m, .inr (12, [.ref ls, .ref lb, .ref lk, .ref lp, .ref lr, .ref le, .ref lm, .ref lo, .int (nI 0), .int (lcg (dZz D)), .int (nI (dBn D + (W.2.length - (dBx D).length))), .int (nI ((dCm D) + 1))]))], u2_354, wc_21] ((60 + 10070 + 640 * (dMs D).length) - 48) ((400 + 130200 + 1600 * (dMs D).length) - 160) from ?_)
          have hpl9 : ((dPs D).set i (comR (getR ((mEp r, mLf r, lsn, mRn r, mNd r, mCh r, mEv r) : MpS) ((eNo Ep + 1, L.1, on, ky, (chM L.1 es g2 (2 ^ L.1.1)).2, L.2.2.2.2, rm2, pk) : MeS) 0) ((eNo Ep + 1, L.1, on, ky, (chM L.1 es g2 (2 ^ L.1.1)).2, L.2.2.2.2, rm2, pk) : MeS))).length = (dPs D).length := List.length_set
          refine g_aload_n (q := 406) B dX3_commit_405 rfl rfl (rv_r _) ?_
          have hnt := nt_r (Q := (dMs D).length) (show ((dPs D).set i (comR (getR ((mEp r, mLf r, lsn, mRn r, mNd r, mCh r, mEv r) : MpS) ((eNo Ep + 1, L.1, on, ky, (chM L.1 es g2 (2 ^ L.1.1)).2, L.2.2.2.2, rm2, pk) : MeS) 0) ((eNo Ep + 1, L.1, on, ky, (chM L.1 es g2 (2 ^ L.1.1)).2, L.2.2.2.2, rm2, pk) : MeS))).length ≤ 10 from by omega) (show Ks3.length ≤ 24 from hks3) (show (chM L.1 es g2 (2 ^ L.1.1)).1.length ≤ 980 from hfl)
          obtain ⟨hnr1, hnr2⟩ := hnt
          refine g_callV (q := 409) (is := [6, 2, 6, 5]) (kc2 := 0) (ks2 := 0) B [] (ct_X3_notes g J (m := m) (ls := ls) (lb := lb) (lk := lk) (lp := lp) (lr := lr) (le := le) (lm := lm) (lo := lo) (th := 0) (z := (lcg (dZz D))) (bo := (dBn D + (W.2.length - (dBx D).length))) (cm := ((dCm D) + 1)) (mks := mks) (Ks := Ks3) (kcap := kcap) (mps := mps) (Ps := ((dPs D).set i (comR (getR ((mEp r, mLf r, lsn, mRn r, mNd r, mCh r, mEv r) : MpS) ((eNo Ep + 1, L.1, on, ky, (chM L.1 es g2 (2 ^ L.1.1)).2, L.2.2.2.2, rm2, pk) : MeS) 0) ((eNo Ep + 1, L.1, on, ky, (chM L.1 es g2 (2 ^ L.1.1)).2, L.2.2.2.2, rm2, pk) : MeS)))) (pcap := pcap) (Es := ((dEs D) ++ [((eNo ((eNo Ep + 1, L.1, 0, 0, fun _ => none, L.2.2.2.2, rm2, pk) : MeS), eTr ((eNo Ep + 1, L.1, 0, 0, fun _ => none, L.2.2.2.2, rm2, pk) : MeS), on, ky, (chM (eTr ((eNo Ep + 1, L.1, 0, 0, fun _ => none, L.2.2.2.2, rm2, pk) : MeS)) es g2 (2 ^ (eTr ((eNo Ep + 1, L.1, 0, 0, fun _ => none, L.2.2.2.2, rm2, pk) : MeS)).1)).2, eWy ((eNo Ep + 1, L.1, 0, 0, fun _ => none, L.2.2.2.2, rm2, pk) : MeS), eRm ((eNo Ep + 1, L.1, 0, 0, fun _ => none, L.2.2.2.2, rm2, pk) : MeS), ePk ((eNo Ep + 1, L.1, 0, 0, fun _ => none, L.2.2.2.2, rm2, pk) : MeS)) : MeS)])) (ecap := (if (dEs D).length = ecap then growN ecap else ecap)) (n := (chM L.1 es g2 (2 ^ L.1.1)).1.length) (Q := (dMs D).length) hr_11 hwc_21 hu2_354 (by omega) (fun i_ r_ e_ h1_ h2_ => (hN i_ r_ h1_).1 e_ h2_) (fun i_ r_ k_ c_ h1_ h2_ => (hN i_ r_ h1_).2.1 k_ c_ h2_) (fun i_ r_ x_ h1_ h2_ => (hN i_ r_ h1_).2.2.1 x_ h2_) (fun i_ r_ h1_ => (hN i_ r_ h1_).2.2.2) (Nat.le_trans (hfl) (by decide : 980 ≤ 1000))) dX3_commit_406 rfl (rc_at B (ci := 12) rfl (k := 6) rfl) rfl q3223 q3225 qs54 q85 q3226 rfl rfl moX3_notes rfl rfl (by decide) (by decide) (Nat.le_of_ble_eq_true rfl) (by omega) (by omega) (fun _ _ hx => noX_x hx) (fun v406 L1 hp406 => ?_)
          obtain ⟨Qs406, u2_406, rfl, rfl, hu2_406, hN_406⟩ := hp406
          refine (show Go g κ 409 [some (.ref m), some (.int (nI i)), some (.ref e76), some (.ref n81), some (.ref x29), some (.int (nI L.2.2.2.1)), some (.int (nI bf)), some (.int (nI k)), none] [] [v6, v7, l265_6, u1_354, u0_371, [(m, .inr (12, [.ref ls, .ref lb, .ref lk, .ref lp, .ref lr, .ref le, .ref lm, .ref lo, .int (nI 0), .int (lcg (dZz D)), .int (nI (dBn D + (W.2.length - (dBx D).length))), .int (nI ((dCm D) + 1))]))], u2_228, u2_406, u2_354] 0 0 from ?_)
          refine g_aload_n (q := 410) B dX3_commit_409 rfl rfl (rv_r _) ?_
          refine g_getNM (q := 413) B (ci := 16) (k := 8) (j := 0) in_X13 rfl dX3_commit_410 rfl rfl (hc_19_0) (Nat.le_of_ble_eq_true rfl) q3255 rfl rfl ?_
          obtain ⟨wc_22, ewc_22⟩ : ∃ w : va_W, w = ([[(m, .inr (12, [.ref ls, .ref lb, .ref lk, .ref lp, .ref lr, .ref le, .ref lm, .ref lo, .int (nI 0), .int (lcg (dZz D)), .int (nI (dBn D + (W.2.length - (dBx D).length))), .int (nI ((dCm D) + 1))]))], u1_354, l265_6, u2_228, u2_406, u0_371, u2_354, v6, v7] : List va_W).flatten := ⟨_, rfl⟩
          have hwc_22 : KdP g m (((chM L.1 es g2 (2 ^ L.1.1)).1, W.2, Ks3, Qs406, [], dEs D ++ [((eNo Ep + 1, L.1, on, ky, (chM L.1 es g2 (2 ^ L.1.1)).2, L.2.2.2.2, rm2, pk) : MeS)], dMs D, dSo D, 0, lcg (dZz D), dBn D + (W.2.length - (dBx D).length), dCm D + 1) : MdS) wc_22 := by
            rw [ewc_22]
            exact ⟨ls, lb, lk, lp, lr, le, lm, lo, kcap, pcap, rcap, (if (dEs D).length = ecap then growN ecap else ecap), mcap, mks, mps, _, _, _, _, _, _, _, _, (by first | exact hcap | exact ⟨by first | exact kc1 | exact grow_b (by omega) kc1, by first | exact kc2 | exact grow_b (by omega) kc2, by first | exact kc3 | exact grow_b (by omega) kc3, by first | exact kc4 | exact grow_b (by omega) kc4, by first | exact kc5 | (have := grow_b (n := (dMs D).length) (cap := mcap) (by omega); first | omega | (unfold growN; split <;> (try split) <;> omega))⟩), hu1_354, hr_18, hr_11, hu2_406, hu0_371, hu2_354, hv6, hv7, rfl⟩
          refine g_close (w := wc_22) [5, 3, 2, 3, 3, 2, 2, 0, 0] rfl ewc_22 rfl ?_
          refine (show Go g κ 413 [some (.ref m), some (.int (nI i)), some (.ref e76), some (.ref n81), some (.ref x29), some (.int (nI L.2.2.2.1)), some (.int (nI bf)), some (.int (nI k)), none] [.int (nI (eNo ((eNo Ep + 1, L.1, on, ky, (chM L.1 es g2 (2 ^ L.1.1)).2, L.2.2.2.2, rm2, pk) : MeS)))] [wc_22] 0 0 from ?_)
          exact g_iret B E dX3_commit_413 (⟨Qs406, _, rfl, rfl, hwc_22, hN_406⟩)
        · skip
          have hUm := wlM_m sec pk Ks3 bf (f2, L.2.2.1) (show k ≤ 2 ^ L.1.1 by omega)
          rw [← hU, hW] at hUm
          obtain ⟨hU1, hU2, hU3⟩ := hUm
          have hU0 := wlM_m sec pk Ks3 bf (f2, L.2.2.1) (Nat.zero_le k)
          rw [← hU] at hU0
          obtain ⟨hU4, hU5, hU6⟩ := hU0
          have hU5 : f2.length ≤ U.1.length := hU5
          have hU6 : L.2.2.1.length ≤ U.2.length := hU6
          have hNm := wlM_m sec pk Ks3 bf (f2, L.2.2.1) (show k + 1 ≤ 2 ^ L.1.1 by omega)
          have hNe : wlM sec pk Ks3 bf (f2, L.2.2.1) (k + 1) = wlM1 sec pk Ks3 bf U k := by rw [hU]; rfl
          rw [hNe, hW] at hNm
          obtain ⟨hN1, hN2, hN3⟩ := hNm
          refine g_aload_n (q := 275) B dX3_commit_274 rfl rfl (rv_r _) ?_
          refine g_getNM (q := 278) B (ci := 16) (k := 7) (j := 10) in_X13 rfl dX3_commit_275 rfl rfl (hc_16_0) (Nat.le_of_ble_eq_true rfl) q3273 rfl rfl ?_
          refine g_iload (q := 280) B dX3_commit_278 rfl rfl ?_
          refine g_ialdM (v := oI ((ePk ((eNo Ep + 1, L.1, 0, 0, fun _ => none, L.2.2.2.2, rm2, pk) : MeS)) k)) (q := 281) B (k := 7) dX3_commit_280 rfl rfl (hc_16_7) (vp_in_nI (by omega) (by omega)) (by rw [nI_clamp (by omega)]; exact hfk_16 _ (by omega)) ?_
          refine g_iconst (v := -1) (q := 282) B dX3_commit_281 rfl (by decide) ?_
          refine g_icmp_ne (tgt := 288) (q := 285) B dX3_commit_282 rfl (by decide) (oI_nn ((fun n h => by have := hE_16.2.2.2.2.2 _ _ h; omega))) (fun c282 => ?_) (fun c282 => ?_)
          · skip
            obtain ⟨v282, ev282⟩ := Option.ne_none_iff_exists'.mp c282
            obtain ⟨q, k0, hq, hqs, hk1, hk4, hw, hwn, hsn, hsl⟩ := hlw k _ (by omega) ev282
            obtain ⟨⟨a1, b1⟩, hb1⟩ : ∃ p, frm U.1 (q.2.2.1, none, 1) = p := ⟨_, rfl⟩
            obtain ⟨⟨a2, b2⟩, hb2⟩ : ∃ p, frm a1 (q.2.2.1, none, 1) = p := ⟨_, rfl⟩
            have hbg1 := Ph_fr hb1
            have hbg2 := Ph_fr hb2
            have hwy := wlM1_y (sec := sec) (j := bf) ev282 hq hb1 hb2
            rw [hwy] at hN1 hN2 hN3
            have hN2 : a2.length ≤ W.1.length := hN2
            have hN3 : ((U.2 ++ [(b1, bf)]) ++ [(b2, sec k)]).length ≤ W.2.length := hN3
            have hbl1 : (U.2 ++ [(b1, bf)]).length = U.2.length + 1 := by simp
            have hbl2 : ((U.2 ++ [(b1, bf)]) ++ [(b2, sec k)]).length = U.2.length + 2 := by simp
            have hcv1 := capF_m hbg1.2.1
            have hcv2 := capF_m hbg2.2.1
            have hcv3 := capF_le a2.length
            have hcv4 := capF_mo U.2.length
            have hcv5 : capF (U.2.length + 1) ≤ capF (U.2.length + 2) := capF_mo (U.2.length + 1)
            have hcv6 := capF_le (U.2.length + 2)
            have hcb1 : capF (U.2 ++ [(b1, bf)]).length = capF (U.2.length + 1) := by rw [hbl1]
            have hcb3 : capF ((U.2 ++ [(b1, bf)]).length + 1) = capF (U.2.length + 2) := by rw [hbl1]
            have hcb2 : capF ((U.2 ++ [(b1, bf)]) ++ [(b2, sec k)]).length = capF (U.2.length + 2) := by rw [hbl2]
            have hk16 : k < 16 := by omega
            have hnb9 := nab_b k0 (by omega) k hk16
            refine g_aload_n (q := 289) B dX3_commit_288 rfl rfl (rv_r _) ?_
            refine g_get (q := 292) B (ci := 12) (k := 8) (j := 2) in_X3 rfl dX3_commit_289 rfl rfl (Nat.le_of_ble_eq_true rfl) q3059 rfl rfl ?_
            refine g_aload_n (q := 293) B dX3_commit_292 rfl rfl (rv_r _) ?_
            refine g_getNM (q := 296) B (ci := 16) (k := 7) (j := 10) in_X13 rfl dX3_commit_293 rfl rfl (hc_16_0) (Nat.le_of_ble_eq_true rfl) q3273 rfl rfl ?_
            refine g_iload (q := 298) B dX3_commit_296 rfl rfl ?_
            refine g_ialdM (v := oI ((ePk ((eNo Ep + 1, L.1, 0, 0, fun _ => none, L.2.2.2.2, rm2, pk) : MeS)) k)) (q := 299) B (k := 7) dX3_commit_298 rfl rfl (hc_16_7) (vp_in_nI (by omega) (by omega)) (by rw [nI_clamp (by omega)]; exact hfk_16 _ (by omega)) ?_
            refine g_stk (y := .int (nI v282)) (by rw [ev282]; rfl) ?_
            obtain ⟨md_23, hli_23, hln_23, hel_23⟩ := LoP.at (Sub.self hr_11)
            obtain ⟨x299, hx299⟩ := get_ex (xs := mks) (i := v282) (by have := get_lt2 (show Ks3[v282]? = some q from hq); have := hln_23.1; omega)
            have hE_24 := hel_23 _ _ _ hx299 (show Ks3[v282]? = some q from hq)
            refine g_callV (q := 302) (is := [5]) (kc2 := 10 * (16 - k) + 150 + 10070 + 640 * (dMs D).length) (ks2 := 16 * (16 - k) + 4 * (1480 - capF U.1.length) + 4 * (3000 - capF U.2.length) + 20000 + 130200 + 1600 * (dMs D).length) B [.int (nI v282)] (ct_J2_get_s g J (p := lk) (xs := mks) (md := md_23) (cap := kcap) (i := v282) (x := x299) (W0 := u2_228)  (hli_23) (hx299)) dX3_commit_299 rfl (rc_in B (ci := 21) rfl (k := 5) rfl (LoP.hm hr_11)) rfl q3231 q1095 q3667 q81 q1097 rfl rfl moJ2_get rfl rfl (by decide) (by decide) (Nat.le_of_ble_eq_true rfl) (by omega) (by omega) (fun _ _ hx => noX_x hx) (fun v299 L1 hp299 => ?_)
            obtain ⟨rfl, rfl⟩ := hp299
            refine (show Go g κ 302 [some (.ref m), some (.int (nI i)), some (.ref e76), some (.ref n81), some (.ref x29), some (.int (nI L.2.2.2.1)), some (.int (nI bf)), some (.int (nI k)), none] [.ref x299] [v6, v7, v5, v3, v4, l265_6, u3_238, [(m, .inr (12, [.ref ls, .ref lb, .ref lk, .ref lp, .ref lr, .ref le, .ref lm, .ref lo, .int (nI 0), .int (lcg (dZz D)), .int (nI bm), .int (nI (dCm D))]))], l265_9, u2_228] (10 * (16 - k) + 150 + 10070 + 640 * (dMs D).length) (16 * (16 - k) + 4 * (1480 - capF U.1.length) + 4 * (3000 - capF U.2.length) + 20000 + 130200 + 1600 * (dMs D).length) from ?_)
            refine g_castRS (ci := 15) (q := 305) B rfl (rc_in B (ci := 15) rfl (k := 9) rfl (Sub.hm (hE_24) fun _ z => MqP.hm z)) dX3_commit_302 rfl q3198 ?_
            refine g_astore (q := 307) (lv2 := [some (.ref m), some (.int (nI i)), some (.ref e76), some (.ref n81), some (.ref x29), some (.int (nI L.2.2.2.1)), some (.int (nI bf)), some (.int (nI k)), some (.ref x299)]) B dX3_commit_305 rfl (Nat.le_of_ble_eq_true rfl) (rv_r _) rfl ?_
            refine g_aload_n (q := 308) B dX3_commit_307 rfl rfl (rv_r _) ?_
            refine g_iload (q := 310) B dX3_commit_308 rfl rfl ?_
            refine g_aload (q := 312) B dX3_commit_310 rfl rfl (rv_r _) ?_
            obtain ⟨hK_25, hc_25_0⟩ := MqP.at (hE_24)
            refine g_getNM (q := 315) B (ci := 15) (k := 9) (j := 2) in_X9 rfl dX3_commit_312 rfl rfl (hc_25_0) (Nat.le_of_ble_eq_true rfl) q3209 rfl rfl ?_
            refine g_callV (q := 318) (is := [7, 7, 5]) (kc2 := 10 * (16 - (k + 1)) + 155 + 10070 + 640 * (dMs D).length) (ks2 := 8 + 16 * (16 - (k + 1)) + 4 * (1480 - capF a1.length) + 4 * (3000 - capF (U.2.length + 1)) + 20000 + 130200 + 1600 * (dMs D).length) B [.int (nI bf), .int (nI q.2.2.1)] (ct_X3_boxed g J (m := m) (ls := ls) (lb := lb) (lk := lk) (lp := lp) (lr := lr) (le := le) (lm := lm) (lo := lo) (th := 0) (z := (lcg (dZz D))) (bo := bm) (cm := (dCm D)) (ss := U.1) (bx := U.2) (c := bf) (h := q.2.2.1) (s2 := a1) (i := b1) hl265_9 hl265_6 (by omega) (by omega) (by omega) (by omega) (hb1)) dX3_commit_315 rfl (rc_at B (ci := 12) rfl (k := 7) rfl) rfl q3472 q3474 qs69 q85 q3475 rfl rfl moX3_boxed rfl rfl (by decide) (by decide) (Nat.le_of_ble_eq_true rfl) (by omega) (by omega) (fun _ _ hx => noX_x hx) (fun v315 L1 hp315 => ?_)
            obtain ⟨u1_315, u2_315, rfl, rfl, hu1_315, hu2_315⟩ := hp315
            refine (show Go g κ 318 [some (.ref m), some (.int (nI i)), some (.ref e76), some (.ref n81), some (.ref x29), some (.int (nI L.2.2.2.1)), some (.int (nI bf)), some (.int (nI k)), some (.ref x299)] [] [v6, v7, v5, v3, v4, u3_238, u2_228, [(m, .inr (12, [.ref ls, .ref lb, .ref lk, .ref lp, .ref lr, .ref le, .ref lm, .ref lo, .int (nI 0), .int (lcg (dZz D)), .int (nI (bm + 1)), .int (nI (dCm D))]))], u1_315, u2_315] (10 * (16 - (k + 1)) + 155 + 10070 + 640 * (dMs D).length) (8 + 16 * (16 - (k + 1)) + 4 * (1480 - capF a1.length) + 4 * (3000 - capF (U.2.length + 1)) + 20000 + 130200 + 1600 * (dMs D).length) from ?_)
            refine g_aload_n (q := 319) B dX3_commit_318 rfl rfl (rv_r _) ?_
            refine g_aload_n (q := 320) B dX3_commit_319 rfl rfl (rv_r _) ?_
            refine g_getNM (q := 323) B (ci := 16) (k := 5) (j := 5) in_X13 rfl dX3_commit_320 rfl rfl (hc_16_0) (Nat.le_of_ble_eq_true rfl) q3263 rfl rfl ?_
            refine g_aload_n (q := 324) B dX3_commit_323 rfl rfl (rv_r _) ?_
            refine g_iload (q := 326) B dX3_commit_324 rfl rfl ?_
            refine g_callS (q := 329) (is := [5]) (kc2 := 10 * (16 - (k + 1)) + 155 + 10070 + 640 * (dMs D).length) (ks2 := 8 + 16 * (16 - (k + 1)) + 4 * (1480 - capF a1.length) + 4 * (3000 - capF (U.2.length + 1)) + 20000 + 130200 + 1600 * (dMs D).length) B [.ref n81, .int (nI k)] (ct_X3_lowest g J (e := n81) (r := ((eNo Ep + 1, L.1, 0, 0, fun _ => none, L.2.2.2.2, rm2, pk) : MeS)) (l := k) (k0 := k0) hr_12 (by omega) (hk1) (hk4) (hw) (hwn)) dX3_commit_326 rfl q3491 q3492 q85 q3493 rfl rfl moX3_lowest rfl rfl (by decide) (by decide) (Nat.le_of_ble_eq_true rfl) (by omega) (by omega) (fun _ _ hx => noX_x hx) (fun v326 L1 hp326 => ?_)
            obtain ⟨rfl, rfl⟩ := hp326
            refine (show Go g κ 329 [some (.ref m), some (.int (nI i)), some (.ref e76), some (.ref n81), some (.ref x29), some (.int (nI L.2.2.2.1)), some (.int (nI bf)), some (.int (nI k)), some (.ref x299)] [.int (nI (nab k k0)), .ref an_16, .ref m] [v6, v7, v5, v3, v4, u2_228, [(m, .inr (12, [.ref ls, .ref lb, .ref lk, .ref lp, .ref lr, .ref le, .ref lm, .ref lo, .int (nI 0), .int (lcg (dZz D)), .int (nI (bm + 1)), .int (nI (dCm D))]))], u1_315, u2_315, u3_238] (10 * (16 - (k + 1)) + 155 + 10070 + 640 * (dMs D).length) (8 + 16 * (16 - (k + 1)) + 4 * (1480 - capF a1.length) + 4 * (3000 - capF (U.2.length + 1)) + 20000 + 130200 + 1600 * (dMs D).length) from ?_)
            refine g_ialdM (v := oI (((eTr ((eNo Ep + 1, L.1, 0, 0, fun _ => none, L.2.2.2.2, rm2, pk) : MeS)).2.1) (nab k k0))) (q := 330) B (k := 9) dX3_commit_329 rfl rfl (hc_16_2) (vp_in_nI (by omega) (by omega)) (by rw [nI_clamp (by omega)]; exact hfn_16 _ (by omega)) ?_
            refine g_stk (y := .int (nI (sec k))) (by rw [hsn]; rfl) ?_
            refine g_aload (q := 332) B dX3_commit_330 rfl rfl (rv_r _) ?_
            refine g_getNM (q := 335) B (ci := 15) (k := 5) (j := 2) in_X9 rfl dX3_commit_332 rfl rfl (hc_25_0) (Nat.le_of_ble_eq_true rfl) q3209 rfl rfl ?_
            refine g_callV (q := 338) (is := [6, 6, 6]) (kc2 := 10 * (16 - (k + 1)) + 150 + 10070 + 640 * (dMs D).length) (ks2 := 16 * (16 - (k + 1)) + 4 * (1480 - capF a2.length) + 4 * (3000 - capF (U.2.length + 2)) + 20000 + 130200 + 1600 * (dMs D).length) B [.int (nI (sec k)), .int (nI q.2.2.1)] (ct_X3_boxed g J (m := m) (ls := ls) (lb := lb) (lk := lk) (lp := lp) (lr := lr) (le := le) (lm := lm) (lo := lo) (th := 0) (z := (lcg (dZz D))) (bo := bm + 1) (cm := (dCm D)) (ss := a1) (bx := (U.2 ++ [(b1, bf)])) (c := sec k) (h := q.2.2.1) (s2 := a2) (i := b2) hu1_315 hu2_315 (by omega) (by omega) (by omega) (by omega) (hb2)) dX3_commit_335 rfl (rc_at B (ci := 12) rfl (k := 6) rfl) rfl q3472 q3474 qs69 q85 q3475 rfl rfl moX3_boxed rfl rfl (by decide) (by decide) (Nat.le_of_ble_eq_true rfl) (by omega) (by omega) (fun _ _ hx => noX_x hx) (fun v335 L1 hp335 => ?_)
            obtain ⟨u1_335, u2_335, rfl, rfl, hu1_335, hu2_335⟩ := hp335
            refine (show Go g κ 338 [some (.ref m), some (.int (nI i)), some (.ref e76), some (.ref n81), some (.ref x29), some (.int (nI L.2.2.2.1)), some (.int (nI bf)), some (.int (nI k)), some (.ref x299)] [] [v6, v7, v5, v3, v4, u2_228, u3_238, [(m, .inr (12, [.ref ls, .ref lb, .ref lk, .ref lp, .ref lr, .ref le, .ref lm, .ref lo, .int (nI 0), .int (lcg (dZz D)), .int (nI ((bm + 1) + 1)), .int (nI (dCm D))]))], u1_335, u2_335] (10 * (16 - (k + 1)) + 150 + 10070 + 640 * (dMs D).length) (16 * (16 - (k + 1)) + 4 * (1480 - capF a2.length) + 4 * (3000 - capF (U.2.length + 2)) + 20000 + 130200 + 1600 * (dMs D).length) from ?_)
            refine g_iinc (v := nI (k + 1)) (q := 341) (lv2 := [some (.ref m), some (.int (nI i)), some (.ref e76), some (.ref n81), some (.ref x29), some (.int (nI L.2.2.2.1)), some (.int (nI bf)), some (.int (nI (k + 1))), some (.ref x299)]) B dX3_commit_338 rfl rfl (nI_add _ 1) (Nat.le_of_ble_eq_true rfl) rfl ?_
            refine g_goto (tgt := 265) B dX3_commit_341 (by decide) ?_
            have hr_26 : LhP g (SecP g) ls ((wlM1 sec pk Ks3 bf U k).1) (capF (wlM1 sec pk Ks3 bf U k).1.length) u1_335 := by rw [hwy]; exact hu1_335
            have hr_27 : LhP g (BbP g) lb ((wlM1 sec pk Ks3 bf U k).2) (capF (wlM1 sec pk Ks3 bf U k).2.length) u2_335 := by rw [hwy]; exact hu2_335
            have hx1 : (wlM1 sec pk Ks3 bf U k).2.length = U.2.length + 2 := by rw [hwy]; exact hbl2
            have hx2 : capF (wlM1 sec pk Ks3 bf U k).2.length = capF (U.2.length + 2) := by rw [hx1]
            have hx3 : capF (wlM1 sec pk Ks3 bf U k).1.length = capF a2.length := by rw [hwy]
            refine g_fg 8 rfl ?_
            refine g_pk [0, 0, 0, 0, 0, 0, 3, 0, 0, 0] rfl rfl ?_
            refine (show Go g κ 265 [some (.ref m), some (.int (nI i)), some (.ref e76), some (.ref n81), some (.ref x29), some (.int (nI L.2.2.2.1)), some (.int (nI bf)), some (.int (nI (k + 1))), none] [] [v6, v7, v5, v3, v4, u2_228, u2_335, u3_238, [(m, .inr (12, [.ref ls, .ref lb, .ref lk, .ref lp, .ref lr, .ref le, .ref lm, .ref lo, .int (nI 0), .int (lcg (dZz D)), .int (nI ((bm + 1) + 1)), .int (nI (dCm D))]))], u1_335] (10 * (16 - (k + 1)) + 150 + 10070 + 640 * (dMs D).length) (16 * (16 - (k + 1)) + 4 * (1480 - capF a2.length) + 4 * (3000 - capF (U.2.length + 2)) + 20000 + 130200 + 1600 * (dMs D).length) from ?_)
            refine g_room (kc2 := 10 * (16 - (k + 1)) + 150 + 10070 + 640 * (dMs D).length) (ks2 := 16 * (16 - (k + 1)) + 4 * (1480 - capF (wlM1 sec pk Ks3 bf U k).1.length) + 4 * (3000 - capF (wlM1 sec pk Ks3 bf U k).2.length) + 20000 + 130200 + 1600 * (dMs D).length) (by omega) (by omega) ?_
            exact ih265 _ (by omega) (k + 1) (wlM1 sec pk Ks3 bf U k) ((bm + 1) + 1) u2_335 u1_335 hr_27 hr_26 (by omega) (by rw [hU]; rfl) (by rw [hx1]; omega) rfl
          · skip
            have c282 := Classical.not_not.mp c282
            refine g_goto (tgt := 338) B dX3_commit_285 (by decide) ?_
            refine g_iinc (v := nI (k + 1)) (q := 341) (lv2 := [some (.ref m), some (.int (nI i)), some (.ref e76), some (.ref n81), some (.ref x29), some (.int (nI L.2.2.2.1)), some (.int (nI bf)), some (.int (nI (k + 1))), none]) B dX3_commit_338 rfl rfl (nI_add _ 1) (Nat.le_of_ble_eq_true rfl) rfl ?_
            refine g_goto (tgt := 265) B dX3_commit_341 (by decide) ?_
            have hwn9 := wlM1_n (sec := sec) (Ks := Ks3) (j := bf) (U := U) c282
            have hx1 : (wlM1 sec pk Ks3 bf U k).2.length = U.2.length := by rw [hwn9]
            have hx2 : capF (wlM1 sec pk Ks3 bf U k).2.length = capF U.2.length := by rw [hwn9]
            have hx3 : capF (wlM1 sec pk Ks3 bf U k).1.length = capF U.1.length := by rw [hwn9]
            have hr_28 : LhP g (SecP g) ls ((wlM1 sec pk Ks3 bf U k).1) (capF (wlM1 sec pk Ks3 bf U k).1.length) l265_9 := by rw [hwn9]; exact hl265_9
            have hr_29 : LhP g (BbP g) lb ((wlM1 sec pk Ks3 bf U k).2) (capF (wlM1 sec pk Ks3 bf U k).2.length) l265_6 := by rw [hwn9]; exact hl265_6
            refine g_room (kc2 := 10 * (16 - (k + 1)) + 150 + 10070 + 640 * (dMs D).length) (ks2 := 16 * (16 - (k + 1)) + 4 * (1480 - capF (wlM1 sec pk Ks3 bf U k).1.length) + 4 * (3000 - capF (wlM1 sec pk Ks3 bf U k).2.length) + 20000 + 130200 + 1600 * (dMs D).length) (by omega) (by omega) ?_
            exact ih265 _ (by omega) (k + 1) (wlM1 sec pk Ks3 bf U k) bm l265_6 l265_9 hr_29 hr_28 (by omega) (by rw [hU]; rfl) (by rw [hx1]; omega) rfl
      have hq31 : capF (f2, L.2.2.1).1.length = capF f2.length := rfl
      have hq32 : capF (f2, L.2.2.1).2.length = capF L.2.2.1.length := rfl
      refine g_room (kc2 := 10 * (16 - 0) + 150 + 10070 + 640 * (dMs D).length) (ks2 := 16 * (16 - 0) + 4 * (1480 - capF (f2, L.2.2.1).1.length) + 4 * (3000 - capF (f2, L.2.2.1).2.length) + 20000 + 130200 + 1600 * (dMs D).length) (by omega) (by omega) ?_
      exact lp265 _ 0 (f2, L.2.2.1) (dBn D + (L.2.2.1.length - (dBx D).length)) u2_238 u1_257 hr_14 hu1_257 (Nat.zero_le _) (rfl) (by show _ = dBn D + L.2.2.1.length; omega) rfl
    · skip
      have c114 := Classical.not_not.mp c114
      refine g_aload (q := 119) B dX3_commit_117 rfl rfl (rv_r _) ?_
      obtain ⟨r119, hr119⟩ := get_ex (xs := (dRs D)) (i := k) (by omega)
      obtain ⟨x119, hx119⟩ := get_ex (xs := ps_6) (i := k) (by have := get_lt2 hr119; have := hln_6.1; omega)
      have hE_30 := hel_6 _ _ _ hx119 hr119
      refine g_callF (q := 124) (is := [9, 9]) (kc2 := 700 - k + 5 * (BN - (dBx D).length) + 10070 + 640 * (dMs D).length) (ks2 := 129000 - 4 * k + 130200 + 1600 * (dMs D).length) B [] (ct_J19_next_s g J (p := lr) (xs := ps_6) (md := md_6) (cap := rcap) (it := it102) (c := k) (lr := lrt) (x := x119) (W1 := v4)  (hli_6) (hx119)) dX3_commit_119 rfl (ci := 22) rfl (rc_at B (ci := 22) rfl (k := 9) rfl) q3236 q967 q969 q104 q971 q966 q965 q970 q968 q939 rfl rfl mojava_util_Iterator_next___Ljava_lang_Object_ rfl rfl (by decide) (by decide) (Nat.le_of_ble_eq_true rfl) (by omega) (by omega) (fun _ _ hx => noX_x hx) (fun v119 L1 hp119 => ?_)
      obtain ⟨rfl, rfl⟩ := hp119
      refine (show Go g κ 124 [some (.ref m), some (.int (nI i)), some (.ref e76), some (.ref n81), some (.ref x29), some (.ref it102), none, none, none] [.ref x119] [v0, v1, v6, v7, v2, [(m, .inr (12, [.ref ls, .ref lb, .ref lk, .ref lp, .ref lr, .ref le, .ref lm, .ref lo, .int (nI 0), .int (dZz D), .int (nI (dBn D)), .int (nI (dCm D))]))], v5, l107_7, v3, [(it102, .inr (22, [.int (nI (k + 1)), .int (nI k), .int md_6, .ref lr]))], v4] (700 - k + 5 * (BN - (dBx D).length) + 10070 + 640 * (dMs D).length) (129000 - 4 * k + 130200 + 1600 * (dMs D).length) from ?_)
      refine g_castRS (ci := 18) (q := 127) B rfl (rc_in B (ci := 18) rfl (k := 10) rfl (Sub.hm (hE_30) fun _ z => MrP.hm z)) dX3_commit_124 rfl q3382 ?_
      refine g_astore (q := 129) (lv2 := [some (.ref m), some (.int (nI i)), some (.ref e76), some (.ref n81), some (.ref x29), some (.ref it102), some (.ref x119), none, none]) B dX3_commit_127 rfl (Nat.le_of_ble_eq_true rfl) (rv_r _) rfl ?_
      obtain ⟨hq1_, hq2_, hq3_⟩ := hrs1 _ (List.mem_of_getElem? hr119)
      have hSd : S.1 = (eTr Ep).1 := by rw [hS]; exact rnM_d _ _ _ _ _
      refine g_aload (q := 131) B dX3_commit_129 rfl rfl (rv_r _) ?_
      have hc_31_0 := MrP.at (hE_30)
      refine g_getNM (q := 134) B (ci := 18) (k := 10) (j := 0) in_X17 rfl dX3_commit_131 rfl rfl (hc_31_0) (Nat.le_of_ble_eq_true rfl) q3393 rfl rfl ?_
      refine g_bipush (v := nI 110) (q := 136) B dX3_commit_134 rfl (by decide) ?_
      refine g_icmp_ne (tgt := 107) (q := 139) B dX3_commit_136 rfl (by decide) (not_congr (nI_eq (by omega) (by omega))) (fun c136 => ?_) (fun c136 => ?_)
      · skip
        have hR1 : rnM1 (dRs D) (dPs D) i S r119 = S := rnM1_n (by rintro ⟨z1, z2⟩; first | exact c136 z1 | exact z2 c145)
        have hr_32 : EpP g n81 ((eNo Ep + 1, (rnM1 (dRs D) (dPs D) i S r119), 0, 0, fun _ => none, fun _ => false, fun _ => false, fun _ => none) : MeS) l107_7 := by rw [hR1]; exact hl107_7
        refine g_fg 6 rfl ?_
        refine g_room (kc2 := 700 - (k + 1) + 5 * (BN - (dBx D).length) + 10070 + 640 * (dMs D).length) (ks2 := 129000 - 4 * (k + 1) + 130200 + 1600 * (dMs D).length) (by omega) (by omega) ?_
        exact ih107 _ (by have := get_lt2 hr119; omega) (k + 1) (nI k) (rnM1 (dRs D) (dPs D) i S r119) l107_7 hr_32 (by first | assumption | omega | rfl) (by rw [hS, rnM_s hr119]) rfl
      · skip
        refine g_aload (q := 141) B dX3_commit_139 rfl rfl (rv_r _) ?_
        refine g_getNM (q := 144) B (ci := 18) (k := 10) (j := 1) in_X17 rfl dX3_commit_141 rfl rfl (hc_31_0) (Nat.le_of_ble_eq_true rfl) q3395 rfl rfl ?_
        refine g_iload_n (q := 145) B dX3_commit_144 rfl rfl ?_
        refine g_icmp_eq (tgt := 107) (q := 148) B dX3_commit_145 rfl (by decide) (nI_eq (by omega) (by omega)) (fun c145 => ?_) (fun c145 => ?_)
        · skip
          have hR1 : rnM1 (dRs D) (dPs D) i S r119 = S := rnM1_n (by rintro ⟨z1, z2⟩; first | exact c136 z1 | exact z2 c145)
          have hr_33 : EpP g n81 ((eNo Ep + 1, (rnM1 (dRs D) (dPs D) i S r119), 0, 0, fun _ => none, fun _ => false, fun _ => false, fun _ => none) : MeS) l107_7 := by rw [hR1]; exact hl107_7
          refine g_fg 6 rfl ?_
          refine g_room (kc2 := 700 - (k + 1) + 5 * (BN - (dBx D).length) + 10070 + 640 * (dMs D).length) (ks2 := 129000 - 4 * (k + 1) + 130200 + 1600 * (dMs D).length) (by omega) (by omega) ?_
          exact ih107 _ (by have := get_lt2 hr119; omega) (k + 1) (nI k) (rnM1 (dRs D) (dPs D) i S r119) l107_7 hr_33 (by first | assumption | omega | rfl) (by rw [hS, rnM_s hr119]) rfl
        · skip
          refine g_aload_n (q := 149) B dX3_commit_148 rfl rfl (rv_r _) ?_
          refine g_bipush (v := nI 114) (q := 151) B dX3_commit_149 rfl (by decide) ?_
          refine g_aload_n (q := 152) B dX3_commit_151 rfl rfl (rv_r _) ?_
          refine g_get (q := 155) B (ci := 12) (k := 5) (j := 3) in_X3 rfl dX3_commit_152 rfl rfl (Nat.le_of_ble_eq_true rfl) q3060 rfl rfl ?_
          refine g_aload (q := 157) B dX3_commit_155 rfl rfl (rv_r _) ?_
          obtain ⟨o, ho, hol⟩ := hrn _ (List.mem_of_getElem? hr119) (Classical.not_not.mp c136)
          have hol2 := get_lt2 ho
          refine g_getNM (q := 160) B (ci := 18) (k := 10) (j := 1) in_X17 rfl dX3_commit_157 rfl rfl (hc_31_0) (Nat.le_of_ble_eq_true rfl) q3395 rfl rfl ?_
          obtain ⟨x160, hx160⟩ := get_ex (xs := mps) (i := r119.2.1) (by have := get_lt2 (show (dPs D)[r119.2.1]? = some o from ho); have := hln_1.1; omega)
          have hE_34 := hel_1 _ _ _ hx160 (show (dPs D)[r119.2.1]? = some o from ho)
          refine g_callV (q := 163) (is := [8]) (kc2 := 700 - k + 5 * (BN - (dBx D).length) + 10070 + 640 * (dMs D).length) (ks2 := 129000 - 4 * k + 130200 + 1600 * (dMs D).length) B [.int (nI r119.2.1)] (ct_J2_get_s g J (p := lp) (xs := mps) (md := md_1) (cap := pcap) (i := r119.2.1) (x := x160) (W0 := v3)  (hli_1) (hx160)) dX3_commit_160 rfl (rc_in B (ci := 21) rfl (k := 8) rfl (LoP.hm hv3)) rfl q3231 q1095 q3667 q81 q1097 rfl rfl moJ2_get rfl rfl (by decide) (by decide) (Nat.le_of_ble_eq_true rfl) (by omega) (by omega) (fun _ _ hx => noX_x hx) (fun v160 L1 hp160 => ?_)
          obtain ⟨rfl, rfl⟩ := hp160
          refine (show Go g κ 163 [some (.ref m), some (.int (nI i)), some (.ref e76), some (.ref n81), some (.ref x29), some (.ref it102), some (.ref x119), none, none] [.ref x160, .int (nI 114), .ref m] [v0, v1, v6, v7, v2, [(m, .inr (12, [.ref ls, .ref lb, .ref lk, .ref lp, .ref lr, .ref le, .ref lm, .ref lo, .int (nI 0), .int (dZz D), .int (nI (dBn D)), .int (nI (dCm D))]))], v5, l107_7, [(it102, .inr (22, [.int (nI (k + 1)), .int (nI k), .int md_6, .ref lr]))], v4, v3] (700 - k + 5 * (BN - (dBx D).length) + 10070 + 640 * (dMs D).length) (129000 - 4 * k + 130200 + 1600 * (dMs D).length) from ?_)
          refine g_castRS (ci := 13) (q := 166) B rfl (rc_in B (ci := 13) rfl (k := 10) rfl (Sub.hm (hE_34) fun _ z => MpP.hm z)) dX3_commit_163 rfl q3107 ?_
          have hoB := (MpP.b2 (hE_34)).2.1
          obtain ⟨nd_35, ch_35, ev_35, cv_35, fn_35, fc_35, hM_35, hfn_35, hoc_35, hcv_35, hc_35_0, hc_35_1, hc_35_2, hs_35_0, hs_35_1⟩ := MpP.at (hE_34)
          refine g_getNM (q := 169) B (ci := 13) (k := 10) (j := 1) in_X5 rfl dX3_commit_166 rfl rfl (hc_35_0) (Nat.le_of_ble_eq_true rfl) q3119 rfl rfl ?_
          refine g_callV (q := 172) (is := [5, 8, 4]) (kc2 := (700 - k + 5 * (BN - (dBx D).length) + 10070 + 640 * (dMs D).length) - 1) (ks2 := (129000 - 4 * k + 130200 + 1600 * (dMs D).length) - 4) B [.int (nI 114), .int (nI (mLf o))] (ct_X3_isProposed_114 g J (m := m) (ls := ls) (lb := lb) (lk := lk) (lp := lp) (lr := lr) (le := le) (lm := lm) (lo := lo) (th := 0) (z := (dZz D)) (bo := (dBn D)) (cm := (dCm D)) (w := mLf o) (Rs := (dRs D)) (rcap := rcap) (mks := mks) (Ks := (dKs D)) (kcap := kcap) hv4 hv2 (hrs1) (by omega)) dX3_commit_169 rfl (rc_at B (ci := 12) rfl (k := 5) rfl) rfl q3378 q3380 qs64 q85 q3381 rfl rfl moX3_isProposed rfl rfl (by decide) (by decide) (Nat.le_of_ble_eq_true rfl) (by omega) (by omega) (fun _ _ hx => noX_x hx) (fun v169 L1 hp169 => ?_)
          obtain ⟨rfl, rfl⟩ := hp169
          refine (show Go g κ 172 [some (.ref m), some (.int (nI i)), some (.ref e76), some (.ref n81), some (.ref x29), some (.ref it102), some (.ref x119), none, none] [.int (nI (if prR (dRs D) (mLf o) = true then 1 else 0))] [v0, v1, v6, v7, v5, l107_7, [(it102, .inr (22, [.int (nI (k + 1)), .int (nI k), .int md_6, .ref lr]))], v3, [(m, .inr (12, [.ref ls, .ref lb, .ref lk, .ref lp, .ref lr, .ref le, .ref lm, .ref lo, .int (nI 0), .int (dZz D), .int (nI (dBn D)), .int (nI (dCm D))]))], v4, v2] ((700 - k + 5 * (BN - (dBx D).length) + 10070 + 640 * (dMs D).length) - 1) ((129000 - 4 * k + 130200 + 1600 * (dMs D).length) - 4) from ?_)
          refine g_if_eq (tgt := 178) (q := 175) B dX3_commit_172 rfl (by decide) (bo_eq) (fun c172 => ?_) (fun c172 => ?_)
          · skip
            refine g_aload_n (q := 179) B dX3_commit_178 rfl rfl (rv_r _) ?_
            refine g_get (q := 182) B (ci := 12) (k := 8) (j := 3) in_X3 rfl dX3_commit_179 rfl rfl (Nat.le_of_ble_eq_true rfl) q3060 rfl rfl ?_
            refine g_aload (q := 184) B dX3_commit_182 rfl rfl (rv_r _) ?_
            refine g_getNM (q := 187) B (ci := 18) (k := 9) (j := 1) in_X17 rfl dX3_commit_184 rfl rfl (hc_31_0) (Nat.le_of_ble_eq_true rfl) q3395 rfl rfl ?_
            have hE_36 := hel_1 _ _ _ hx160 (show (dPs D)[r119.2.1]? = some o from ho)
            refine g_callV (q := 190) (is := [7]) (kc2 := (700 - k + 5 * (BN - (dBx D).length) + 10070 + 640 * (dMs D).length) - 1) (ks2 := (129000 - 4 * k + 130200 + 1600 * (dMs D).length) - 4) B [.int (nI r119.2.1)] (ct_J2_get_s g J (p := lp) (xs := mps) (md := md_1) (cap := pcap) (i := r119.2.1) (x := x160) (W0 := v3)  (hli_1) (hx160)) dX3_commit_187 rfl (rc_in B (ci := 21) rfl (k := 7) rfl (LoP.hm hv3)) rfl q3231 q1095 q3667 q81 q1097 rfl rfl moJ2_get rfl rfl (by decide) (by decide) (Nat.le_of_ble_eq_true rfl) (by omega) (by omega) (fun _ _ hx => noX_x hx) (fun v187 L1 hp187 => ?_)
            obtain ⟨rfl, rfl⟩ := hp187
            refine (show Go g κ 190 [some (.ref m), some (.int (nI i)), some (.ref e76), some (.ref n81), some (.ref x29), some (.ref it102), some (.ref x119), none, none] [.ref x160] [v0, v1, v6, v7, v5, l107_7, [(it102, .inr (22, [.int (nI (k + 1)), .int (nI k), .int md_6, .ref lr]))], [(m, .inr (12, [.ref ls, .ref lb, .ref lk, .ref lp, .ref lr, .ref le, .ref lm, .ref lo, .int (nI 0), .int (dZz D), .int (nI (dBn D)), .int (nI (dCm D))]))], v4, v2, v3] ((700 - k + 5 * (BN - (dBx D).length) + 10070 + 640 * (dMs D).length) - 1) ((129000 - 4 * k + 130200 + 1600 * (dMs D).length) - 4) from ?_)
            refine g_castRS (ci := 13) (q := 193) B rfl (rc_in B (ci := 13) rfl (k := 10) rfl (Sub.hm (hE_36) fun _ z => MpP.hm z)) dX3_commit_190 rfl q3107 ?_
            refine g_getNM (q := 196) B (ci := 13) (k := 10) (j := 1) in_X5 rfl dX3_commit_193 rfl rfl (hc_35_0) (Nat.le_of_ble_eq_true rfl) q3119 rfl rfl ?_
            refine g_istore (q := 198) (lv2 := [some (.ref m), some (.int (nI i)), some (.ref e76), some (.ref n81), some (.ref x29), some (.ref it102), some (.ref x119), some (.int (nI (mLf o))), none]) B dX3_commit_196 rfl (Nat.le_of_ble_eq_true rfl) rfl ?_
            have hEs := EpP.b hl107_7
            obtain ⟨ap_s, an_s, al_s, ac_s, aw_s, am_s, ak_s, fp_s, fn_s, fl_s, fc_s, fw_s, fm_s, fk_s, hE_s, hfp_s, hfn_s, hfl_s, hfc_s, hfw_s, hfm_s, hfk_s, rfl⟩ := hl107_7
            refine g_open 5 rfl rfl rfl ?_
            refine (show Go g κ 198 [some (.ref m), some (.int (nI i)), some (.ref e76), some (.ref n81), some (.ref x29), some (.ref it102), some (.ref x119), some (.int (nI (mLf o))), none] [] [v0, v1, v6, v7, v5, [(it102, .inr (22, [.int (nI (k + 1)), .int (nI k), .int md_6, .ref lr]))], [(m, .inr (12, [.ref ls, .ref lb, .ref lk, .ref lp, .ref lr, .ref le, .ref lm, .ref lo, .int (nI 0), .int (dZz D), .int (nI (dBn D)), .int (nI (dCm D))]))], v4, v2, v3, [(n81, .inr (16, [.int (nI (eNo ((eNo Ep + 1, S, 0, 0, fun _ => none, fun _ => false, fun _ => false, fun _ => none) : MeS))), .int (nI (2 ^ (eTr ((eNo Ep + 1, S, 0, 0, fun _ => none, fun _ => false, fun _ => false, fun _ => none) : MeS)).1)), .int (nI (eGo ((eNo Ep + 1, S, 0, 0, fun _ => none, fun _ => false, fun _ => false, fun _ => none) : MeS))), .int (nI (eKy ((eNo Ep + 1, S, 0, 0, fun _ => none, fun _ => false, fun _ => false, fun _ => none) : MeS))), .ref ap_s, .ref an_s, .ref al_s, .ref ac_s, .ref aw_s, .ref am_s, .ref ak_s]))], [(ap_s, .inl (g.2.1 0, 16, .inl fp_s))], [(an_s, .inl (g.2.1 0, 31, .inl fn_s))], [(al_s, .inl (g.2.1 0, 31, .inl fl_s))], [(ac_s, .inl (g.2.1 0, 16, .inl fc_s))], [(aw_s, .inl (g.2.1 4, 31, .inl fw_s))], [(am_s, .inl (g.2.1 4, 16, .inl fm_s))], [(ak_s, .inl (g.2.1 0, 16, .inl fk_s))]] ((700 - k + 5 * (BN - (dBx D).length) + 10070 + 640 * (dMs D).length) - 1) ((129000 - 4 * k + 130200 + 1600 * (dMs D).length) - 4) from ?_)
            refine g_aload_n (q := 199) B dX3_commit_198 rfl rfl (rv_r _) ?_
            refine g_getN (q := 202) B (ci := 16) (k := 10) (j := 5) in_X13 rfl dX3_commit_199 rfl rfl (Nat.le_of_ble_eq_true rfl) q3263 rfl rfl ?_
            refine g_iconst (v := nI 2) (q := 203) B dX3_commit_202 rfl (by decide) ?_
            refine g_iload (q := 205) B dX3_commit_203 rfl rfl ?_
            refine g_imul (v := nI (2 * (mLf o))) (q := 206) B dX3_commit_205 rfl (pk_mul _ _) ?_
            refine g_aload (q := 208) B dX3_commit_206 rfl rfl (rv_r _) ?_
            refine g_getNM (q := 211) B (ci := 18) (k := 7) (j := 2) in_X17 rfl dX3_commit_208 rfl rfl (hc_31_0) (Nat.le_of_ble_eq_true rfl) q3397 rfl rfl ?_
            refine g_iast (q := 212) (L2 := [v0, v1, v6, v7, v5, [(it102, .inr (22, [.int (nI (k + 1)), .int (nI k), .int md_6, .ref lr]))], [(m, .inr (12, [.ref ls, .ref lb, .ref lk, .ref lp, .ref lr, .ref le, .ref lm, .ref lo, .int (nI 0), .int (dZz D), .int (nI (dBn D)), .int (nI (dCm D))]))], v4, v2, v3, [(n81, .inr (16, [.int (nI (eNo ((eNo Ep + 1, S, 0, 0, fun _ => none, fun _ => false, fun _ => false, fun _ => none) : MeS))), .int (nI (2 ^ (eTr ((eNo Ep + 1, S, 0, 0, fun _ => none, fun _ => false, fun _ => false, fun _ => none) : MeS)).1)), .int (nI (eGo ((eNo Ep + 1, S, 0, 0, fun _ => none, fun _ => false, fun _ => false, fun _ => none) : MeS))), .int (nI (eKy ((eNo Ep + 1, S, 0, 0, fun _ => none, fun _ => false, fun _ => false, fun _ => none) : MeS))), .ref ap_s, .ref an_s, .ref al_s, .ref ac_s, .ref aw_s, .ref am_s, .ref ak_s]))], [(ap_s, .inl (g.2.1 0, 16, .inl fp_s))], [(an_s, .inl (g.2.1 0, 31, .inl (upd fn_s (2 * (mLf o)) (nI r119.2.2))))], [(al_s, .inl (g.2.1 0, 31, .inl fl_s))], [(ac_s, .inl (g.2.1 0, 16, .inl fc_s))], [(aw_s, .inl (g.2.1 4, 31, .inl fw_s))], [(am_s, .inl (g.2.1 4, 16, .inl fm_s))], [(ak_s, .inl (g.2.1 0, 16, .inl fk_s))]]) B (k := 12) dX3_commit_211 rfl rfl (vp_in_nI (by omega) (by omega)) (by rw [nI_clamp (by omega)] <;> rfl) ?_
            obtain ⟨f211, ef211⟩ : ∃ f : Nat → Int32, f = upd fn_s (2 * (mLf o)) (nI r119.2.2) := ⟨_, rfl⟩
            have hf211 : ∀ i_, i_ < 31 → f211 i_ = oI (fup ((eTr ((eNo Ep + 1, S, 0, 0, fun _ => none, fun _ => false, fun _ => false, fun _ => none) : MeS)).2.1) (2 * (mLf o)) (some r119.2.2) i_) := by rw [ef211]; exact upd_oI hfn_s _ (some r119.2.2)
            rw [← ef211]
            refine (show Go g κ 212 [some (.ref m), some (.int (nI i)), some (.ref e76), some (.ref n81), some (.ref x29), some (.ref it102), some (.ref x119), some (.int (nI (mLf o))), none] [] [v0, v1, v6, v7, v5, [(it102, .inr (22, [.int (nI (k + 1)), .int (nI k), .int md_6, .ref lr]))], [(m, .inr (12, [.ref ls, .ref lb, .ref lk, .ref lp, .ref lr, .ref le, .ref lm, .ref lo, .int (nI 0), .int (dZz D), .int (nI (dBn D)), .int (nI (dCm D))]))], v4, v2, v3, [(n81, .inr (16, [.int (nI (eNo ((eNo Ep + 1, S, 0, 0, fun _ => none, fun _ => false, fun _ => false, fun _ => none) : MeS))), .int (nI (2 ^ (eTr ((eNo Ep + 1, S, 0, 0, fun _ => none, fun _ => false, fun _ => false, fun _ => none) : MeS)).1)), .int (nI (eGo ((eNo Ep + 1, S, 0, 0, fun _ => none, fun _ => false, fun _ => false, fun _ => none) : MeS))), .int (nI (eKy ((eNo Ep + 1, S, 0, 0, fun _ => none, fun _ => false, fun _ => false, fun _ => none) : MeS))), .ref ap_s, .ref an_s, .ref al_s, .ref ac_s, .ref aw_s, .ref am_s, .ref ak_s]))], [(ap_s, .inl (g.2.1 0, 16, .inl fp_s))], [(an_s, .inl (g.2.1 0, 31, .inl f211))], [(al_s, .inl (g.2.1 0, 31, .inl fl_s))], [(ac_s, .inl (g.2.1 0, 16, .inl fc_s))], [(aw_s, .inl (g.2.1 4, 31, .inl fw_s))], [(am_s, .inl (g.2.1 4, 16, .inl fm_s))], [(ak_s, .inl (g.2.1 0, 16, .inl fk_s))]] ((700 - k + 5 * (BN - (dBx D).length) + 10070 + 640 * (dMs D).length) - 1) ((129000 - 4 * k + 130200 + 1600 * (dMs D).length) - 4) from ?_)
            refine g_aload_n (q := 213) B dX3_commit_212 rfl rfl (rv_r _) ?_
            refine g_iload (q := 215) B dX3_commit_213 rfl rfl ?_
            have hpS : 2 ^ S.1 = 2 ^ (eTr Ep).1 := by rw [hSd]
            obtain ⟨wc_37, ewc_37⟩ : ∃ w : va_W, w = ([[(n81, .inr (16, [.int (nI (eNo ((eNo Ep + 1, S, 0, 0, fun _ => none, fun _ => false, fun _ => false, fun _ => none) : MeS))), .int (nI (2 ^ (eTr ((eNo Ep + 1, S, 0, 0, fun _ => none, fun _ => false, fun _ => false, fun _ => none) : MeS)).1)), .int (nI (eGo ((eNo Ep + 1, S, 0, 0, fun _ => none, fun _ => false, fun _ => false, fun _ => none) : MeS))), .int (nI (eKy ((eNo Ep + 1, S, 0, 0, fun _ => none, fun _ => false, fun _ => false, fun _ => none) : MeS))), .ref ap_s, .ref an_s, .ref al_s, .ref ac_s, .ref aw_s, .ref am_s, .ref ak_s]))], [(ap_s, .inl (g.2.1 0, 16, .inl fp_s))], [(an_s, .inl (g.2.1 0, 31, .inl f211))], [(al_s, .inl (g.2.1 0, 31, .inl fl_s))], [(ac_s, .inl (g.2.1 0, 16, .inl fc_s))], [(aw_s, .inl (g.2.1 4, 31, .inl fw_s))], [(am_s, .inl (g.2.1 4, 16, .inl fm_s))], [(ak_s, .inl (g.2.1 0, 16, .inl fk_s))]] : List va_W).flatten := ⟨_, rfl⟩
            have hwc_37 : EpP g n81 ((eNo Ep + 1, setN S (2 * mLf o) r119.2.2, 0, 0, fun _ => none, fun _ => false, fun _ => false, fun _ => none) : MeS) wc_37 := by
              rw [ewc_37]
              exact ⟨ap_s, an_s, al_s, ac_s, aw_s, am_s, ak_s, fp_s, f211, fl_s, fc_s, fw_s, fm_s, fk_s, (MeB.tr (r := ((eNo Ep + 1, S, 0, 0, fun _ => none, fun _ => false, fun _ => false, fun _ => none) : MeS)) hEs (setN_b hEs.2.1 _ hq3_)), hfp_s, hf211, hfl_s, hfc_s, hfw_s, hfm_s, hfk_s, rfl⟩
            refine g_close (w := wc_37) [10, 10, 10, 10, 10, 10, 10, 10] rfl ewc_37 rfl ?_
            refine (show Go g κ 215 [some (.ref m), some (.int (nI i)), some (.ref e76), some (.ref n81), some (.ref x29), some (.ref it102), some (.ref x119), some (.int (nI (mLf o))), none] [.int (nI (mLf o)), .ref n81] [v0, v1, v6, v7, v5, [(it102, .inr (22, [.int (nI (k + 1)), .int (nI k), .int md_6, .ref lr]))], [(m, .inr (12, [.ref ls, .ref lb, .ref lk, .ref lp, .ref lr, .ref le, .ref lm, .ref lo, .int (nI 0), .int (dZz D), .int (nI (dBn D)), .int (nI (dCm D))]))], v4, v2, v3, wc_37] ((700 - k + 5 * (BN - (dBx D).length) + 10070 + 640 * (dMs D).length) - 1) ((129000 - 4 * k + 130200 + 1600 * (dMs D).length) - 4) from ?_)
            refine g_callS (q := 218) (is := [10]) (kc2 := (700 - k + 5 * (BN - (dBx D).length) + 10070 + 640 * (dMs D).length) - 1) (ks2 := (129000 - 4 * k + 130200 + 1600 * (dMs D).length) - 4) B [.ref n81, .int (nI (mLf o))] (ct_X3_blanks g J (e := n81) (r := ((eNo Ep + 1, setN S (2 * mLf o) r119.2.2, 0, 0, fun _ => none, fun _ => false, fun _ => false, fun _ => none) : MeS)) (l := mLf o) hwc_37 (by show mLf o < 2 ^ S.1; omega)) dX3_commit_215 rfl q3431 q3432 q85 q3433 rfl rfl moX3_blanks rfl rfl (by decide) (by decide) (Nat.le_of_ble_eq_true rfl) (by omega) (by omega) (fun _ _ hx => noX_x hx) (fun v215 L1 hp215 => ?_)
            obtain ⟨u0_215, rfl, rfl, hu0_215⟩ := hp215
            refine (show Go g κ 218 [some (.ref m), some (.int (nI i)), some (.ref e76), some (.ref n81), some (.ref x29), some (.ref it102), some (.ref x119), some (.int (nI (mLf o))), none] [] [v0, v1, v6, v7, v5, [(it102, .inr (22, [.int (nI (k + 1)), .int (nI k), .int md_6, .ref lr]))], [(m, .inr (12, [.ref ls, .ref lb, .ref lk, .ref lp, .ref lr, .ref le, .ref lm, .ref lo, .int (nI 0), .int (dZz D), .int (nI (dBn D)), .int (nI (dCm D))]))], v4, v2, v3, u0_215] ((700 - k + 5 * (BN - (dBx D).length) + 10070 + 640 * (dMs D).length) - 1) ((129000 - 4 * k + 130200 + 1600 * (dMs D).length) - 4) from ?_)
            refine g_goto (tgt := 107) B dX3_commit_218 (by decide) ?_
            have hR1 := rnM1_y (Rs := dRs D) (T := S) ho (Classical.not_not.mp c136) c145 c172
            have hr_38 : EpP g n81 ((eNo Ep + 1, (rnM1 (dRs D) (dPs D) i S r119), 0, 0, fun _ => none, fun _ => false, fun _ => false, fun _ => none) : MeS) u0_215 := by rw [hR1]; exact hu0_215
            refine g_fg 6 rfl ?_
            refine g_fg 7 rfl ?_
            refine g_pk [0, 0, 0, 0, 4, 2, 0, 3, 2, 0, 0] rfl rfl ?_
            refine (show Go g κ 107 [some (.ref m), some (.int (nI i)), some (.ref e76), some (.ref n81), some (.ref x29), some (.ref it102), none, none, none] [] [v0, v1, v6, v7, v2, [(m, .inr (12, [.ref ls, .ref lb, .ref lk, .ref lp, .ref lr, .ref le, .ref lm, .ref lo, .int (nI 0), .int (dZz D), .int (nI (dBn D)), .int (nI (dCm D))]))], v5, u0_215, v3, [(it102, .inr (22, [.int (nI (k + 1)), .int (nI k), .int md_6, .ref lr]))], v4] ((700 - k + 5 * (BN - (dBx D).length) + 10070 + 640 * (dMs D).length) - 1) ((129000 - 4 * k + 130200 + 1600 * (dMs D).length) - 4) from ?_)
            refine g_room (kc2 := 700 - (k + 1) + 5 * (BN - (dBx D).length) + 10070 + 640 * (dMs D).length) (ks2 := 129000 - 4 * (k + 1) + 130200 + 1600 * (dMs D).length) (by omega) (by omega) ?_
            exact ih107 _ (by have := get_lt2 hr119; omega) (k + 1) (nI k) (rnM1 (dRs D) (dPs D) i S r119) u0_215 hr_38 (by first | assumption | omega | rfl) (by rw [hS, rnM_s hr119]) rfl
          · skip
            have c172 := Classical.not_not.mp c172
            refine g_goto (tgt := 107) B dX3_commit_175 (by decide) ?_
            have hR1 := rnM1_p (i := i) (Rs := dRs D) (T := S) ho c172
            have hr_39 : EpP g n81 ((eNo Ep + 1, (rnM1 (dRs D) (dPs D) i S r119), 0, 0, fun _ => none, fun _ => false, fun _ => false, fun _ => none) : MeS) l107_7 := by rw [hR1]; exact hl107_7
            refine g_fg 6 rfl ?_
            refine g_pk [0, 0, 0, 0, 6, 4, 0, 0, 1, 0, 0] rfl rfl ?_
            refine (show Go g κ 107 [some (.ref m), some (.int (nI i)), some (.ref e76), some (.ref n81), some (.ref x29), some (.ref it102), none, none, none] [] [v0, v1, v6, v7, v2, [(m, .inr (12, [.ref ls, .ref lb, .ref lk, .ref lp, .ref lr, .ref le, .ref lm, .ref lo, .int (nI 0), .int (dZz D), .int (nI (dBn D)), .int (nI (dCm D))]))], v5, l107_7, v3, [(it102, .inr (22, [.int (nI (k + 1)), .int (nI k), .int md_6, .ref lr]))], v4] ((700 - k + 5 * (BN - (dBx D).length) + 10070 + 640 * (dMs D).length) - 1) ((129000 - 4 * k + 130200 + 1600 * (dMs D).length) - 4) from ?_)
            refine g_room (kc2 := 700 - (k + 1) + 5 * (BN - (dBx D).length) + 10070 + 640 * (dMs D).length) (ks2 := 129000 - 4 * (k + 1) + 130200 + 1600 * (dMs D).length) (by omega) (by omega) ?_
            exact ih107 _ (by have := get_lt2 hr119; omega) (k + 1) (nI k) (rnM1 (dRs D) (dPs D) i S r119) l107_7 hr_39 (by first | assumption | omega | rfl) (by rw [hS, rnM_s hr119]) rfl
  refine g_room (kc2 := 700 - 0 + 5 * (BN - (dBx D).length) + 10070 + 640 * (dMs D).length) (ks2 := 129000 - 4 * 0 + 130200 + 1600 * (dMs D).length) (by omega) (by omega) ?_
  exact lp107 _ 0 (-1) (eTr Ep) u1_81 hu1_81 (Nat.zero_le _) (rfl) rfl
