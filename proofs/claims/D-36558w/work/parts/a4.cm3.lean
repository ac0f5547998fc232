set_option maxRecDepth 100000
abbrev RmS : Type := TrS × List PeS × List PkS
def rmv1 (S : RmS) (r : PrS) : RmS := if r.1 = 1 then (match S.1.2.2.2 r.2.1 with
  | none => S
  | some p => match S.2.1[p]? with
    | none => S
    | some q => (remT S.1 r.2.1, S.2.1.set p (clsP q S.2.2), (clsF (pPk q) S.2.2).2)) else S
def rmK (Rs : List PrS) (S : RmS) (k : Nat) : RmS := (Rs.take k).foldl rmv1 S
theorem rmK_s {Rs : List PrS} {S : RmS} {k : Nat} {r : PrS} (h : Rs[k]? = some r) : rmK Rs S (k + 1) = rmv1 (rmK Rs S k) r := fold_tk h
theorem rmv1_n {S : RmS} {r : PrS} (h : r.1 ≠ 1) : rmv1 S r = S := by unfold rmv1; rw [if_neg h]
theorem rmv1_y {S : RmS} {r : PrS} {p : Nat} {q : PeS} (h : r.1 = 1) (hp : S.1.2.2.2 r.2.1 = some p) (hq : S.2.1[p]? = some q) : rmv1 S r = (remT S.1 r.2.1, S.2.1.set p (clsP q S.2.2), (clsF (pPk q) S.2.2).2) := by
  unfold rmv1; rw [if_pos h, hp]; show (match S.2.1[p]? with
    | none => S
    | some q => (remT S.1 r.2.1, S.2.1.set p (clsP q S.2.2), (clsF (pPk q) S.2.2).2)) = _
  rw [hq]
theorem rmv1_l (S : RmS) (r : PrS) : (rmv1 S r).1.1 = S.1.1 ∧ (rmv1 S r).2.1.length = S.2.1.length ∧ (rmv1 S r).2.2.length = S.2.2.length := by
  unfold rmv1
  split
  · split
    · exact ⟨rfl, rfl, rfl⟩
    · split
      · exact ⟨rfl, rfl, rfl⟩
      · exact ⟨rfl, by rw [List.length_set], clsF_l _ _⟩
  · exact ⟨rfl, rfl, rfl⟩
theorem rmK_l (Rs : List PrS) (S : RmS) : ∀ k, k ≤ Rs.length → (rmK Rs S k).1.1 = S.1.1 ∧ (rmK Rs S k).2.1.length = S.2.1.length ∧ (rmK Rs S k).2.2.length = S.2.2.length
  | 0, _ => ⟨rfl, rfl, rfl⟩
  | k + 1, h => by
    obtain ⟨r, hr⟩ := get_ex (xs := Rs) (i := k) (by omega)
    obtain ⟨h1, h2, h3⟩ := rmK_l Rs S k (by omega)
    obtain ⟨h4, h5, h6⟩ := rmv1_l (rmK Rs S k) r
    rw [rmK_s hr, h4, h5, h6]; exact ⟨h1, h2, h3⟩
theorem moX1_closes : Mo yX1_closes 1 := by
  refine ⟨by decide, by decide, by decide +kernel⟩
theorem moX10_removes : Mo yX10_removes 1 := by
  refine ⟨by decide, by decide, by decide +kernel⟩
theorem ct_X1_removes (g : Gv) (J : Jd g) {x : Nat} {lk : Nat} {b : Nat} {lp : Nat} {lr : Nat} {lt : Nat} {ls : Nat} {lm : Nat} {so : Nat} {bxs : Nat} {ps : List Nat} {Ps : List PeS} {pcap : Nat} {pks : List Nat} {pmd : Int32} {Rs : List PrS} {rcap : Nat} {Ks : List PkS} {kcap : Nat} {t : Nat} {T : TrS} {w1 : va_W} {w2 : va_W} {w3 : va_W} {w4 : va_W} (hw1 : PropL g lr Rs rcap pks w1) (hw2 : PersL g lp ps Ps pcap x pks pmd w2) (hw3 : LoP g (PackP g) lk pks Ks kcap w3) (hw4 : TreeP g t T w4) (hpn : Ps.length < 100) (hrm : ∀ (k : Nat) (r : PrS), Rs[k]? = some r → r.1 = 1 → r.2.1 < 2 ^ T.1 ∧ ∃ (p : Nat) (q : PeS), (rmK Rs (T, Ps, Ks) k).1.2.2.2 r.2.1 = some p ∧ (rmK Rs (T, Ps, Ks) k).2.1[p]? = some q ∧ ∀ i ∈ pPk q, i < Ks.length) : Ct g yX1_removes (ws_ yX1_removes cX1_removes 5 none) 10 (1 + 4 * Rs.length) (4 + 21 * Rs.length) [.ref x, .ref t] [[(x, .inr (0, [.ref b, .ref lp, .ref lk, .ref lr, .ref lt, .ref ls, .ref lm, .ref so, .int (nI bxs)]))], w1, w2, w3, w4] (fun (rv_ : Option Value) (rL_ : List va_W) => ∃ (u2 : va_W) (u3 : va_W) (u4 : va_W), rv_ = none ∧ rL_ = [[(x, .inr (0, [.ref b, .ref lp, .ref lk, .ref lr, .ref lt, .ref ls, .ref lm, .ref so, .int (nI bxs)]))], w1, u2, u3, u4] ∧ PersL g lp ps ((rmK Rs (T, Ps, Ks) Rs.length).2.1) pcap x pks pmd u2 ∧ LoP g (PackP g) lk pks ((rmK Rs (T, Ps, Ks) Rs.length).2.2) kcap u3 ∧ TreeP g t ((rmK Rs (T, Ps, Ks) Rs.length).1) u4) noX := by
  refine Ct.of "Keygrove" [some (.ref x), some (.ref t), none, none, none] rfl (by decide) rfl (Nat.le_of_ble_eq_true rfl) rfl ?_
  intro κ B E tb
  have hB := TreeP.b hw4
  have hp2 := p2_4 hB.1
  have hd4 := hB.1
  refine g_aload_n (q := 1) B dX1_removes_0 rfl rfl (rv_r _) ?_
  refine g_get (q := 4) B (ci := 0) (k := 0) (j := 3) in_X1 rfl dX1_removes_1 rfl rfl (Nat.le_of_ble_eq_true rfl) q280 rfl rfl ?_
  obtain ⟨ps_1, md_1, hli_1, hln_1, hel_1⟩ := LhP.at (Sub.self hw1)
  refine g_callF (q := 9) (is := [1]) (kc2 := (1 + 4 * Rs.length) - 1) (ks2 := (4 + 21 * Rs.length) - 4) B [] (ct_J2_iterator_s g J (p := lr) (xs := ps_1) (md := md_1) (cap := rcap) (W0 := w1)  (hli_1)) dX1_removes_4 rfl (ci := 21) rfl (rc_in B (ci := 21) rfl (k := 1) rfl (PropL.hm hw1)) q1153 q1156 q805 q81 q807 q1155 q1154 q806 q804 q318 rfl rfl mojava_util_List_iterator___Ljava_util_Iterator_ rfl rfl (by decide) (by decide) (Nat.le_of_ble_eq_true rfl) (by omega) (by omega) (fun _ _ hx => noX_x hx) (fun v4 L1 hp4 => ?_)
  obtain ⟨it4, rfl, rfl⟩ := hp4
  refine (show Go g κ 9 [some (.ref x), some (.ref t), none, none, none] [.ref it4] [[(x, .inr (0, [.ref b, .ref lp, .ref lk, .ref lr, .ref lt, .ref ls, .ref lm, .ref so, .int (nI bxs)]))], w2, w3, w4, [(it4, .inr (22, [.int (nI 0), .int (-1), .int md_1, .ref lr]))], w1] ((1 + 4 * Rs.length) - 1) ((4 + 21 * Rs.length) - 4) from ?_)
  refine g_astore_n (q := 10) (lv2 := [some (.ref x), some (.ref t), some (.ref it4), none, none]) B dX1_removes_9 rfl (Nat.le_of_ble_eq_true rfl) (rv_r _) rfl ?_
  have lp10 : ∀ (n10 : Nat) (k : Nat) (lrt : Int32) (l10_1 : va_W) (l10_2 : va_W) (l10_3 : va_W), PersL g lp ps ((rmK Rs (T, Ps, Ks) k).2.1) pcap x pks pmd l10_1 → LoP g (PackP g) lk pks ((rmK Rs (T, Ps, Ks) k).2.2) kcap l10_2 → TreeP g t ((rmK Rs (T, Ps, Ks) k).1) l10_3 → (k ≤ Rs.length) → Rs.length - k = n10 → Go g κ 10 [some (.ref x), some (.ref t), some (.ref it4), none, none] [] [[(x, .inr (0, [.ref b, .ref lp, .ref lk, .ref lr, .ref lt, .ref ls, .ref lm, .ref so, .int (nI bxs)]))], l10_1, l10_2, l10_3, [(it4, .inr (22, [.int (nI k), .int lrt, .int md_1, .ref lr]))], w1] (4 * (Rs.length - k)) (21 * (Rs.length - k)) := by
    intro n10
    induction n10 using Nat.strongRecOn with
    | _ n10 ih10 =>
    intro k lrt l10_1 l10_2 l10_3 hl10_1 hl10_2 hl10_3 hk hmu10
    refine g_aload_n (q := 11) B dX1_removes_10 rfl rfl (rv_r _) ?_
    refine g_callF (q := 16) (is := [4, 4]) (kc2 := 4 * (Rs.length - k)) (ks2 := 21 * (Rs.length - k)) B [] (ct_J19_hasNext_s g J (p := lr) (xs := ps_1) (md := md_1) (cap := rcap) (it := it4) (c := k) (lr := lrt) (W1 := w1)  (hli_1) (by have := hln_1.1; omega)) dX1_removes_11 rfl (ci := 22) rfl (rc_at B (ci := 22) rfl (k := 4) rfl) q1158 q940 q942 q104 q944 q938 q937 q943 q941 q939 rfl rfl mojava_util_Iterator_hasNext___Z rfl rfl (by decide) (by decide) (Nat.le_of_ble_eq_true rfl) (by omega) (by omega) (fun _ _ hx => noX_x hx) (fun v11 L1 hp11 => ?_)
    obtain ⟨rfl, rfl⟩ := hp11
    refine (show Go g κ 16 [some (.ref x), some (.ref t), some (.ref it4), none, none] [.int (nI (if ¬ k = ps_1.length then 1 else 0))] [[(x, .inr (0, [.ref b, .ref lp, .ref lk, .ref lr, .ref lt, .ref ls, .ref lm, .ref so, .int (nI bxs)]))], l10_1, l10_2, l10_3, [(it4, .inr (22, [.int (nI k), .int lrt, .int md_1, .ref lr]))], w1] (4 * (Rs.length - k)) (21 * (Rs.length - k)) from ?_)
    rw [hln_1.1]
    refine (show Go g κ 16 [some (.ref x), some (.ref t), some (.ref it4), none, none] [.int (nI (if ¬ k = Rs.length then 1 else 0))] [[(x, .inr (0, [.ref b, .ref lp, .ref lk, .ref lr, .ref lt, .ref ls, .ref lm, .ref so, .int (nI bxs)]))], l10_1, l10_2, l10_3, [(it4, .inr (22, [.int (nI k), .int lrt, .int md_1, .ref lr]))], w1] (4 * (Rs.length - k)) (21 * (Rs.length - k)) from ?_)
    refine g_if_eq (tgt := 65) (q := 19) B dX1_removes_16 rfl (by decide) (bo_eq) (fun c16 => ?_) (fun c16 => ?_)
    · skip
      have hr_2 : TreeP g t ((rmK Rs (T, Ps, Ks) Rs.length).1) l10_3 := (show k = Rs.length by omega) ▸ hl10_3
      have hr_3 : PersL g lp ps ((rmK Rs (T, Ps, Ks) Rs.length).2.1) pcap x pks pmd l10_1 := (show k = Rs.length by omega) ▸ hl10_1
      have hr_4 : LoP g (PackP g) lk pks ((rmK Rs (T, Ps, Ks) Rs.length).2.2) kcap l10_2 := (show k = Rs.length by omega) ▸ hl10_2
      refine g_pk [0, 4, 0, 0, 0] rfl rfl ?_
      refine (show Go g κ 65 [some (.ref x), some (.ref t), some (.ref it4), none, none] [] [[(x, .inr (0, [.ref b, .ref lp, .ref lk, .ref lr, .ref lt, .ref ls, .ref lm, .ref so, .int (nI bxs)]))], w1, l10_1, l10_2, l10_3] (4 * (Rs.length - k)) (21 * (Rs.length - k)) from ?_)
      exact g_vret B E dX1_removes_65 (⟨l10_1, l10_2, l10_3, rfl, rfl, hr_3, hr_4, hr_2⟩)
    · skip
      have c16 := Classical.not_not.mp c16
      refine g_aload_n (q := 20) B dX1_removes_19 rfl rfl (rv_r _) ?_
      obtain ⟨r20, hr20⟩ := get_ex (xs := Rs) (i := k) (by omega)
      obtain ⟨x20, hx20⟩ := get_ex (xs := ps_1) (i := k) (by have := get_lt2 hr20; have := hln_1.1; omega)
      have hE_5 := hel_1 _ _ _ hx20 hr20
      refine g_callF (q := 25) (is := [4, 4]) (kc2 := 4 * (Rs.length - k)) (ks2 := 21 * (Rs.length - k)) B [] (ct_J19_next_s g J (p := lr) (xs := ps_1) (md := md_1) (cap := rcap) (it := it4) (c := k) (lr := lrt) (x := x20) (W1 := w1)  (hli_1) (hx20)) dX1_removes_20 rfl (ci := 22) rfl (rc_at B (ci := 22) rfl (k := 4) rfl) q1160 q967 q969 q104 q971 q966 q965 q970 q968 q939 rfl rfl mojava_util_Iterator_next___Ljava_lang_Object_ rfl rfl (by decide) (by decide) (Nat.le_of_ble_eq_true rfl) (by omega) (by omega) (fun _ _ hx => noX_x hx) (fun v20 L1 hp20 => ?_)
      obtain ⟨rfl, rfl⟩ := hp20
      refine (show Go g κ 25 [some (.ref x), some (.ref t), some (.ref it4), none, none] [.ref x20] [[(x, .inr (0, [.ref b, .ref lp, .ref lk, .ref lr, .ref lt, .ref ls, .ref lm, .ref so, .int (nI bxs)]))], l10_1, l10_2, l10_3, [(it4, .inr (22, [.int (nI (k + 1)), .int (nI k), .int md_1, .ref lr]))], w1] (4 * (Rs.length - k)) (21 * (Rs.length - k)) from ?_)
      rcases (PropP.at (show Sub (PropP g pks x20 r20) _ from hE_5)) with ⟨hkd, kp, hkp, hcp⟩ | ⟨hkd, hcp⟩ | ⟨hkd, hcp⟩
      · skip
        refine g_castR (q := 28) B (rc_in B (ci := 8) rfl (k := 5) rfl ⟨_, hcp⟩) dX1_removes_25 rfl q2391 q3673 ?_
        refine g_astore_n (q := 29) (lv2 := [some (.ref x), some (.ref t), some (.ref it4), some (.ref x20), none]) B dX1_removes_28 rfl (Nat.le_of_ble_eq_true rfl) (rv_r _) rfl ?_
        refine g_aload_n (q := 30) B dX1_removes_29 rfl rfl (rv_r _) ?_
        refine g_instRNo (q := 33) B (rc_in B (ci := 8) rfl (k := 5) rfl ⟨_, hcp⟩) dX1_removes_30 rfl q2421 nc_526 ?_
        refine g_if_eq (tgt := 62) (q := 36) B dX1_removes_33 rfl (by decide) (iff_true_intro (by decide)) (fun _ => ?_) (fun z => absurd trivial z)
        refine g_goto (tgt := 10) B dX1_removes_62 (by decide) ?_
        have hsx := (rmK_s (S := (T, Ps, Ks)) hr20).trans (rmv1_n (by rw [hkd]; decide))
        have hr_6 : TreeP g t ((rmK Rs (T, Ps, Ks) (k + 1)).1) l10_3 := by rw [hsx]; exact hl10_3
        have hr_7 : PersL g lp ps ((rmK Rs (T, Ps, Ks) (k + 1)).2.1) pcap x pks pmd l10_1 := by rw [hsx]; exact hl10_1
        have hr_8 : LoP g (PackP g) lk pks ((rmK Rs (T, Ps, Ks) (k + 1)).2.2) kcap l10_2 := by rw [hsx]; exact hl10_2
        refine g_fg 3 rfl ?_
        refine g_room (kc2 := 4 * (Rs.length - (k + 1))) (ks2 := 21 * (Rs.length - (k + 1))) (by omega) (by omega) ?_
        exact ih10 _ (by omega) (k + 1) (nI k) l10_1 l10_2 l10_3 hr_7 hr_8 hr_6 (by first | assumption | omega | rfl) rfl
      · skip
        refine g_castR (q := 28) B (rc_in B (ci := 9) rfl (k := 5) rfl ⟨_, hcp⟩) dX1_removes_25 rfl q2391 q3674 ?_
        refine g_astore_n (q := 29) (lv2 := [some (.ref x), some (.ref t), some (.ref it4), some (.ref x20), none]) B dX1_removes_28 rfl (Nat.le_of_ble_eq_true rfl) (rv_r _) rfl ?_
        refine g_aload_n (q := 30) B dX1_removes_29 rfl rfl (rv_r _) ?_
        refine g_instRS (ci := 9) (q := 33) B rfl (rc_in B (ci := 9) rfl (k := 5) rfl ⟨_, hcp⟩) dX1_removes_30 rfl q2421 ?_
        refine g_if_eq (tgt := 62) (q := 36) B dX1_removes_33 rfl (by decide) (iff_false_intro (by decide)) (fun z => z.elim) (fun _ => ?_)
        obtain ⟨hl20, p20, q20, hp20, hq20, hkb20⟩ := hrm k r20 hr20 hkd
        obtain ⟨hd1, hd2, hd3⟩ := rmK_l Rs (T, Ps, Ks) k hk
        have hd1 : (rmK Rs (T, Ps, Ks) k).1.1 = T.1 := hd1
        have hd2 : (rmK Rs (T, Ps, Ks) k).2.1.length = Ps.length := hd2
        have hd3 : (rmK Rs (T, Ps, Ks) k).2.2.length = Ks.length := hd3
        have hp99 := get_lt2 hq20
        refine g_aload_n (q := 37) B dX1_removes_36 rfl rfl (rv_r _) ?_
        refine g_castRS (ci := 9) (q := 40) B rfl (rc_in B (ci := 9) rfl (k := 5) rfl ⟨_, hcp⟩) dX1_removes_37 rfl q2421 ?_
        refine g_getNM (q := 43) B (ci := 9) (k := 5) (j := 0) in_X18 rfl dX1_removes_40 rfl rfl (hcp) (Nat.le_of_ble_eq_true rfl) q2428 rfl rfl ?_
        refine g_istore (q := 45) (lv2 := [some (.ref x), some (.ref t), some (.ref it4), some (.ref x20), some (.int (nI r20.2.1))]) B dX1_removes_43 rfl (Nat.le_of_ble_eq_true rfl) rfl ?_
        refine g_aload_n (q := 46) B dX1_removes_45 rfl rfl (rv_r _) ?_
        refine g_aload_n (q := 47) B dX1_removes_46 rfl rfl (rv_r _) ?_
        obtain ⟨as_9, al_9, ap_9, fs_9, fl_9, fp_9, hB_9, hfs_9, hfl_9, hfp_9, hc_9_0, hc_9_1, hc_9_2, hc_9_3⟩ := TreeP.at (Sub.self hl10_3)
        refine g_getNM (q := 50) B (ci := 5) (k := 3) (j := 3) in_X10 rfl dX1_removes_47 rfl rfl (hc_9_0) (Nat.le_of_ble_eq_true rfl) q2045 rfl rfl ?_
        refine g_iload (q := 52) B dX1_removes_50 rfl rfl ?_
        refine g_ialdM (v := oI ((((rmK Rs (T, Ps, Ks) k).1).2.2.2) r20.2.1)) (q := 53) B (k := 3) dX1_removes_52 rfl rfl (hc_9_3) (vp_in_nI (by omega) (by omega)) (by rw [nI_clamp (by omega)]; exact hfp_9 _ (by omega)) ?_
        refine g_stk (y := .int (nI p20)) (by rw [hp20]; rfl) ?_
        refine g_callV (q := 56) (is := [0, 0, 0]) (kc2 := (4 * (Rs.length - k)) - 1) (ks2 := (21 * (Rs.length - k)) - 4) B [.int (nI p20)] (ct_X1_closes g J (x := x) (lk := lk) (b := b) (lp := lp) (lr := lr) (lt := lt) (ls := ls) (lm := lm) (so := so) (bxs := bxs) (ps := ps) (Ps := (rmK Rs (T, Ps, Ks) k).2.1) (pcap := pcap) (pks := pks) (pmd := pmd) (Ks := (rmK Rs (T, Ps, Ks) k).2.2) (kcap := kcap) (i := p20) (r := q20) hl10_1 hl10_2 (hq20) (by omega) (by rw [hd3]; exact hkb20)) dX1_removes_53 rfl (rc_at B (ci := 0) rfl (k := 0) rfl) rfl q2529 q2531 qs35 q77 q2532 rfl rfl moX1_closes rfl rfl (by decide) (by decide) (Nat.le_of_ble_eq_true rfl) (by omega) (by omega) (fun _ _ hx => noX_x hx) (fun v53 L1 hp53 => ?_)
        obtain ⟨u1_53, u2_53, rfl, rfl, hu1_53, hu2_53⟩ := hp53
        refine (show Go g κ 56 [some (.ref x), some (.ref t), some (.ref it4), some (.ref x20), some (.int (nI r20.2.1))] [] [l10_3, [(it4, .inr (22, [.int (nI (k + 1)), .int (nI k), .int md_1, .ref lr]))], w1, [(x, .inr (0, [.ref b, .ref lp, .ref lk, .ref lr, .ref lt, .ref ls, .ref lm, .ref so, .int (nI bxs)]))], u1_53, u2_53] ((4 * (Rs.length - k)) - 1) ((21 * (Rs.length - k)) - 4) from ?_)
        refine g_aload_n (q := 57) B dX1_removes_56 rfl rfl (rv_r _) ?_
        refine g_iload (q := 59) B dX1_removes_57 rfl rfl ?_
        refine g_callV (q := 62) (is := [0]) (kc2 := (4 * (Rs.length - k)) - 4) (ks2 := (21 * (Rs.length - k)) - 21) B [.int (nI r20.2.1)] (ct_X10_removes g J (t := t) (T := (rmK Rs (T, Ps, Ks) k).1) (l := r20.2.1) hl10_3 (by rw [hd1]; exact hl20)) dX1_removes_59 rfl (rc_in B (ci := 5) rfl (k := 0) rfl (TreeP.hm hl10_3)) rfl q2535 q2536 q2537 q123 q2538 rfl rfl moX10_removes rfl rfl (by decide) (by decide) (Nat.le_of_ble_eq_true rfl) (by omega) (by omega) (fun _ _ hx => noX_x hx) (fun v59 L1 hp59 => ?_)
        obtain ⟨u0_59, rfl, rfl, hu0_59⟩ := hp59
        refine (show Go g κ 62 [some (.ref x), some (.ref t), some (.ref it4), some (.ref x20), some (.int (nI r20.2.1))] [] [[(it4, .inr (22, [.int (nI (k + 1)), .int (nI k), .int md_1, .ref lr]))], w1, [(x, .inr (0, [.ref b, .ref lp, .ref lk, .ref lr, .ref lt, .ref ls, .ref lm, .ref so, .int (nI bxs)]))], u1_53, u2_53, u0_59] ((4 * (Rs.length - k)) - 4) ((21 * (Rs.length - k)) - 21) from ?_)
        refine g_goto (tgt := 10) B dX1_removes_62 (by decide) ?_
        have hsx := (rmK_s (S := (T, Ps, Ks)) hr20).trans (rmv1_y hkd hp20 hq20)
        have hr_10 : TreeP g t ((rmK Rs (T, Ps, Ks) (k + 1)).1) u0_59 := by rw [hsx]; exact hu0_59
        have hr_11 : PersL g lp ps ((rmK Rs (T, Ps, Ks) (k + 1)).2.1) pcap x pks pmd u1_53 := by rw [hsx]; exact hu1_53
        have hr_12 : LoP g (PackP g) lk pks ((rmK Rs (T, Ps, Ks) (k + 1)).2.2) kcap u2_53 := by rw [hsx]; exact hu2_53
        refine g_fg 3 rfl ?_
        refine g_fg 4 rfl ?_
        refine g_pk [2, 2, 2, 2, 0, 0] rfl rfl ?_
        refine (show Go g κ 10 [some (.ref x), some (.ref t), some (.ref it4), none, none] [] [[(x, .inr (0, [.ref b, .ref lp, .ref lk, .ref lr, .ref lt, .ref ls, .ref lm, .ref so, .int (nI bxs)]))], u1_53, u2_53, u0_59, [(it4, .inr (22, [.int (nI (k + 1)), .int (nI k), .int md_1, .ref lr]))], w1] ((4 * (Rs.length - k)) - 4) ((21 * (Rs.length - k)) - 21) from ?_)
        refine g_room (kc2 := 4 * (Rs.length - (k + 1))) (ks2 := 21 * (Rs.length - (k + 1))) (by omega) (by omega) ?_
        exact ih10 _ (by omega) (k + 1) (nI k) u1_53 u2_53 u0_59 hr_11 hr_12 hr_10 (by first | assumption | omega | rfl) rfl
      · skip
        refine g_castR (q := 28) B (rc_in B (ci := 10) rfl (k := 5) rfl ⟨_, hcp⟩) dX1_removes_25 rfl q2391 q3675 ?_
        refine g_astore_n (q := 29) (lv2 := [some (.ref x), some (.ref t), some (.ref it4), some (.ref x20), none]) B dX1_removes_28 rfl (Nat.le_of_ble_eq_true rfl) (rv_r _) rfl ?_
        refine g_aload_n (q := 30) B dX1_removes_29 rfl rfl (rv_r _) ?_
        refine g_instRNo (q := 33) B (rc_in B (ci := 10) rfl (k := 5) rfl ⟨_, hcp⟩) dX1_removes_30 rfl q2421 nc_528 ?_
        refine g_if_eq (tgt := 62) (q := 36) B dX1_removes_33 rfl (by decide) (iff_true_intro (by decide)) (fun _ => ?_) (fun z => absurd trivial z)
        refine g_goto (tgt := 10) B dX1_removes_62 (by decide) ?_
        have hsx := (rmK_s (S := (T, Ps, Ks)) hr20).trans (rmv1_n (by rw [hkd]; decide))
        have hr_13 : TreeP g t ((rmK Rs (T, Ps, Ks) (k + 1)).1) l10_3 := by rw [hsx]; exact hl10_3
        have hr_14 : PersL g lp ps ((rmK Rs (T, Ps, Ks) (k + 1)).2.1) pcap x pks pmd l10_1 := by rw [hsx]; exact hl10_1
        have hr_15 : LoP g (PackP g) lk pks ((rmK Rs (T, Ps, Ks) (k + 1)).2.2) kcap l10_2 := by rw [hsx]; exact hl10_2
        refine g_fg 3 rfl ?_
        refine g_room (kc2 := 4 * (Rs.length - (k + 1))) (ks2 := 21 * (Rs.length - (k + 1))) (by omega) (by omega) ?_
        exact ih10 _ (by omega) (k + 1) (nI k) l10_1 l10_2 l10_3 hr_14 hr_15 hr_13 (by first | assumption | omega | rfl) rfl
  have hr_16 : TreeP g t ((rmK Rs (T, Ps, Ks) 0).1) w4 := hw4
  have hr_17 : PersL g lp ps ((rmK Rs (T, Ps, Ks) 0).2.1) pcap x pks pmd w2 := hw2
  have hr_18 : LoP g (PackP g) lk pks ((rmK Rs (T, Ps, Ks) 0).2.2) kcap w3 := hw3
  refine g_room (kc2 := 4 * (Rs.length - 0)) (ks2 := 21 * (Rs.length - 0)) (by omega) (by omega) ?_
  exact lp10 _ 0 (-1) w2 w3 w4 hr_17 hr_18 hr_16 (Nat.zero_le _) rfl
abbrev AdS : Type := TrS × List PkS × Nat × List Nat
def adsP (nx : Nat) (q : PkS) : PkS := (q.1, q.2.1, q.2.2.1, true, some nx, true)
def ad1 (nx : Nat) (S : AdS) (r : PrS) : AdS := if r.1 = 0 then (match S.2.1[r.2.1]? with
  | none => S
  | some q => (addT S.1 q.1 q.2.1, S.2.1.set r.2.1 (adsP nx q), S.2.2.1 ||| 2 ^ frlT S.1, S.2.2.2 ++ [r.2.1])) else S
def adK (nx : Nat) (Rs : List PrS) (S : AdS) (k : Nat) : AdS := (Rs.take k).foldl (ad1 nx) S
theorem adK_s {nx : Nat} {Rs : List PrS} {S : AdS} {k : Nat} {r : PrS} (h : Rs[k]? = some r) : adK nx Rs S (k + 1) = ad1 nx (adK nx Rs S k) r := fold_tk h
theorem ad1_n {nx : Nat} {S : AdS} {r : PrS} (h : r.1 ≠ 0) : ad1 nx S r = S := by unfold ad1; rw [if_neg h]
theorem ad1_y {nx : Nat} {S : AdS} {r : PrS} {q : PkS} (h : r.1 = 0) (hq : S.2.1[r.2.1]? = some q) : ad1 nx S r = (addT S.1 q.1 q.2.1, S.2.1.set r.2.1 (adsP nx q), S.2.2.1 ||| 2 ^ frlT S.1, S.2.2.2 ++ [r.2.1]) := by
  unfold ad1; rw [if_pos h, hq]
theorem ad1_l (nx : Nat) (S : AdS) (r : PrS) : (ad1 nx S r).2.1.length = S.2.1.length := by
  unfold ad1
  split
  · split
    · rfl
    · exact List.length_set
  · rfl
theorem adK_l (nx : Nat) (Rs : List PrS) (S : AdS) : ∀ k, k ≤ Rs.length → (adK nx Rs S k).2.1.length = S.2.1.length
  | 0, _ => rfl
  | k + 1, h => by
    obtain ⟨r, hr⟩ := get_ex (xs := Rs) (i := k) (by omega)
    rw [adK_s hr, ad1_l]; exact adK_l nx Rs S k (by omega)
theorem moX10_adds : Mo yX10_adds 2 := by
  refine ⟨by decide, by decide, by decide +kernel⟩
theorem ct_X1_adds (g : Gv) (J : Jd g) {x : Nat} {lk : Nat} {b : Nat} {lp : Nat} {lr : Nat} {lt : Nat} {ls : Nat} {lm : Nat} {so : Nat} {bxs : Nat} {Ts : List TrS} {tcap : Nat} {Rs : List PrS} {rcap : Nat} {pks : List Nat} {Ks : List PkS} {kcap : Nat} {t : Nat} {T : TrS} {al : Nat} {md : Int32} {w1 : va_W} {w2 : va_W} {w3 : va_W} {w4 : va_W} {w5 : va_W} (hw1 : PropL g lr Rs rcap pks w1) (hw2 : LoP g (PackP g) lk pks Ks kcap w2) (hw3 : TreeP g t T w3) (hw4 : LhP g (TreeP g) lt Ts tcap w4) (hw5 : ListP g al ([]) md 0 w5) (had : ∀ (k : Nat) (r : PrS), Rs[k]? = some r → r.1 = 0 → frlT (adK Ts.length Rs (T, Ks, 0, []) k).1 < 16) (htn : Ts.length < 100) (hr8 : Rs.length ≤ 8) : Ct g yX1_adds (ws_ yX1_adds cX1_adds 7 (some .int)) 9 (2 + 3 * Rs.length) (14 + 17 * Rs.length) [.ref x, .ref t, .ref al] [[(x, .inr (0, [.ref b, .ref lp, .ref lk, .ref lr, .ref lt, .ref ls, .ref lm, .ref so, .int (nI bxs)]))], w1, w2, w3, w4, w5] (fun (rv_ : Option Value) (rL_ : List va_W) => ∃ (xs : List Nat) (md2 : Int32) (cap : Nat) (u2 : va_W) (u3 : va_W) (u5 : va_W), rv_ = some (.int (nI ((adK Ts.length Rs (T, Ks, 0, []) Rs.length).2.2.1))) ∧ rL_ = [[(x, .inr (0, [.ref b, .ref lp, .ref lk, .ref lr, .ref lt, .ref ls, .ref lm, .ref so, .int (nI bxs)]))], w1, u2, u3, w4, u5] ∧ LoP g (PackP g) lk pks ((adK Ts.length Rs (T, Ks, 0, []) Rs.length).2.1) kcap u2 ∧ TreeP g t ((adK Ts.length Rs (T, Ks, 0, []) Rs.length).1) u3 ∧ ListP g al xs md2 cap u5 ∧ (Plc pks (adK Ts.length Rs (T, Ks, 0, []) Rs.length).2.2.2 xs) ∧ ((adK Ts.length Rs (T, Ks, 0, []) Rs.length).2.2.1 < 65536)) noX := by
  refine Ct.of "Keygrove" [some (.ref x), some (.ref t), some (.ref al), none, none, none, none] rfl (by decide) rfl (Nat.le_of_ble_eq_true rfl) rfl ?_
  intro κ B E tb
  refine g_iconst (v := nI 0) (q := 1) B dX1_adds_0 rfl (by decide) ?_
  refine g_istore_n (q := 2) (lv2 := [some (.ref x), some (.ref t), some (.ref al), some (.int (nI 0)), none, none, none]) B dX1_adds_1 rfl (Nat.le_of_ble_eq_true rfl) rfl ?_
  refine g_aload_n (q := 3) B dX1_adds_2 rfl rfl (rv_r _) ?_
  refine g_get (q := 6) B (ci := 0) (k := 0) (j := 3) in_X1 rfl dX1_adds_3 rfl rfl (Nat.le_of_ble_eq_true rfl) q280 rfl rfl ?_
  obtain ⟨ps_1, md_1, hli_1, hln_1, hel_1⟩ := LhP.at (Sub.self hw1)
  refine g_callF (q := 11) (is := [1]) (kc2 := (2 + 3 * Rs.length) - 1) (ks2 := (14 + 17 * Rs.length) - 4) B [] (ct_J2_iterator_s g J (p := lr) (xs := ps_1) (md := md_1) (cap := rcap) (W0 := w1)  (hli_1)) dX1_adds_6 rfl (ci := 21) rfl (rc_in B (ci := 21) rfl (k := 1) rfl (PropL.hm hw1)) q1153 q1156 q805 q81 q807 q1155 q1154 q806 q804 q318 rfl rfl mojava_util_List_iterator___Ljava_util_Iterator_ rfl rfl (by decide) (by decide) (Nat.le_of_ble_eq_true rfl) (by omega) (by omega) (fun _ _ hx => noX_x hx) (fun v6 L1 hp6 => ?_)
  obtain ⟨it6, rfl, rfl⟩ := hp6
  refine (show Go g κ 11 [some (.ref x), some (.ref t), some (.ref al), some (.int (nI 0)), none, none, none] [.ref it6] [[(x, .inr (0, [.ref b, .ref lp, .ref lk, .ref lr, .ref lt, .ref ls, .ref lm, .ref so, .int (nI bxs)]))], w2, w3, w4, w5, [(it6, .inr (22, [.int (nI 0), .int (-1), .int md_1, .ref lr]))], w1] ((2 + 3 * Rs.length) - 1) ((14 + 17 * Rs.length) - 4) from ?_)
  refine g_astore (q := 13) (lv2 := [some (.ref x), some (.ref t), some (.ref al), some (.int (nI 0)), some (.ref it6), none, none]) B dX1_adds_11 rfl (Nat.le_of_ble_eq_true rfl) (rv_r _) rfl ?_
  have lp13 : ∀ (n13 : Nat) (k : Nat) (lrt : Int32) (xs : List Nat) (md1 : Int32) (cap1 : Nat) (l13_1 : va_W) (l13_2 : va_W) (l13_4 : va_W), LoP g (PackP g) lk pks ((adK Ts.length Rs (T, Ks, 0, []) k).2.1) kcap l13_1 → TreeP g t ((adK Ts.length Rs (T, Ks, 0, []) k).1) l13_2 → ListP g al xs md1 cap1 l13_4 → (k ≤ Rs.length) → (Plc pks (adK Ts.length Rs (T, Ks, 0, []) k).2.2.2 xs) → (cap1 = 10 * min xs.length 1) → (xs.length ≤ k) → ((adK Ts.length Rs (T, Ks, 0, []) k).2.2.1 < 65536) → Rs.length - k = n13 → Go g κ 13 [some (.ref x), some (.ref t), some (.ref al), some (.int (nI ((adK Ts.length Rs (T, Ks, 0, []) k).2.2.1))), some (.ref it6), none, none] [] [[(x, .inr (0, [.ref b, .ref lp, .ref lk, .ref lr, .ref lt, .ref ls, .ref lm, .ref so, .int (nI bxs)]))], l13_1, l13_2, w4, l13_4, [(it6, .inr (22, [.int (nI k), .int lrt, .int md_1, .ref lr]))], w1] (3 * (Rs.length - k) + (1 - min xs.length 1)) (17 * (Rs.length - k) + (10 - 10 * min xs.length 1)) := by
    intro n13
    induction n13 using Nat.strongRecOn with
    | _ n13 ih13 =>
    intro k lrt xs md1 cap1 l13_1 l13_2 l13_4 hl13_1 hl13_2 hl13_4 hk hpl1 hcpx hxl hfr hmu13
    refine g_aload (q := 15) B dX1_adds_13 rfl rfl (rv_r _) ?_
    refine g_callF (q := 20) (is := [5, 5]) (kc2 := 3 * (Rs.length - k) + (1 - min xs.length 1)) (ks2 := 17 * (Rs.length - k) + (10 - 10 * min xs.length 1)) B [] (ct_J19_hasNext_s g J (p := lr) (xs := ps_1) (md := md_1) (cap := rcap) (it := it6) (c := k) (lr := lrt) (W1 := w1)  (hli_1) (by have := hln_1.1; omega)) dX1_adds_15 rfl (ci := 22) rfl (rc_at B (ci := 22) rfl (k := 5) rfl) q1158 q940 q942 q104 q944 q938 q937 q943 q941 q939 rfl rfl mojava_util_Iterator_hasNext___Z rfl rfl (by decide) (by decide) (Nat.le_of_ble_eq_true rfl) (by omega) (by omega) (fun _ _ hx => noX_x hx) (fun v15 L1 hp15 => ?_)
    obtain ⟨rfl, rfl⟩ := hp15
    refine (show Go g κ 20 [some (.ref x), some (.ref t), some (.ref al), some (.int (nI ((adK Ts.length Rs (T, Ks, 0, []) k).2.2.1))), some (.ref it6), none, none] [.int (nI (if ¬ k = ps_1.length then 1 else 0))] [[(x, .inr (0, [.ref b, .ref lp, .ref lk, .ref lr, .ref lt, .ref ls, .ref lm, .ref so, .int (nI bxs)]))], l13_1, l13_2, w4, l13_4, [(it6, .inr (22, [.int (nI k), .int lrt, .int md_1, .ref lr]))], w1] (3 * (Rs.length - k) + (1 - min xs.length 1)) (17 * (Rs.length - k) + (10 - 10 * min xs.length 1)) from ?_)
    rw [hln_1.1]
    refine (show Go g κ 20 [some (.ref x), some (.ref t), some (.ref al), some (.int (nI ((adK Ts.length Rs (T, Ks, 0, []) k).2.2.1))), some (.ref it6), none, none] [.int (nI (if ¬ k = Rs.length then 1 else 0))] [[(x, .inr (0, [.ref b, .ref lp, .ref lk, .ref lr, .ref lt, .ref ls, .ref lm, .ref so, .int (nI bxs)]))], l13_1, l13_2, w4, l13_4, [(it6, .inr (22, [.int (nI k), .int lrt, .int md_1, .ref lr]))], w1] (3 * (Rs.length - k) + (1 - min xs.length 1)) (17 * (Rs.length - k) + (10 - 10 * min xs.length 1)) from ?_)
    refine g_if_eq (tgt := 107) (q := 23) B dX1_adds_20 rfl (by decide) (bo_eq) (fun c20 => ?_) (fun c20 => ?_)
    · skip
      have hke : k = Rs.length := by omega
      have hr_2 : TreeP g t ((adK Ts.length Rs (T, Ks, 0, []) Rs.length).1) l13_2 := hke ▸ hl13_2
      have hr_3 : LoP g (PackP g) lk pks ((adK Ts.length Rs (T, Ks, 0, []) Rs.length).2.1) kcap l13_1 := hke ▸ hl13_1
      refine g_lvs (lv2 := [some (.ref x), some (.ref t), some (.ref al), some (.int (nI ((adK Ts.length Rs (T, Ks, 0, []) Rs.length).2.2.1))), some (.ref it6), none, none]) (st2 := []) (by rw [hke]) rfl ?_
      have hplE : Plc pks (adK Ts.length Rs (T, Ks, 0, []) Rs.length).2.2.2 xs := by rw [← hke]; exact hpl1
      have hfrE : (adK Ts.length Rs (T, Ks, 0, []) Rs.length).2.2.1 < 65536 := by rw [← hke]; exact hfr
      refine g_iload_n (q := 108) B dX1_adds_107 rfl rfl ?_
      refine g_pk [0, 5, 0, 0, 0, 0] rfl rfl ?_
      refine (show Go g κ 108 [some (.ref x), some (.ref t), some (.ref al), some (.int (nI ((adK Ts.length Rs (T, Ks, 0, []) Rs.length).2.2.1))), some (.ref it6), none, none] [.int (nI ((adK Ts.length Rs (T, Ks, 0, []) Rs.length).2.2.1))] [[(x, .inr (0, [.ref b, .ref lp, .ref lk, .ref lr, .ref lt, .ref ls, .ref lm, .ref so, .int (nI bxs)]))], w1, l13_1, l13_2, w4, l13_4] (3 * (Rs.length - k) + (1 - min xs.length 1)) (17 * (Rs.length - k) + (10 - 10 * min xs.length 1)) from ?_)
      exact g_iret B E dX1_adds_108 (⟨xs, md1, cap1, l13_1, l13_2, l13_4, rfl, rfl, hr_3, hr_2, hl13_4, (by first | assumption | omega | rfl | simp_all), (by first | assumption | omega | rfl | simp_all)⟩)
    · skip
      have c20 := Classical.not_not.mp c20
      refine g_aload (q := 25) B dX1_adds_23 rfl rfl (rv_r _) ?_
      obtain ⟨r25, hr25⟩ := get_ex (xs := Rs) (i := k) (by omega)
      obtain ⟨x25, hx25⟩ := get_ex (xs := ps_1) (i := k) (by have := get_lt2 hr25; have := hln_1.1; omega)
      have hE_4 := hel_1 _ _ _ hx25 hr25
      refine g_callF (q := 30) (is := [5, 5]) (kc2 := 3 * (Rs.length - k) + (1 - min xs.length 1)) (ks2 := 17 * (Rs.length - k) + (10 - 10 * min xs.length 1)) B [] (ct_J19_next_s g J (p := lr) (xs := ps_1) (md := md_1) (cap := rcap) (it := it6) (c := k) (lr := lrt) (x := x25) (W1 := w1)  (hli_1) (hx25)) dX1_adds_25 rfl (ci := 22) rfl (rc_at B (ci := 22) rfl (k := 5) rfl) q1160 q967 q969 q104 q971 q966 q965 q970 q968 q939 rfl rfl mojava_util_Iterator_next___Ljava_lang_Object_ rfl rfl (by decide) (by decide) (Nat.le_of_ble_eq_true rfl) (by omega) (by omega) (fun _ _ hx => noX_x hx) (fun v25 L1 hp25 => ?_)
      obtain ⟨rfl, rfl⟩ := hp25
      refine (show Go g κ 30 [some (.ref x), some (.ref t), some (.ref al), some (.int (nI ((adK Ts.length Rs (T, Ks, 0, []) k).2.2.1))), some (.ref it6), none, none] [.ref x25] [[(x, .inr (0, [.ref b, .ref lp, .ref lk, .ref lr, .ref lt, .ref ls, .ref lm, .ref so, .int (nI bxs)]))], l13_1, l13_2, w4, l13_4, [(it6, .inr (22, [.int (nI (k + 1)), .int (nI k), .int md_1, .ref lr]))], w1] (3 * (Rs.length - k) + (1 - min xs.length 1)) (17 * (Rs.length - k) + (10 - 10 * min xs.length 1)) from ?_)
      rcases (PropP.at (show Sub (PropP g pks x25 r25) _ from hE_4)) with ⟨hkd, kp, hkp, hcp⟩ | ⟨hkd, hcp⟩ | ⟨hkd, hcp⟩
      · skip
        refine g_castR (q := 33) B (rc_in B (ci := 8) rfl (k := 6) rfl ⟨_, hcp⟩) dX1_adds_30 rfl q2391 q3673 ?_
        refine g_astore (q := 35) (lv2 := [some (.ref x), some (.ref t), some (.ref al), some (.int (nI ((adK Ts.length Rs (T, Ks, 0, []) k).2.2.1))), some (.ref it6), some (.ref x25), none]) B dX1_adds_33 rfl (Nat.le_of_ble_eq_true rfl) (rv_r _) rfl ?_
        refine g_aload (q := 37) B dX1_adds_35 rfl rfl (rv_r _) ?_
        refine g_instRS (ci := 8) (q := 40) B rfl (rc_in B (ci := 8) rfl (k := 6) rfl ⟨_, hcp⟩) dX1_adds_37 rfl q2392 ?_
        refine g_if_eq (tgt := 104) (q := 43) B dX1_adds_40 rfl (by decide) (iff_false_intro (by decide)) (fun z => z.elim) (fun _ => ?_)
        obtain ⟨md_5, hli_5, hln_5, hel_5⟩ := LoP.at (Sub.self hl13_1)
        have hd3 := adK_l Ts.length Rs (T, Ks, 0, []) k hk
        have hd3 : (adK Ts.length Rs (T, Ks, 0, []) k).2.1.length = Ks.length := hd3
        have hf25 := had k r25 hr25 hkd
        obtain ⟨q25, hq25⟩ := get_ex (xs := (adK Ts.length Rs (T, Ks, 0, []) k).2.1) (i := r25.2.1) (by have := get_lt2 hkp; have := hln_5.1; omega)
        have hE_6 := hel_5 _ _ _ hkp hq25
        refine g_aload (q := 45) B dX1_adds_43 rfl rfl (rv_r _) ?_
        refine g_castRS (ci := 8) (q := 48) B rfl (rc_in B (ci := 8) rfl (k := 6) rfl ⟨_, hcp⟩) dX1_adds_45 rfl q2392 ?_
        refine g_getNM (q := 51) B (ci := 8) (k := 6) (j := 0) in_X16 rfl dX1_adds_48 rfl rfl (hcp) (Nat.le_of_ble_eq_true rfl) q2402 rfl rfl ?_
        refine g_astore (q := 53) (lv2 := [some (.ref x), some (.ref t), some (.ref al), some (.int (nI ((adK Ts.length Rs (T, Ks, 0, []) k).2.2.1))), some (.ref it6), some (.ref x25), some (.ref kp)]) B dX1_adds_51 rfl (Nat.le_of_ble_eq_true rfl) (rv_r _) rfl ?_
        have hqb := (PackP.at (hE_6)).1
        have hqb1 := hqb.1
        have hqb2 := hqb.2.1
        refine g_iload_n (q := 54) B dX1_adds_53 rfl rfl ?_
        refine g_iconst (v := nI 1) (q := 55) B dX1_adds_54 rfl (by decide) ?_
        refine g_aload_n (q := 56) B dX1_adds_55 rfl rfl (rv_r _) ?_
        refine g_aload (q := 58) B dX1_adds_56 rfl rfl (rv_r _) ?_
        obtain ⟨hK_7, hc_7_0⟩ := PackP.at (hE_6)
        refine g_getNM (q := 61) B (ci := 4) (k := 1) (j := 0) in_X7 rfl dX1_adds_58 rfl rfl (hc_7_0) (Nat.le_of_ble_eq_true rfl) q1988 rfl rfl ?_
        refine g_aload (q := 63) B dX1_adds_61 rfl rfl (rv_r _) ?_
        refine g_getNM (q := 66) B (ci := 4) (k := 1) (j := 1) in_X7 rfl dX1_adds_63 rfl rfl (hc_7_0) (Nat.le_of_ble_eq_true rfl) q1991 rfl rfl ?_
        refine g_callV (q := 69) (is := [2]) (kc2 := (3 * (Rs.length - k) + (1 - min xs.length 1)) - 3) (ks2 := (17 * (Rs.length - k) + (10 - 10 * min xs.length 1)) - 17) B [.int (nI q25.1), .int (nI q25.2.1)] (ct_X10_adds g J (t := t) (T := (adK Ts.length Rs (T, Ks, 0, []) k).1) (p := q25.1) (s := q25.2.1) hl13_2 (by omega) (by omega) (hf25)) dX1_adds_66 rfl (rc_in B (ci := 5) rfl (k := 2) rfl (TreeP.hm hl13_2)) rfl q2549 q2550 q2551 q123 q2552 rfl rfl moX10_adds rfl rfl (by decide) (by decide) (Nat.le_of_ble_eq_true rfl) (by omega) (by omega) (fun _ _ hx => noX_x hx) (fun v66 L1 hp66 => ?_)
        obtain ⟨u0_66, rfl, rfl, hu0_66⟩ := hp66
        refine (show Go g κ 69 [some (.ref x), some (.ref t), some (.ref al), some (.int (nI ((adK Ts.length Rs (T, Ks, 0, []) k).2.2.1))), some (.ref it6), some (.ref x25), some (.ref kp)] [.int (nI (frlT ((adK Ts.length Rs (T, Ks, 0, []) k).1))), .int (nI 1), .int (nI ((adK Ts.length Rs (T, Ks, 0, []) k).2.2.1))] [[(x, .inr (0, [.ref b, .ref lp, .ref lk, .ref lr, .ref lt, .ref ls, .ref lm, .ref so, .int (nI bxs)]))], l13_1, w4, l13_4, [(it6, .inr (22, [.int (nI (k + 1)), .int (nI k), .int md_1, .ref lr]))], w1, u0_66] ((3 * (Rs.length - k) + (1 - min xs.length 1)) - 3) ((17 * (Rs.length - k) + (10 - 10 * min xs.length 1)) - 17) from ?_)
        refine g_ishl (v := nI (2 ^ frlT (adK Ts.length Rs (T, Ks, 0, []) k).1)) (q := 70) B dX1_adds_69 rfl (shl_J _ (by omega)) ?_
        refine g_ior (v := nI ((adK Ts.length Rs (T, Ks, 0, []) k).2.2.1 ||| 2 ^ frlT (adK Ts.length Rs (T, Ks, 0, []) k).1)) (q := 71) B dX1_adds_70 rfl (nI_or _ _) ?_
        refine g_istore_n (q := 72) (lv2 := [some (.ref x), some (.ref t), some (.ref al), some (.int (nI ((adK Ts.length Rs (T, Ks, 0, []) k).2.2.1 ||| 2 ^ frlT (adK Ts.length Rs (T, Ks, 0, []) k).1))), some (.ref it6), some (.ref x25), some (.ref kp)]) B dX1_adds_71 rfl (Nat.le_of_ble_eq_true rfl) rfl ?_
        obtain ⟨lu1_o, lwi_o, lu2_o, hlwi_o, hlcl_o, hle_o⟩ := LoP.opn hl13_1 hkp hq25
        refine g_open 1 rfl hle_o rfl ?_
        refine (show Go g κ 72 [some (.ref x), some (.ref t), some (.ref al), some (.int (nI ((adK Ts.length Rs (T, Ks, 0, []) k).2.2.1 ||| 2 ^ frlT (adK Ts.length Rs (T, Ks, 0, []) k).1))), some (.ref it6), some (.ref x25), some (.ref kp)] [] [[(x, .inr (0, [.ref b, .ref lp, .ref lk, .ref lr, .ref lt, .ref ls, .ref lm, .ref so, .int (nI bxs)]))], w4, l13_4, [(it6, .inr (22, [.int (nI (k + 1)), .int (nI k), .int md_1, .ref lr]))], w1, u0_66, lu1_o, lwi_o, lu2_o] ((3 * (Rs.length - k) + (1 - min xs.length 1)) - 3) ((17 * (Rs.length - k) + (10 - 10 * min xs.length 1)) - 17) from ?_)
        obtain ⟨hK_o, rfl⟩ := hlwi_o
        refine g_open 7 rfl rfl rfl ?_
        refine (show Go g κ 72 [some (.ref x), some (.ref t), some (.ref al), some (.int (nI ((adK Ts.length Rs (T, Ks, 0, []) k).2.2.1 ||| 2 ^ frlT (adK Ts.length Rs (T, Ks, 0, []) k).1))), some (.ref it6), some (.ref x25), some (.ref kp)] [] [[(x, .inr (0, [.ref b, .ref lp, .ref lk, .ref lr, .ref lt, .ref ls, .ref lm, .ref so, .int (nI bxs)]))], w4, l13_4, [(it6, .inr (22, [.int (nI (k + 1)), .int (nI k), .int md_1, .ref lr]))], w1, u0_66, lu1_o, lu2_o, [(kp, .inr (4, [.int (nI q25.1), .int (nI q25.2.1), .int (nI q25.2.2.1), .int (nI (if q25.2.2.2.1 = true then 1 else 0)), .int (oI q25.2.2.2.2.1), .int (nI (if q25.2.2.2.2.2 = true then 1 else 0))]))]] ((3 * (Rs.length - k) + (1 - min xs.length 1)) - 3) ((17 * (Rs.length - k) + (10 - 10 * min xs.length 1)) - 17) from ?_)
        refine g_aload (q := 74) B dX1_adds_72 rfl rfl (rv_r _) ?_
        refine g_iconst (v := nI 1) (q := 75) B dX1_adds_74 rfl (by decide) ?_
        refine g_putN (q := 78) (L2 := [[(x, .inr (0, [.ref b, .ref lp, .ref lk, .ref lr, .ref lt, .ref ls, .ref lm, .ref so, .int (nI bxs)]))], w4, l13_4, [(it6, .inr (22, [.int (nI (k + 1)), .int (nI k), .int md_1, .ref lr]))], w1, u0_66, lu1_o, lu2_o, [(kp, .inr (4, [.int (nI q25.1), .int (nI q25.2.1), .int (nI q25.2.2.1), .int (nI 1), .int (oI q25.2.2.2.2.1), .int (nI (if q25.2.2.2.2.2 = true then 1 else 0))]))]]) B (ci := 4) (k := 8) (j := 3) in_X7 tyX7 tyX7_ok nmX7 rfl dX1_adds_75 rfl rfl (Nat.le_of_ble_eq_true rfl) q1995 rfl rfl rfl rfl (Nat.le_of_ble_eq_true rfl) rfl ?_
        refine g_aload (q := 80) B dX1_adds_78 rfl rfl (rv_r _) ?_
        refine g_iconst (v := nI 1) (q := 81) B dX1_adds_80 rfl (by decide) ?_
        refine g_putN (q := 84) (L2 := [[(x, .inr (0, [.ref b, .ref lp, .ref lk, .ref lr, .ref lt, .ref ls, .ref lm, .ref so, .int (nI bxs)]))], w4, l13_4, [(it6, .inr (22, [.int (nI (k + 1)), .int (nI k), .int md_1, .ref lr]))], w1, u0_66, lu1_o, lu2_o, [(kp, .inr (4, [.int (nI q25.1), .int (nI q25.2.1), .int (nI q25.2.2.1), .int (nI 1), .int (oI q25.2.2.2.2.1), .int (nI 1)]))]]) B (ci := 4) (k := 8) (j := 5) in_X7 tyX7 tyX7_ok nmX7 rfl dX1_adds_81 rfl rfl (Nat.le_of_ble_eq_true rfl) q1998 rfl rfl rfl rfl (Nat.le_of_ble_eq_true rfl) rfl ?_
        refine g_aload (q := 86) B dX1_adds_84 rfl rfl (rv_r _) ?_
        refine g_aload_n (q := 87) B dX1_adds_86 rfl rfl (rv_r _) ?_
        refine g_callV (q := 90) (is := [0, 0]) (kc2 := (3 * (Rs.length - k) + (1 - min xs.length 1)) - 3) (ks2 := (17 * (Rs.length - k) + (10 - 10 * min xs.length 1)) - 17) B [] (ct_X1_newest g J (x := x) (lk := lk) (b := b) (lp := lp) (lr := lr) (lt := lt) (ls := ls) (lm := lm) (so := so) (bxs := bxs) (Ts := Ts) (tcap := tcap) hw4 ) dX1_adds_87 rfl (rc_at B (ci := 0) rfl (k := 0) rfl) rfl q1120 q1122 qs8 q77 q1123 rfl rfl moX1_newest rfl rfl (by decide) (by decide) (Nat.le_of_ble_eq_true rfl) (by omega) (by omega) (fun _ _ hx => noX_x hx) (fun v87 L1 hp87 => ?_)
        obtain ⟨rfl, rfl⟩ := hp87
        refine (show Go g κ 90 [some (.ref x), some (.ref t), some (.ref al), some (.int (nI ((adK Ts.length Rs (T, Ks, 0, []) k).2.2.1 ||| 2 ^ frlT (adK Ts.length Rs (T, Ks, 0, []) k).1))), some (.ref it6), some (.ref x25), some (.ref kp)] [.int (nI Ts.length - nI 1), .ref kp] [l13_4, [(it6, .inr (22, [.int (nI (k + 1)), .int (nI k), .int md_1, .ref lr]))], w1, u0_66, lu1_o, lu2_o, [(kp, .inr (4, [.int (nI q25.1), .int (nI q25.2.1), .int (nI q25.2.2.1), .int (nI 1), .int (oI q25.2.2.2.2.1), .int (nI 1)]))], [(x, .inr (0, [.ref b, .ref lp, .ref lk, .ref lr, .ref lt, .ref ls, .ref lm, .ref so, .int (nI bxs)]))], w4] ((3 * (Rs.length - k) + (1 - min xs.length 1)) - 3) ((17 * (Rs.length - k) + (10 - 10 * min xs.length 1)) - 17) from ?_)
        refine g_iconst (v := nI 1) (q := 91) B dX1_adds_90 rfl (by decide) ?_
        refine g_iadd (v := nI Ts.length) (q := 92) B dX1_adds_91 rfl (Int32.sub_add_cancel _ _) ?_
        refine g_putN (q := 95) (L2 := [l13_4, [(it6, .inr (22, [.int (nI (k + 1)), .int (nI k), .int md_1, .ref lr]))], w1, u0_66, lu1_o, lu2_o, [(kp, .inr (4, [.int (nI q25.1), .int (nI q25.2.1), .int (nI q25.2.2.1), .int (nI 1), .int (nI Ts.length), .int (nI 1)]))], [(x, .inr (0, [.ref b, .ref lp, .ref lk, .ref lr, .ref lt, .ref ls, .ref lm, .ref so, .int (nI bxs)]))], w4]) B (ci := 4) (k := 6) (j := 4) in_X7 tyX7 tyX7_ok nmX7 rfl dX1_adds_92 rfl rfl (Nat.le_of_ble_eq_true rfl) q1997 rfl rfl rfl rfl (Nat.le_of_ble_eq_true rfl) rfl ?_
        obtain ⟨wc_8, ewc_8⟩ : ∃ w : va_W, w = ([[(kp, .inr (4, [.int (nI q25.1), .int (nI q25.2.1), .int (nI q25.2.2.1), .int (nI 1), .int (nI Ts.length), .int (nI 1)]))]] : List va_W).flatten := ⟨_, rfl⟩
        have hwc_8 : PackP g kp (adsP Ts.length q25) wc_8 := by
          rw [ewc_8]
          exact ⟨⟨hK_o.1, hK_o.2.1, hK_o.2.2.1, fun n h => by cases h; omega⟩, rfl⟩
        refine g_close (w := wc_8) [6] rfl ewc_8 rfl ?_
        refine (show Go g κ 95 [some (.ref x), some (.ref t), some (.ref al), some (.int (nI ((adK Ts.length Rs (T, Ks, 0, []) k).2.2.1 ||| 2 ^ frlT (adK Ts.length Rs (T, Ks, 0, []) k).1))), some (.ref it6), some (.ref x25), some (.ref kp)] [] [l13_4, [(it6, .inr (22, [.int (nI (k + 1)), .int (nI k), .int md_1, .ref lr]))], w1, u0_66, lu1_o, lu2_o, [(x, .inr (0, [.ref b, .ref lp, .ref lk, .ref lr, .ref lt, .ref ls, .ref lm, .ref so, .int (nI bxs)]))], w4, wc_8] ((3 * (Rs.length - k) + (1 - min xs.length 1)) - 3) ((17 * (Rs.length - k) + (10 - 10 * min xs.length 1)) - 17) from ?_)
        obtain ⟨wc_9, ewc_9⟩ : ∃ w : va_W, w = ([lu1_o, wc_8, lu2_o] : List va_W).flatten := ⟨_, rfl⟩
        have hwc_9 : LoP g (PackP g) lk pks (((adK Ts.length Rs (T, Ks, 0, []) k).2.1).set r25.2.1 (adsP Ts.length q25)) kcap wc_9 := by
          rw [ewc_9]
          exact hlcl_o _ _ hwc_8
        refine g_close (w := wc_9) [4, 7, 4] rfl ewc_9 rfl ?_
        refine (show Go g κ 95 [some (.ref x), some (.ref t), some (.ref al), some (.int (nI ((adK Ts.length Rs (T, Ks, 0, []) k).2.2.1 ||| 2 ^ frlT (adK Ts.length Rs (T, Ks, 0, []) k).1))), some (.ref it6), some (.ref x25), some (.ref kp)] [] [l13_4, [(it6, .inr (22, [.int (nI (k + 1)), .int (nI k), .int md_1, .ref lr]))], w1, u0_66, [(x, .inr (0, [.ref b, .ref lp, .ref lk, .ref lr, .ref lt, .ref ls, .ref lm, .ref so, .int (nI bxs)]))], w4, wc_9] ((3 * (Rs.length - k) + (1 - min xs.length 1)) - 3) ((17 * (Rs.length - k) + (10 - 10 * min xs.length 1)) - 17) from ?_)
        have hve := PackL.vd hwc_9
        refine g_aload_n (q := 96) B dX1_adds_95 rfl rfl (rv_r _) ?_
        refine g_aload (q := 98) B dX1_adds_96 rfl rfl (rv_r _) ?_
        refine g_callF (q := 103) (is := [0, 5]) (kc2 := ((3 * (Rs.length - k) + (1 - min xs.length 1)) - 3) - (1 - min xs.length 1)) (ks2 := ((17 * (Rs.length - k) + (10 - 10 * min xs.length 1)) - 17) - (10 - 10 * min xs.length 1)) B [.ref kp] (ct_J2_add g J (p := al) (xs := xs) (md := md1) (cap := cap1) (x := kp) (mc := (1 - min xs.length 1)) (ms := (10 - 10 * min xs.length 1)) (we := wc_9) hl13_4 (by omega) (fun y hy => hve y (by rcases List.mem_append.mp hy with h | h; exact Plc.sub hpl1 h; rw [List.mem_singleton] at h; rw [h]; exact List.mem_of_getElem? hkp)) (fun h => by have e : xs.length = 0 := (by omega); have e2 : cap1 = 0 := (by omega); rw [e, e2]; exact ⟨by decide, by decide⟩)) dX1_adds_98 rfl (ci := 21) rfl (rc_in B (ci := 21) rfl (k := 0) rfl (ListP.hm hl13_4)) q706 q709 q711 q81 q713 q708 q707 q712 q710 q318 rfl rfl mojava_util_List_add__Ljava_lang_Object__Z rfl rfl (by decide) (by decide) (Nat.le_of_ble_eq_true rfl) (by omega) (by omega) (fun _ _ hx => noX_x hx) (fun v98 L1 hp98 => ?_)
        obtain ⟨md298, u0_98, rfl, rfl, hu0_98⟩ := hp98
        refine (show Go g κ 103 [some (.ref x), some (.ref t), some (.ref al), some (.int (nI ((adK Ts.length Rs (T, Ks, 0, []) k).2.2.1 ||| 2 ^ frlT (adK Ts.length Rs (T, Ks, 0, []) k).1))), some (.ref it6), some (.ref x25), some (.ref kp)] [.int (nI 1)] [[(it6, .inr (22, [.int (nI (k + 1)), .int (nI k), .int md_1, .ref lr]))], w1, u0_66, [(x, .inr (0, [.ref b, .ref lp, .ref lk, .ref lr, .ref lt, .ref ls, .ref lm, .ref so, .int (nI bxs)]))], w4, u0_98, wc_9] (((3 * (Rs.length - k) + (1 - min xs.length 1)) - 3) - (1 - min xs.length 1)) (((17 * (Rs.length - k) + (10 - 10 * min xs.length 1)) - 17) - (10 - 10 * min xs.length 1)) from ?_)
        refine g_pop (q := 104) B dX1_adds_103 rfl rfl ?_
        refine g_goto (tgt := 13) B dX1_adds_104 (by decide) ?_
        have hsx := (adK_s (nx := Ts.length) (S := (T, Ks, 0, [])) hr25).trans (ad1_y hkd hq25)
        have hr_10 : TreeP g t ((adK Ts.length Rs (T, Ks, 0, []) (k + 1)).1) u0_66 := by rw [hsx]; exact hu0_66
        have hr_11 : LoP g (PackP g) lk pks ((adK Ts.length Rs (T, Ks, 0, []) (k + 1)).2.1) kcap wc_9 := by rw [hsx]; exact hwc_9
        refine g_lvs (lv2 := [some (.ref x), some (.ref t), some (.ref al), some (.int (nI ((adK Ts.length Rs (T, Ks, 0, []) (k + 1)).2.2.1))), some (.ref it6), some (.ref x25), some (.ref kp)]) (st2 := []) (by rw [hsx]) rfl ?_
        have hxl9 : (xs ++ [kp]).length = xs.length + 1 := by simp
        refine g_fg 5 rfl ?_
        refine g_fg 6 rfl ?_
        refine g_pk [3, 5, 2, 2, 2, 0, 0] rfl rfl ?_
        refine (show Go g κ 13 [some (.ref x), some (.ref t), some (.ref al), some (.int (nI ((adK Ts.length Rs (T, Ks, 0, []) (k + 1)).2.2.1))), some (.ref it6), none, none] [] [[(x, .inr (0, [.ref b, .ref lp, .ref lk, .ref lr, .ref lt, .ref ls, .ref lm, .ref so, .int (nI bxs)]))], wc_9, u0_66, w4, u0_98, [(it6, .inr (22, [.int (nI (k + 1)), .int (nI k), .int md_1, .ref lr]))], w1] (((3 * (Rs.length - k) + (1 - min xs.length 1)) - 3) - (1 - min xs.length 1)) (((17 * (Rs.length - k) + (10 - 10 * min xs.length 1)) - 17) - (10 - 10 * min xs.length 1)) from ?_)
        refine g_room (kc2 := 3 * (Rs.length - (k + 1)) + (1 - min (xs ++ [kp]).length 1)) (ks2 := 17 * (Rs.length - (k + 1)) + (10 - 10 * min (xs ++ [kp]).length 1)) (by omega) (by omega) ?_
        exact ih13 _ (by omega) (k + 1) (nI k) (xs ++ [kp]) md298 (if xs.length = cap1 then growN cap1 else cap1) wc_9 u0_66 u0_98 hr_11 hr_10 hu0_98 (by first | assumption | omega | rfl) (by rw [hsx]; exact Plc.push hpl1 hkp) (by rw [List.length_append, List.length_singleton]; split <;> (first | omega | (unfold growN; split <;> omega))) (by rw [List.length_append, List.length_singleton]; omega) (by rw [hsx]; exact or_lt hfr (p2_16 hf25)) rfl
      · skip
        refine g_castR (q := 33) B (rc_in B (ci := 9) rfl (k := 6) rfl ⟨_, hcp⟩) dX1_adds_30 rfl q2391 q3674 ?_
        refine g_astore (q := 35) (lv2 := [some (.ref x), some (.ref t), some (.ref al), some (.int (nI ((adK Ts.length Rs (T, Ks, 0, []) k).2.2.1))), some (.ref it6), some (.ref x25), none]) B dX1_adds_33 rfl (Nat.le_of_ble_eq_true rfl) (rv_r _) rfl ?_
        refine g_aload (q := 37) B dX1_adds_35 rfl rfl (rv_r _) ?_
        refine g_instRNo (q := 40) B (rc_in B (ci := 9) rfl (k := 6) rfl ⟨_, hcp⟩) dX1_adds_37 rfl q2392 nc_478 ?_
        refine g_if_eq (tgt := 104) (q := 43) B dX1_adds_40 rfl (by decide) (iff_true_intro (by decide)) (fun _ => ?_) (fun z => absurd trivial z)
        refine g_goto (tgt := 13) B dX1_adds_104 (by decide) ?_
        have hsx := (adK_s (nx := Ts.length) (S := (T, Ks, 0, [])) hr25).trans (ad1_n (by rw [hkd]; decide))
        have hr_12 : TreeP g t ((adK Ts.length Rs (T, Ks, 0, []) (k + 1)).1) l13_2 := by rw [hsx]; exact hl13_2
        have hr_13 : LoP g (PackP g) lk pks ((adK Ts.length Rs (T, Ks, 0, []) (k + 1)).2.1) kcap l13_1 := by rw [hsx]; exact hl13_1
        refine g_lvs (lv2 := [some (.ref x), some (.ref t), some (.ref al), some (.int (nI ((adK Ts.length Rs (T, Ks, 0, []) (k + 1)).2.2.1))), some (.ref it6), some (.ref x25), none]) (st2 := []) (by rw [hsx]) rfl ?_
        refine g_fg 5 rfl ?_
        refine g_room (kc2 := 3 * (Rs.length - (k + 1)) + (1 - min xs.length 1)) (ks2 := 17 * (Rs.length - (k + 1)) + (10 - 10 * min xs.length 1)) (by omega) (by omega) ?_
        exact ih13 _ (by omega) (k + 1) (nI k) xs md1 cap1 l13_1 l13_2 l13_4 hr_13 hr_12 hl13_4 (by first | assumption | omega | rfl) (by rw [hsx]; exact hpl1) (hcpx) (by omega) (by rw [hsx]; exact hfr) rfl
      · skip
        refine g_castR (q := 33) B (rc_in B (ci := 10) rfl (k := 6) rfl ⟨_, hcp⟩) dX1_adds_30 rfl q2391 q3675 ?_
        refine g_astore (q := 35) (lv2 := [some (.ref x), some (.ref t), some (.ref al), some (.int (nI ((adK Ts.length Rs (T, Ks, 0, []) k).2.2.1))), some (.ref it6), some (.ref x25), none]) B dX1_adds_33 rfl (Nat.le_of_ble_eq_true rfl) (rv_r _) rfl ?_
        refine g_aload (q := 37) B dX1_adds_35 rfl rfl (rv_r _) ?_
        refine g_instRNo (q := 40) B (rc_in B (ci := 10) rfl (k := 6) rfl ⟨_, hcp⟩) dX1_adds_37 rfl q2392 nc_479 ?_
        refine g_if_eq (tgt := 104) (q := 43) B dX1_adds_40 rfl (by decide) (iff_true_intro (by decide)) (fun _ => ?_) (fun z => absurd trivial z)
        refine g_goto (tgt := 13) B dX1_adds_104 (by decide) ?_
        have hsx := (adK_s (nx := Ts.length) (S := (T, Ks, 0, [])) hr25).trans (ad1_n (by rw [hkd]; decide))
        have hr_14 : TreeP g t ((adK Ts.length Rs (T, Ks, 0, []) (k + 1)).1) l13_2 := by rw [hsx]; exact hl13_2
        have hr_15 : LoP g (PackP g) lk pks ((adK Ts.length Rs (T, Ks, 0, []) (k + 1)).2.1) kcap l13_1 := by rw [hsx]; exact hl13_1
        refine g_lvs (lv2 := [some (.ref x), some (.ref t), some (.ref al), some (.int (nI ((adK Ts.length Rs (T, Ks, 0, []) (k + 1)).2.2.1))), some (.ref it6), some (.ref x25), none]) (st2 := []) (by rw [hsx]) rfl ?_
        refine g_fg 5 rfl ?_
        refine g_room (kc2 := 3 * (Rs.length - (k + 1)) + (1 - min xs.length 1)) (ks2 := 17 * (Rs.length - (k + 1)) + (10 - 10 * min xs.length 1)) (by omega) (by omega) ?_
        exact ih13 _ (by omega) (k + 1) (nI k) xs md1 cap1 l13_1 l13_2 l13_4 hr_15 hr_14 hl13_4 (by first | assumption | omega | rfl) (by rw [hsx]; exact hpl1) (hcpx) (by omega) (by rw [hsx]; exact hfr) rfl
  have hr_16 : TreeP g t ((adK Ts.length Rs (T, Ks, 0, []) 0).1) w3 := hw3
  have hr_17 : LoP g (PackP g) lk pks ((adK Ts.length Rs (T, Ks, 0, []) 0).2.1) kcap w2 := hw2
  have hl0 : ([] : List Nat).length = 0 := rfl
  refine g_room (kc2 := 3 * (Rs.length - 0) + (1 - min ([] : List Nat).length 1)) (ks2 := 17 * (Rs.length - 0) + (10 - 10 * min ([] : List Nat).length 1)) (by omega) (by omega) ?_
  exact lp13 _ 0 (-1) ([] : List Nat) md 0 w2 w3 w5 hr_17 hr_16 hw5 (Nat.zero_le _) (rfl) (rfl) (Nat.le_refl _) ((show 0 < 65536 by decide)) rfl
