set_option maxRecDepth 100000
/-- boxes for those who are new -/
def wl1 (T : TrS) (st : StS) (Ks : List PkS) (l : Nat) (U : BxS) (id : Nat) : BxS := match Ks[id]? with
  | none => U
  | some q => if T.2.2.2 l = some q.1 then ((frm (frm U.1 (q.2.2.1, none, 1)).1 (q.2.2.1, none, 1)).1, (U.2 ++ [((frm U.1 (q.2.2.1, none, 1)).2, st.2.1.getD 0)]) ++ [((frm (frm U.1 (q.2.2.1, none, 1)).1 (q.2.2.1, none, 1)).2, ((mtg T st.1 l).bind T.2.1).getD 0)]) else U
def wlJ (T : TrS) (st : StS) (Ks : List PkS) (l : Nat) (ids : List Nat) (U : BxS) (j : Nat) : BxS := (ids.take j).foldl (wl1 T st Ks l) U
def wlI (T : TrS) (st : StS) (Ks : List PkS) (ids : List Nat) (l : Nat) (U : BxS) : BxS := ids.foldl (wl1 T st Ks l) U
def wlK (T : TrS) (st : StS) (Ks : List PkS) (ids : List Nat) (U : BxS) : Nat → BxS
  | 0 => U
  | k + 1 => wlI T st Ks ids k (wlK T st Ks ids U k)
theorem wl1_m (T : TrS) (st : StS) (Ks : List PkS) (l : Nat) (U : BxS) (id : Nat) : BxM U (wl1 T st Ks l U id) := by
  unfold wl1
  split
  · exact BxM.rfl
  · rename_i q _
    split
    · have h1 := Ph_frm U.1 (q.2.2.1, none, 1)
      have h2 := Ph_frm (frm U.1 (q.2.2.1, none, 1)).1 (q.2.2.1, none, 1)
      have h3 := @frm_le U.1 (q.2.2.1, none, 1)
      have h4 := @frm_le (frm U.1 (q.2.2.1, none, 1)).1 (q.2.2.1, none, 1)
      exact ⟨Nat.le_trans h1.1 h2.1, Nat.le_trans h3.1 h4.1, by simp only [List.length_append]; omega⟩
    · exact BxM.rfl
theorem wlL_m (T : TrS) (st : StS) (Ks : List PkS) (l : Nat) : ∀ (ids : List Nat) (U : BxS), BxM U (ids.foldl (wl1 T st Ks l) U)
  | [], _ => BxM.rfl
  | n :: ids, U => (wl1_m T st Ks l U n).tr (wlL_m T st Ks l ids _)
theorem wlJ_m (T : TrS) (st : StS) (Ks : List PkS) (l : Nat) (ids : List Nat) (U : BxS) (j : Nat) : BxM (wlJ T st Ks l ids U j) (wlI T st Ks ids l U) := by
  unfold wlJ wlI
  conv => rhs; rw [← List.take_append_drop j ids, List.foldl_append]
  exact wlL_m T st Ks l _ _
theorem wlK_m (T : TrS) (st : StS) (Ks : List PkS) (ids : List Nat) (U : BxS) {k m : Nat} (h : k ≤ m) : BxM (wlK T st Ks ids U k) (wlK T st Ks ids U m) := by
  induction m with
  | zero => rw [Nat.le_zero.mp h]; exact BxM.rfl
  | succ m ih =>
    rcases Nat.lt_or_ge m k with z | z
    · rw [show k = m + 1 by omega]; exact BxM.rfl
    · exact (ih z).tr (wlL_m T st Ks m ids _)
theorem wlJ_s {T : TrS} {st : StS} {Ks : List PkS} {l : Nat} {ids : List Nat} {U : BxS} {j id : Nat} (h : ids[j]? = some id) : wlJ T st Ks l ids U (j + 1) = wl1 T st Ks l (wlJ T st Ks l ids U j) id := fold_tk h
theorem wlJ_e {T : TrS} {st : StS} {Ks : List PkS} {l : Nat} {ids : List Nat} {U : BxS} {j : Nat} (h : j = ids.length) : wlJ T st Ks l ids U j = wlI T st Ks ids l U := by unfold wlJ wlI; rw [h, List.take_length]
theorem wl1_n {T : TrS} {st : StS} {Ks : List PkS} {l : Nat} {U : BxS} {id : Nat} {q : PkS} (hq : Ks[id]? = some q) (h : ¬ T.2.2.2 l = some q.1) : wl1 T st Ks l U id = U := by unfold wl1; rw [hq]; exact if_neg h
theorem wl1_y {T : TrS} {st : StS} {Ks : List PkS} {l : Nat} {U : BxS} {id bf m n : Nat} {q : PkS} {a b : List Sec} {i j : Nat} (hq : Ks[id]? = some q) (h : T.2.2.2 l = some q.1) (h1 : frm U.1 (q.2.2.1, none, 1) = (a, i)) (h2 : frm a (q.2.2.1, none, 1) = (b, j)) (h3 : st.2.1 = some bf) (h4 : mtg T st.1 l = some n) (h5 : T.2.1 n = some m) : wl1 T st Ks l U id = (b, (U.2 ++ [(i, bf)]) ++ [(j, m)]) := by
  unfold wl1; rw [hq]
  show (if T.2.2.2 l = some q.1 then _ else _) = _
  rw [if_pos h, h1, h2, h3, h4]
  show (b, (U.2 ++ [(i, bf)]) ++ [(j, (T.2.1 n).getD 0)]) = _
  rw [h5]; rfl
theorem moX1_meeting : Mo yX1_meeting 3 := by
  refine ⟨by decide, by decide, by decide +kernel⟩
set_option maxHeartbeats 8000000 in
theorem ct_X1_welcomes (g : Gv) (J : Jd g) {x : Nat} {lk : Nat} {b : Nat} {lp : Nat} {lr : Nat} {lt : Nat} {ls : Nat} {lm : Nat} {so : Nat} {bxs : Nat} {ss : List Sec} {bx : List (Nat × Nat)} {z : Int32} {t : Nat} {T : TrS} {Ks : List PkS} {kcap : Nat} {s : Nat} {st : StS} {al : Nat} {xs : List Nat} {md : Int32} {cap : Nat} {pks : List Nat} {ids : List Nat} {bf : Nat} {TA : Nat} {BA : Nat} {BN : Nat} {w1 : va_W} {w2 : va_W} {w3 : va_W} {w4 : va_W} {w5 : va_W} (hw1 : BookP g b ss bx z w1) (hw2 : TreeP g t T w2) (hw3 : StepP g s st w3) (hw4 : ListP g al xs md cap w4) (hw5 : LoP g (PackP g) lk pks Ks kcap w5) (hpl : Plc pks ids xs) (hi8 : ids.length ≤ 8) (hkb : ∀ k ∈ ids, k < Ks.length) (hbf : st.2.1 = some bf) (hbl : bf < ss.length) (hst : st.1 < 2 ^ T.1) (hsec : ∀ (id : Nat) (q : PkS), id ∈ ids → Ks[id]? = some q → q.2.2.1 < ss.length) (hmt : ∀ (l id : Nat) (q : PkS), id ∈ ids → Ks[id]? = some q → T.2.2.2 l = some q.1 → ∃ n m, mtg T st.1 l = some n ∧ T.2.1 n = some m ∧ n < 31 ∧ m < ss.length) (hfl : (wlK T st Ks ids (ss, bx) (2 ^ T.1)).1.length ≤ 990) (hfb : (wlK T st Ks ids (ss, bx) (2 ^ T.1)).2.length ≤ 1990) (hbx9 : bxs ≤ 1990) (hTA : PhS (wlK T st Ks ids (ss, bx) (2 ^ T.1)).1 ≤ TA) (hBA : capF (wlK T st Ks ids (ss, bx) (2 ^ T.1)).2.length ≤ BA) (hBN : (wlK T st Ks ids (ss, bx) (2 ^ T.1)).2.length ≤ BN) : Ct g yX1_welcomes (ws_ yX1_welcomes cX1_welcomes 7 none) 14 (40 + 26 * (BN - bx.length) + 13 * (TA - PhS ss)) (100 + 190 * (BN - bx.length) + 55 * (TA - PhS ss) + 8 * (BA - capF bx.length)) [.ref x, .ref t, .ref s, .ref al] [[(x, .inr (0, [.ref b, .ref lp, .ref lk, .ref lr, .ref lt, .ref ls, .ref lm, .ref so, .int (nI bxs)]))], w1, w2, w3, w4, w5] (fun (rv_ : Option Value) (rL_ : List va_W) => ∃ (u1 : va_W), rv_ = none ∧ rL_ = [[(x, .inr (0, [.ref b, .ref lp, .ref lk, .ref lr, .ref lt, .ref ls, .ref lm, .ref so, .int (nI (bxs + ((wlK T st Ks ids (ss, bx) (2 ^ T.1)).2.length - bx.length)))]))], u1, w2, w3, w4, w5] ∧ BookP g b ((wlK T st Ks ids (ss, bx) (2 ^ T.1)).1) ((wlK T st Ks ids (ss, bx) (2 ^ T.1)).2) z u1) noX := by
  refine Ct.of "Keygrove" [some (.ref x), some (.ref t), some (.ref s), some (.ref al), none, none, none] rfl (by decide) rfl (Nat.le_of_ble_eq_true rfl) rfl ?_
  intro κ B E tb
  have hB := TreeP.b hw2
  have hp2 := p2_4 hB.1
  have hd4 := hB.1
  have hpa := Plc.at hpl
  refine g_iconst (v := nI 0) (q := 1) B dX1_welcomes_0 rfl (by decide) ?_
  refine g_istore (q := 3) (lv2 := [some (.ref x), some (.ref t), some (.ref s), some (.ref al), some (.int (nI 0)), none, none]) B dX1_welcomes_1 rfl (Nat.le_of_ble_eq_true rfl) rfl ?_
  have lp3 : ∀ (n3 : Nat) (k : Nat) (V : BxS) (bn : Nat) (l3_1 : va_W), BookP g b V.1 V.2 z l3_1 → (k ≤ 2 ^ T.1) → (V = wlK T st Ks ids (ss, bx) k) → (bn + bx.length = bxs + V.2.length) → 2 ^ T.1 - k = n3 → Go g κ 3 [some (.ref x), some (.ref t), some (.ref s), some (.ref al), some (.int (nI k)), none, none] [] [[(x, .inr (0, [.ref b, .ref lp, .ref lk, .ref lr, .ref lt, .ref ls, .ref lm, .ref so, .int (nI bn)]))], l3_1, w2, w3, w4, w5] (2 * (16 - k) + 26 * (BN - V.2.length) + 13 * (TA - PhS V.1)) (5 * (16 - k) + 190 * (BN - V.2.length) + 55 * (TA - PhS V.1) + 8 * (BA - capF V.2.length)) := by
    intro n3
    induction n3 using Nat.strongRecOn with
    | _ n3 ih3 =>
    intro k V bn l3_1 hl3_1 hk hV hbn hmu3
    refine g_iload (q := 5) B dX1_welcomes_3 rfl rfl ?_
    refine g_aload_n (q := 6) B dX1_welcomes_5 rfl rfl (rv_r _) ?_
    obtain ⟨as_1, al_1, ap_1, fs_1, fl_1, fp_1, hB_1, hfs_1, hfl_1, hfp_1, hc_1_0, hc_1_1, hc_1_2, hc_1_3⟩ := TreeP.at (Sub.self hw2)
    refine g_getNM (q := 9) B (ci := 5) (k := 2) (j := 0) in_X10 rfl dX1_welcomes_6 rfl rfl (hc_1_0) (Nat.le_of_ble_eq_true rfl) q2037 rfl rfl ?_
    refine g_icmp_ge (tgt := 103) (q := 12) B dX1_welcomes_9 rfl (by decide) (nI_leI (by omega) (by omega)) (fun c9 => ?_) (fun c9 => ?_)
    · skip
      have hkT : k = 2 ^ T.1 := by omega
      have hVF : V = (wlK T st Ks ids (ss, bx) (2 ^ T.1)) := by rw [hV, hkT]
      have hr_2 : BookP g b ((wlK T st Ks ids (ss, bx) (2 ^ T.1)).1) ((wlK T st Ks ids (ss, bx) (2 ^ T.1)).2) z l3_1 := by rw [← hVF]; exact hl3_1
      have hm9 := (wlK_m T st Ks ids (ss, bx) (Nat.zero_le (2 ^ T.1))).2.2
      have hm9 : bx.length ≤ (wlK T st Ks ids (ss, bx) (2 ^ T.1)).2.length := hm9
      rw [(show nI bn = nI (bxs + ((wlK T st Ks ids (ss, bx) (2 ^ T.1)).2.length - bx.length)) from by rw [← hVF] at hm9 ⊢; congr 1; omega)]
      refine (show Go g κ 103 [some (.ref x), some (.ref t), some (.ref s), some (.ref al), some (.int (nI k)), none, none] [] [[(x, .inr (0, [.ref b, .ref lp, .ref lk, .ref lr, .ref lt, .ref ls, .ref lm, .ref so, .int (nI (bxs + ((wlK T st Ks ids (ss, bx) (2 ^ T.1)).2.length - bx.length)))]))], l3_1, w2, w3, w4, w5] (2 * (16 - k) + 26 * (BN - V.2.length) + 13 * (TA - PhS V.1)) (5 * (16 - k) + 190 * (BN - V.2.length) + 55 * (TA - PhS V.1) + 8 * (BA - capF V.2.length)) from ?_)
      exact g_vret B E dX1_welcomes_103 (⟨l3_1, rfl, rfl, hr_2⟩)
    · skip
      have hVm := wlK_m T st Ks ids (ss, bx) (show k ≤ 2 ^ T.1 by omega)
      rw [← hV] at hVm
      have hVm0 := wlK_m T st Ks ids (ss, bx) (Nat.zero_le k)
      rw [← hV] at hVm0
      have hVn := wlK_m T st Ks ids (ss, bx) (show k + 1 ≤ 2 ^ T.1 by omega)
      have hVe : wlK T st Ks ids (ss, bx) (k + 1) = wlI T st Ks ids k V := by rw [hV]; rfl
      rw [hVe] at hVn
      obtain ⟨hv1, hv2, hv3⟩ := hVn
      obtain ⟨hv4, hv5, hv6⟩ := hVm0
      have hv5 : ss.length ≤ V.1.length := hv5
      have hv4 : PhS ss ≤ PhS V.1 := hv4
      have hv6 : bx.length ≤ V.2.length := hv6
      refine g_aload_n (q := 13) B dX1_welcomes_12 rfl rfl (rv_r _) ?_
      refine g_callF (q := 18) (is := [4]) (kc2 := (2 * (16 - k) + 26 * (BN - V.2.length) + 13 * (TA - PhS V.1)) - 1) (ks2 := (5 * (16 - k) + 190 * (BN - V.2.length) + 55 * (TA - PhS V.1) + 8 * (BA - capF V.2.length)) - 4) B [] (ct_J2_iterator g J (p := al) (xs := xs) (md := md) (cap := cap) hw4 ) dX1_welcomes_13 rfl (ci := 21) rfl (rc_in B (ci := 21) rfl (k := 4) rfl (ListP.hm hw4)) q1153 q1156 q805 q81 q807 q1155 q1154 q806 q804 q318 rfl rfl mojava_util_List_iterator___Ljava_util_Iterator_ rfl rfl (by decide) (by decide) (Nat.le_of_ble_eq_true rfl) (by omega) (by omega) (fun _ _ hx => noX_x hx) (fun v13 L1 hp13 => ?_)
      obtain ⟨it13, rfl, rfl⟩ := hp13
      refine (show Go g κ 18 [some (.ref x), some (.ref t), some (.ref s), some (.ref al), some (.int (nI k)), none, none] [.ref it13] [[(x, .inr (0, [.ref b, .ref lp, .ref lk, .ref lr, .ref lt, .ref ls, .ref lm, .ref so, .int (nI bn)]))], l3_1, w2, w3, w5, [(it13, .inr (22, [.int (nI 0), .int (-1), .int md, .ref al]))], w4] ((2 * (16 - k) + 26 * (BN - V.2.length) + 13 * (TA - PhS V.1)) - 1) ((5 * (16 - k) + 190 * (BN - V.2.length) + 55 * (TA - PhS V.1) + 8 * (BA - capF V.2.length)) - 4) from ?_)
      refine g_astore (q := 20) (lv2 := [some (.ref x), some (.ref t), some (.ref s), some (.ref al), some (.int (nI k)), some (.ref it13), none]) B dX1_welcomes_18 rfl (Nat.le_of_ble_eq_true rfl) (rv_r _) rfl ?_
      have lp20 : ∀ (n20 : Nat) (j : Nat) (lrx : Int32) (U : BxS) (bm : Nat) (l20_1 : va_W), BookP g b U.1 U.2 z l20_1 → (j ≤ xs.length) → (U = wlJ T st Ks k ids V j) → (bm + bx.length = bxs + U.2.length) → xs.length - j = n20 → Go g κ 20 [some (.ref x), some (.ref t), some (.ref s), some (.ref al), some (.int (nI k)), some (.ref it13), none] [] [[(x, .inr (0, [.ref b, .ref lp, .ref lk, .ref lr, .ref lt, .ref ls, .ref lm, .ref so, .int (nI bm)]))], l20_1, w2, w3, w5, [(it13, .inr (22, [.int (nI j), .int lrx, .int md, .ref al]))], w4] (2 * (15 - k) + 26 * (BN - U.2.length) + 13 * (TA - PhS U.1)) (5 * (15 - k) + 190 * (BN - U.2.length) + 55 * (TA - PhS U.1) + 8 * (BA - capF U.2.length)) := by
        intro n20
        induction n20 using Nat.strongRecOn with
        | _ n20 ih20 =>
        intro j lrx U bm l20_1 hl20_1 hj hU hbm hmu20
        refine g_aload (q := 22) B dX1_welcomes_20 rfl rfl (rv_r _) ?_
        refine g_callF (q := 27) (is := [5, 5]) (kc2 := 2 * (15 - k) + 26 * (BN - U.2.length) + 13 * (TA - PhS U.1)) (ks2 := 5 * (15 - k) + 190 * (BN - U.2.length) + 55 * (TA - PhS U.1) + 8 * (BA - capF U.2.length)) B [] (ct_J19_hasNext g J (p := al) (xs := xs) (md := md) (cap := cap) (it := it13) (c := j) (lr := lrx) hw4 (by omega)) dX1_welcomes_22 rfl (ci := 22) rfl (rc_at B (ci := 22) rfl (k := 5) rfl) q1158 q940 q942 q104 q944 q938 q937 q943 q941 q939 rfl rfl mojava_util_Iterator_hasNext___Z rfl rfl (by decide) (by decide) (Nat.le_of_ble_eq_true rfl) (by omega) (by omega) (fun _ _ hx => noX_x hx) (fun v22 L1 hp22 => ?_)
        obtain ⟨rfl, rfl⟩ := hp22
        refine (show Go g κ 27 [some (.ref x), some (.ref t), some (.ref s), some (.ref al), some (.int (nI k)), some (.ref it13), none] [.int (nI (if ¬ j = xs.length then 1 else 0))] [[(x, .inr (0, [.ref b, .ref lp, .ref lk, .ref lr, .ref lt, .ref ls, .ref lm, .ref so, .int (nI bm)]))], l20_1, w2, w3, w5, [(it13, .inr (22, [.int (nI j), .int lrx, .int md, .ref al]))], w4] (2 * (15 - k) + 26 * (BN - U.2.length) + 13 * (TA - PhS U.1)) (5 * (15 - k) + 190 * (BN - U.2.length) + 55 * (TA - PhS U.1) + 8 * (BA - capF U.2.length)) from ?_)
        refine g_if_eq (tgt := 97) (q := 30) B dX1_welcomes_27 rfl (by decide) (bo_eq) (fun c27 => ?_) (fun c27 => ?_)
        · skip
          have hUe : U = wlI T st Ks ids k V := hU.trans (wlJ_e (by have := hpa.1; omega))
          have hr_3 : BookP g b ((wlI T st Ks ids k V).1) ((wlI T st Ks ids k V).2) z l20_1 := by rw [← hUe]; exact hl20_1
          have hz0 : (wlI T st Ks ids k V).2.length = U.2.length := by rw [hUe]
          have hz1 : PhS (wlI T st Ks ids k V).1 = PhS U.1 := by rw [hUe]
          have hz2 : capF (wlI T st Ks ids k V).2.length = capF U.2.length := by rw [hUe]
          refine g_iinc (v := nI (k + 1)) (q := 100) (lv2 := [some (.ref x), some (.ref t), some (.ref s), some (.ref al), some (.int (nI (k + 1))), some (.ref it13), none]) B dX1_welcomes_97 rfl rfl (nI_add _ 1) (Nat.le_of_ble_eq_true rfl) rfl ?_
          refine g_goto (tgt := 3) B dX1_welcomes_100 (by decide) ?_
          refine g_fg 5 rfl ?_
          refine g_pk [0, 0, 0, 0, 2, 0] rfl rfl ?_
          refine (show Go g κ 3 [some (.ref x), some (.ref t), some (.ref s), some (.ref al), some (.int (nI (k + 1))), none, none] [] [[(x, .inr (0, [.ref b, .ref lp, .ref lk, .ref lr, .ref lt, .ref ls, .ref lm, .ref so, .int (nI bm)]))], l20_1, w2, w3, w4, w5] (2 * (15 - k) + 26 * (BN - U.2.length) + 13 * (TA - PhS U.1)) (5 * (15 - k) + 190 * (BN - U.2.length) + 55 * (TA - PhS U.1) + 8 * (BA - capF U.2.length)) from ?_)
          refine g_room (kc2 := 2 * (16 - (k + 1)) + 26 * (BN - (wlI T st Ks ids k V).2.length) + 13 * (TA - PhS (wlI T st Ks ids k V).1)) (ks2 := 5 * (16 - (k + 1)) + 190 * (BN - (wlI T st Ks ids k V).2.length) + 55 * (TA - PhS (wlI T st Ks ids k V).1) + 8 * (BA - capF (wlI T st Ks ids k V).2.length)) (by omega) (by omega) ?_
          exact ih3 _ (by omega) (k + 1) (wlI T st Ks ids k V) bm l20_1 hr_3 (by omega) (by rw [hV]; rfl) (by rw [← hUe]; exact hbm) rfl
        · skip
          have c27 := Classical.not_not.mp c27
          obtain ⟨id, hid⟩ := get_ex (xs := ids) (i := j) (by have := hpa.1; omega)
          obtain ⟨pa, hpp, hpk⟩ := hpa.2 j id hid
          obtain ⟨q, hq⟩ := get_ex (xs := Ks) (i := id) (hkb id (List.mem_of_getElem? hid))
          obtain ⟨md_4, hli_4, hln_4, hel_4⟩ := LoP.at (Sub.self hw5)
          have hE_5 := hel_4 _ _ _ hpk hq
          obtain ⟨hq1, hq2, hq3, hq4⟩ := (PackP.at (hE_5)).1
          have hUm := wlJ_m T st Ks k ids V j
          rw [← hU] at hUm
          have hUs := wlJ_s (T := T) (st := st) (Ks := Ks) (l := k) (U := V) hid
          rw [← hU] at hUs
          have hUn := wlJ_m T st Ks k ids V (j + 1)
          rw [hUs] at hUn
          have hUo := wlL_m T st Ks k (ids.take j) V
          have hUp : (ids.take j).foldl (wl1 T st Ks k) V = U := hU.symm
          rw [hUp] at hUo
          obtain ⟨hu1, hu2, hu3⟩ := hUo
          obtain ⟨hU4, hU5, hU6⟩ := hUm
          have hcU := capF_m hU6
          have hcV := capF_m hv3
          refine g_aload (q := 32) B dX1_welcomes_30 rfl rfl (rv_r _) ?_
          refine g_callF (q := 37) (is := [5, 5]) (kc2 := 2 * (15 - k) + 26 * (BN - U.2.length) + 13 * (TA - PhS U.1)) (ks2 := 5 * (15 - k) + 190 * (BN - U.2.length) + 55 * (TA - PhS U.1) + 8 * (BA - capF U.2.length)) B [] (ct_J19_next g J (p := al) (xs := xs) (md := md) (cap := cap) (it := it13) (c := j) (lr := lrx) (x := pa) hw4 (hpp)) dX1_welcomes_32 rfl (ci := 22) rfl (rc_at B (ci := 22) rfl (k := 5) rfl) q1160 q967 q969 q104 q971 q966 q965 q970 q968 q939 rfl rfl mojava_util_Iterator_next___Ljava_lang_Object_ rfl rfl (by decide) (by decide) (Nat.le_of_ble_eq_true rfl) (by omega) (by omega) (fun _ _ hx => noX_x hx) (fun v32 L1 hp32 => ?_)
          obtain ⟨rfl, rfl⟩ := hp32
          refine (show Go g κ 37 [some (.ref x), some (.ref t), some (.ref s), some (.ref al), some (.int (nI k)), some (.ref it13), none] [.ref pa] [[(x, .inr (0, [.ref b, .ref lp, .ref lk, .ref lr, .ref lt, .ref ls, .ref lm, .ref so, .int (nI bm)]))], l20_1, w2, w3, w5, [(it13, .inr (22, [.int (nI (j + 1)), .int (nI j), .int md, .ref al]))], w4] (2 * (15 - k) + 26 * (BN - U.2.length) + 13 * (TA - PhS U.1)) (5 * (15 - k) + 190 * (BN - U.2.length) + 55 * (TA - PhS U.1) + 8 * (BA - capF U.2.length)) from ?_)
          refine g_castRS (ci := 4) (q := 40) B rfl (rc_in B (ci := 4) rfl (k := 4) rfl (Sub.hm (hE_5) fun _ z => PackP.hm z)) dX1_welcomes_37 rfl q1981 ?_
          refine g_astore (q := 42) (lv2 := [some (.ref x), some (.ref t), some (.ref s), some (.ref al), some (.int (nI k)), some (.ref it13), some (.ref pa)]) B dX1_welcomes_40 rfl (Nat.le_of_ble_eq_true rfl) (rv_r _) rfl ?_
          refine g_aload_n (q := 43) B dX1_welcomes_42 rfl rfl (rv_r _) ?_
          refine g_getNM (q := 46) B (ci := 5) (k := 2) (j := 3) in_X10 rfl dX1_welcomes_43 rfl rfl (hc_1_0) (Nat.le_of_ble_eq_true rfl) q2045 rfl rfl ?_
          refine g_iload (q := 48) B dX1_welcomes_46 rfl rfl ?_
          refine g_ialdM (v := oI (T.2.2.2 k)) (q := 49) B (k := 2) dX1_welcomes_48 rfl rfl (hc_1_3) (vp_in_nI (by omega) (by omega)) (by rw [nI_clamp (by omega)]; exact hfp_1 _ (by omega)) ?_
          refine g_aload (q := 51) B dX1_welcomes_49 rfl rfl (rv_r _) ?_
          obtain ⟨hK_6, hc_6_0⟩ := PackP.at (hE_5)
          refine g_getNM (q := 54) B (ci := 4) (k := 4) (j := 0) in_X7 rfl dX1_welcomes_51 rfl rfl (hc_6_0) (Nat.le_of_ble_eq_true rfl) q1988 rfl rfl ?_
          refine g_icmp_ne (tgt := 94) (q := 57) B dX1_welcomes_54 rfl (by decide) (oI_ne ((fun n h => by have := hB_1.2.2.2 _ _ h; omega)) (by omega)) (fun c54 => ?_) (fun c54 => ?_)
          · skip
            refine g_goto (tgt := 20) B dX1_welcomes_94 (by decide) ?_
            refine g_fg 6 rfl ?_
            exact ih20 _ (by omega) (j + 1) (nI j) U bm l20_1 hl20_1 (by omega) (by rw [hUs, wl1_n hq c54]) (hbm) rfl
          · skip
            have c54 := Classical.not_not.mp c54
            obtain ⟨mn, mv, hmn, hmv, hmn31, hmvl⟩ := hmt k id q (List.mem_of_getElem? hid) hq c54
            obtain ⟨⟨q1, o1⟩, hf1⟩ : ∃ p, frm U.1 (q.2.2.1, none, 1) = p := ⟨_, rfl⟩
            obtain ⟨⟨q2, o2⟩, hf2⟩ : ∃ p, frm q1 (q.2.2.1, none, 1) = p := ⟨_, rfl⟩
            have hg1 := Ph_fr hf1
            have hg2 := Ph_fr hf2
            have hbe := wl1_y hq c54 hf1 hf2 hbf hmn hmv
            rw [hbe] at hUn
            obtain ⟨hN1, hN2, hN3⟩ := hUn
            have hcN := capF_m hN3
            have hN1 : PhS q2 ≤ _ := hN1
            have hN2 : q2.length ≤ _ := hN2
            have hbl : ((U.2 ++ [(o1, bf)]) ++ [(o2, mv)]).length = U.2.length + 2 := by simp
            have hbl1 : (U.2 ++ [(o1, bf)]).length = U.2.length + 1 := by simp
            have hN3 : ((U.2 ++ [(o1, bf)]) ++ [(o2, mv)]).length ≤ _ := hN3
            have hcN : capF ((U.2 ++ [(o1, bf)]) ++ [(o2, mv)]).length ≤ _ := hcN
            rw [hbl] at hN3 hcN
            have hcm8 := capF_mo U.2.length
            have hcm9 := capF_mo (U.2.length + 1)
            have he81 : capF (U.2 ++ [(o1, bf)]).length = capF (U.2.length + 1) := by rw [hbl1]
            have he82 : capF ((U.2 ++ [(o1, bf)]).length + 1) = capF (U.2.length + 2) := by rw [hbl1]
            have hcm9 : capF (U.2.length + 1) ≤ capF (U.2.length + 2) := hcm9
            have hsq := hsec id q (List.mem_of_getElem? hid) hq
            have hqs : q.2.2.1 < ss.length := hsq
            refine g_aload_n (q := 58) B dX1_welcomes_57 rfl rfl (rv_r _) ?_
            refine g_aload (q := 60) B dX1_welcomes_58 rfl rfl (rv_r _) ?_
            refine g_getNM (q := 63) B (ci := 4) (k := 4) (j := 2) in_X7 rfl dX1_welcomes_60 rfl rfl (hc_6_0) (Nat.le_of_ble_eq_true rfl) q1994 rfl rfl ?_
            refine g_aload_n (q := 64) B dX1_welcomes_63 rfl rfl (rv_r _) ?_
            obtain ⟨bb_7, be_7, nb_7, ne_7, hc_7_0, hs_7_0, hs_7_1⟩ := StepP.at (Sub.self hw3)
            refine g_getNM (q := 67) B (ci := 6) (k := 3) (j := 1) in_X11 rfl dX1_welcomes_64 rfl rfl (hc_7_0) (Nat.le_of_ble_eq_true rfl) q2066 rfl rfl ?_
            refine g_stk (y := .int (nI bf)) (by rw [hbf]; rfl) ?_
            refine g_callV (q := 70) (is := [0, 0]) (kc2 := 28 + 2 * (15 - k) + 26 * (BN - (U.2.length + 2)) + 13 * (TA - PhS q1)) (ks2 := 190 + 5 * (15 - k) + 190 * (BN - (U.2.length + 2)) + 55 * (TA - PhS q1) + 8 * (BA - capF (U.2.length + 1))) B [.int (nI q.2.2.1), .int (nI bf)] (ct_X1_boxes_2 g J (x := x) (lk := lk) (b := b) (lp := lp) (lr := lr) (lt := lt) (ls := ls) (lm := lm) (so := so) (bxs := bm) (ss := U.1) (bx := U.2) (z := z) (h := q.2.2.1) (c := bf) (s2 := q1) (i := o1) hl20_1 (by omega) (by omega) (by omega) (by omega) (by omega) (hf1)) dX1_welcomes_67 rfl (rc_at B (ci := 0) rfl (k := 0) rfl) rfl q2579 q2581 qs39 q77 q2582 rfl rfl moX1_boxes_2 rfl rfl (by decide) (by decide) (Nat.le_of_ble_eq_true rfl) (by omega) (by omega) (fun _ _ hx => noX_x hx) (fun v67 L1 hp67 => ?_)
            obtain ⟨u1_67, rfl, rfl, hu1_67, hph_67⟩ := hp67
            refine (show Go g κ 70 [some (.ref x), some (.ref t), some (.ref s), some (.ref al), some (.int (nI k)), some (.ref it13), some (.ref pa)] [] [w2, w3, w5, [(it13, .inr (22, [.int (nI (j + 1)), .int (nI j), .int md, .ref al]))], w4, [(x, .inr (0, [.ref b, .ref lp, .ref lk, .ref lr, .ref lt, .ref ls, .ref lm, .ref so, .int (nI (bm + 1))]))], u1_67] (28 + 2 * (15 - k) + 26 * (BN - (U.2.length + 2)) + 13 * (TA - PhS q1)) (190 + 5 * (15 - k) + 190 * (BN - (U.2.length + 2)) + 55 * (TA - PhS q1) + 8 * (BA - capF (U.2.length + 1))) from ?_)
            refine g_aload_n (q := 71) B dX1_welcomes_70 rfl rfl (rv_r _) ?_
            refine g_aload (q := 73) B dX1_welcomes_71 rfl rfl (rv_r _) ?_
            refine g_getNM (q := 76) B (ci := 4) (k := 2) (j := 2) in_X7 rfl dX1_welcomes_73 rfl rfl (hc_6_0) (Nat.le_of_ble_eq_true rfl) q1994 rfl rfl ?_
            refine g_aload_n (q := 77) B dX1_welcomes_76 rfl rfl (rv_r _) ?_
            refine g_getNM (q := 80) B (ci := 5) (k := 0) (j := 1) in_X10 rfl dX1_welcomes_77 rfl rfl (hc_1_0) (Nat.le_of_ble_eq_true rfl) q2040 rfl rfl ?_
            refine g_aload_n (q := 81) B dX1_welcomes_80 rfl rfl (rv_r _) ?_
            refine g_aload_n (q := 82) B dX1_welcomes_81 rfl rfl (rv_r _) ?_
            refine g_getNM (q := 85) B (ci := 6) (k := 1) (j := 0) in_X11 rfl dX1_welcomes_82 rfl rfl (hc_7_0) (Nat.le_of_ble_eq_true rfl) q2064 rfl rfl ?_
            refine g_iload (q := 87) B dX1_welcomes_85 rfl rfl ?_
            refine g_callS (q := 90) (is := [0]) (kc2 := (28 + 2 * (15 - k) + 26 * (BN - (U.2.length + 2)) + 13 * (TA - PhS q1)) - 3) (ks2 := (190 + 5 * (15 - k) + 190 * (BN - (U.2.length + 2)) + 55 * (TA - PhS q1) + 8 * (BA - capF (U.2.length + 1))) - 17) B [.ref t, .int (nI st.1), .int (nI k)] (ct_X1_meeting g J (t := t) (T := T) (l := st.1) (o := k) hw2 (hst) (by omega)) dX1_welcomes_87 rfl q2738 q2739 q77 q2740 rfl rfl moX1_meeting rfl rfl (by decide) (by decide) (Nat.le_of_ble_eq_true rfl) (by omega) (by omega) (fun _ _ hx => noX_x hx) (fun v87 L1 hp87 => ?_)
            obtain ⟨rfl, rfl⟩ := hp87
            refine (show Go g κ 90 [some (.ref x), some (.ref t), some (.ref s), some (.ref al), some (.int (nI k)), some (.ref it13), some (.ref pa)] [.int (oI (mtg T st.1 k)), .ref as_1, .int (nI q.2.2.1), .ref x] [w3, w5, [(it13, .inr (22, [.int (nI (j + 1)), .int (nI j), .int md, .ref al]))], w4, [(x, .inr (0, [.ref b, .ref lp, .ref lk, .ref lr, .ref lt, .ref ls, .ref lm, .ref so, .int (nI (bm + 1))]))], u1_67, w2] ((28 + 2 * (15 - k) + 26 * (BN - (U.2.length + 2)) + 13 * (TA - PhS q1)) - 3) ((190 + 5 * (15 - k) + 190 * (BN - (U.2.length + 2)) + 55 * (TA - PhS q1) + 8 * (BA - capF (U.2.length + 1))) - 17) from ?_)
            refine g_stk (y := .int (nI mn)) (by rw [hmn]; rfl) ?_
            refine g_ialdM (v := oI (T.2.1 mn)) (q := 91) B (k := 6) dX1_welcomes_90 rfl rfl (hc_1_1) (vp_in_nI (by omega) (by omega)) (by rw [nI_clamp (by omega)]; exact hfs_1 _ (by omega)) ?_
            refine g_stk (y := .int (nI mv)) (by rw [hmv]; rfl) ?_
            refine g_callV (q := 94) (is := [4, 4]) (kc2 := 2 * (15 - k) + 26 * (BN - (U.2.length + 2)) + 13 * (TA - PhS q2)) (ks2 := 5 * (15 - k) + 190 * (BN - (U.2.length + 2)) + 55 * (TA - PhS q2) + 8 * (BA - capF (U.2.length + 2))) B [.int (nI q.2.2.1), .int (nI mv)] (ct_X1_boxes_2 g J (x := x) (lk := lk) (b := b) (lp := lp) (lr := lr) (lt := lt) (ls := ls) (lm := lm) (so := so) (bxs := bm + 1) (ss := q1) (bx := (U.2 ++ [(o1, bf)])) (z := z) (h := q.2.2.1) (c := mv) (s2 := q2) (i := o2) hu1_67 (by omega) (by omega) (by omega) (by omega) (by omega) (hf2)) dX1_welcomes_91 rfl (rc_at B (ci := 0) rfl (k := 4) rfl) rfl q2579 q2581 qs39 q77 q2582 rfl rfl moX1_boxes_2 rfl rfl (by decide) (by decide) (Nat.le_of_ble_eq_true rfl) (by omega) (by omega) (fun _ _ hx => noX_x hx) (fun v91 L1 hp91 => ?_)
            obtain ⟨u1_91, rfl, rfl, hu1_91, hph_91⟩ := hp91
            refine (show Go g κ 94 [some (.ref x), some (.ref t), some (.ref s), some (.ref al), some (.int (nI k)), some (.ref it13), some (.ref pa)] [] [w3, w5, [(it13, .inr (22, [.int (nI (j + 1)), .int (nI j), .int md, .ref al]))], w4, w2, [(x, .inr (0, [.ref b, .ref lp, .ref lk, .ref lr, .ref lt, .ref ls, .ref lm, .ref so, .int (nI ((bm + 1) + 1))]))], u1_91] (2 * (15 - k) + 26 * (BN - (U.2.length + 2)) + 13 * (TA - PhS q2)) (5 * (15 - k) + 190 * (BN - (U.2.length + 2)) + 55 * (TA - PhS q2) + 8 * (BA - capF (U.2.length + 2))) from ?_)
            refine g_goto (tgt := 20) B dX1_welcomes_94 (by decide) ?_
            have hq21 : (q2, (U.2 ++ [(o1, bf)]) ++ [(o2, mv)]).2.length = U.2.length + 2 := hbl
            have hq22 : PhS (q2, (U.2 ++ [(o1, bf)]) ++ [(o2, mv)]).1 = PhS q2 := rfl
            have hq23 : capF (q2, (U.2 ++ [(o1, bf)]) ++ [(o2, mv)]).2.length = capF (U.2.length + 2) := by rw [hq21]
            refine g_fg 6 rfl ?_
            refine g_pk [5, 5, 4, 0, 0, 0, 0] rfl rfl ?_
            refine (show Go g κ 20 [some (.ref x), some (.ref t), some (.ref s), some (.ref al), some (.int (nI k)), some (.ref it13), none] [] [[(x, .inr (0, [.ref b, .ref lp, .ref lk, .ref lr, .ref lt, .ref ls, .ref lm, .ref so, .int (nI ((bm + 1) + 1))]))], u1_91, w2, w3, w5, [(it13, .inr (22, [.int (nI (j + 1)), .int (nI j), .int md, .ref al]))], w4] (2 * (15 - k) + 26 * (BN - (U.2.length + 2)) + 13 * (TA - PhS q2)) (5 * (15 - k) + 190 * (BN - (U.2.length + 2)) + 55 * (TA - PhS q2) + 8 * (BA - capF (U.2.length + 2))) from ?_)
            refine g_room (kc2 := 2 * (15 - k) + 26 * (BN - (q2, (U.2 ++ [(o1, bf)]) ++ [(o2, mv)]).2.length) + 13 * (TA - PhS (q2, (U.2 ++ [(o1, bf)]) ++ [(o2, mv)]).1)) (ks2 := 5 * (15 - k) + 190 * (BN - (q2, (U.2 ++ [(o1, bf)]) ++ [(o2, mv)]).2.length) + 55 * (TA - PhS (q2, (U.2 ++ [(o1, bf)]) ++ [(o2, mv)]).1) + 8 * (BA - capF (q2, (U.2 ++ [(o1, bf)]) ++ [(o2, mv)]).2.length)) (by omega) (by omega) ?_
            exact ih20 _ (by omega) (j + 1) (nI j) (q2, (U.2 ++ [(o1, bf)]) ++ [(o2, mv)]) ((bm + 1) + 1) u1_91 hu1_91 (by omega) (by rw [hUs, hbe]) (by show _ = bxs + ((U.2 ++ [(o1, bf)]) ++ [(o2, mv)]).length; rw [hbl]; omega) rfl
      have hxl : xs.length ≤ 8 := by have := hpa.1; omega
      have hcv0 := capF_m (show V.2.length ≤ (wlI T st Ks ids k V).2.length from (wlL_m T st Ks k ids V).2.2)
      have hcv1 := (wlL_m T st Ks k ids V).1
      have hcv1 : PhS V.1 ≤ PhS (wlI T st Ks ids k V).1 := hcv1
      refine g_room (kc2 := 2 * (15 - k) + 26 * (BN - V.2.length) + 13 * (TA - PhS V.1)) (ks2 := 5 * (15 - k) + 190 * (BN - V.2.length) + 55 * (TA - PhS V.1) + 8 * (BA - capF V.2.length)) (by omega) (by omega) ?_
      exact lp20 _ 0 (-1) V bn l3_1 hl3_1 (Nat.zero_le _) (rfl) (hbn) rfl
  have hq41 : (ss, bx).2.length = bx.length := rfl
  have hq42 : PhS (ss, bx).1 = PhS ss := rfl
  have hq43 : capF (ss, bx).2.length = capF bx.length := rfl
  refine g_room (kc2 := 2 * (16 - 0) + 26 * (BN - (ss, bx).2.length) + 13 * (TA - PhS (ss, bx).1)) (ks2 := 5 * (16 - 0) + 190 * (BN - (ss, bx).2.length) + 55 * (TA - PhS (ss, bx).1) + 8 * (BA - capF (ss, bx).2.length)) (by omega) (by omega) ?_
  exact lp3 _ 0 (ss, bx) bxs w1 hw1 (Nat.zero_le _) (rfl) (rfl) rfl
abbrev CmS : Type := List Sec × Nat × Bool × (Nat → Option Nat)
def clmA (T : TrS) (n : Nat) (S : CmS) : List Sec × Nat := if S.2.2.1 = true ∧ T.2.1 n ≠ none then frm S.1 (S.2.1, none, 2) else (S.1, S.2.1)
def clm1 (T : TrS) (l fm : Nat) (S : CmS) (k : Nat) : CmS := ((clmA T (nab l (k + 1)) S).1, (clmA T (nab l (k + 1)) S).2, S.2.2.1 || nab l (k + 1) == fm, if (S.2.2.1 || nab l (k + 1) == fm) = true ∧ T.2.1 (nab l (k + 1)) ≠ none then fup S.2.2.2 (nab l (k + 1)) (some (clmA T (nab l (k + 1)) S).2) else S.2.2.2)
def clmK (T : TrS) (l fm : Nat) (S : CmS) : Nat → CmS
  | 0 => S
  | k + 1 => clm1 T l fm (clmK T l fm S k) k
theorem clmA_y {T : TrS} {n : Nat} {S : CmS} {q : List Sec} {i : Nat} (h1 : S.2.2.1 = true) (h2 : ¬ T.2.1 n = none) (hf : frm S.1 (S.2.1, none, 2) = (q, i)) : clmA T n S = (q, i) := by unfold clmA; rw [if_pos ⟨h1, h2⟩, hf]
theorem clmA_n {T : TrS} {n : Nat} {S : CmS} (h : ¬ (S.2.2.1 = true ∧ T.2.1 n ≠ none)) : clmA T n S = (S.1, S.2.1) := by unfold clmA; rw [if_neg h]
theorem clmA_m (T : TrS) (n : Nat) (S : CmS) : PhS S.1 ≤ PhS (clmA T n S).1 ∧ S.1.length ≤ (clmA T n S).1.length := by
  unfold clmA
  split
  · exact ⟨(Ph_frm S.1 _).1, (@frm_le S.1 _).1⟩
  · exact ⟨Nat.le_refl _, Nat.le_refl _⟩
theorem clmK_m (T : TrS) (l fm : Nat) (S : CmS) {k m : Nat} (h : k ≤ m) : PhS (clmK T l fm S k).1 ≤ PhS (clmK T l fm S m).1 ∧ (clmK T l fm S k).1.length ≤ (clmK T l fm S m).1.length := by
  induction m with
  | zero => rw [Nat.le_zero.mp h]; exact ⟨Nat.le_refl _, Nat.le_refl _⟩
  | succ m ih =>
    rcases Nat.lt_or_ge m k with z | z
    · rw [show k = m + 1 by omega]; exact ⟨Nat.le_refl _, Nat.le_refl _⟩
    · have h1 := ih z
      have h2 := clmA_m T (nab l (m + 1)) (clmK T l fm S m)
      exact ⟨Nat.le_trans h1.1 h2.1, Nat.le_trans h1.2 h2.2⟩
theorem clm1_e {T : TrS} {l fm : Nat} {S : CmS} {k : Nat} {q : List Sec} {i : Nat} {b : Bool} (hA : clmA T (nab l (k + 1)) S = (q, i)) (hb : (S.2.2.1 || nab l (k + 1) == fm) = b) : clm1 T l fm S k = (q, i, b, if b = true ∧ T.2.1 (nab l (k + 1)) ≠ none then fup S.2.2.2 (nab l (k + 1)) (some i) else S.2.2.2) := by unfold clm1; rw [hA, hb]
set_option maxHeartbeats 8000000 in
theorem ct_X1_climbs (g : Gv) (J : Jd g) {x : Nat} {lk : Nat} {b : Nat} {lp : Nat} {lr : Nat} {lt : Nat} {ls : Nat} {lm : Nat} {so : Nat} {bxs : Nat} {a : Nat} {pks : List Nat} {r : PeS} {ss : List Sec} {bx : List (Nat × Nat)} {z : Int32} {t : Nat} {T : TrS} {l : Nat} {fm : Nat} {sec : Nat} {TA : Nat} {w1 : va_W} {w2 : va_W} {w3 : va_W} (hw1 : BookP g b ss bx z w1) (hw2 : PersP g a x pks r w2) (hw3 : TreeP g t T w3) (hl : l < 2 ^ T.1) (hfm : fm < 31) (hsc : ∀ k, k ≤ T.1 → (clmK T l fm ((ss, sec, false, pNd r) : CmS) k).2.1 < (clmK T l fm ((ss, sec, false, pNd r) : CmS) k).1.length) (hfl : (clmK T l fm ((ss, sec, false, pNd r) : CmS) T.1).1.length ≤ 990) (hTA : PhS (clmK T l fm ((ss, sec, false, pNd r) : CmS) T.1).1 ≤ TA) : Ct g yX1_climbs (ws_ yX1_climbs cX1_climbs 11 (some .int)) 14 (200 + 13 * (TA - PhS ss)) (1300 + 55 * (TA - PhS ss)) [.ref x, .ref a, .ref t, .int (nI l), .int (nI fm), .int (nI sec)] [[(x, .inr (0, [.ref b, .ref lp, .ref lk, .ref lr, .ref lt, .ref ls, .ref lm, .ref so, .int (nI bxs)]))], w1, w2, w3] (fun (rv_ : Option Value) (rL_ : List va_W) => ∃ (u1 : va_W) (u2 : va_W), rv_ = some (.int (nI ((clmK T l fm ((ss, sec, false, pNd r) : CmS) T.1).2.1))) ∧ rL_ = [[(x, .inr (0, [.ref b, .ref lp, .ref lk, .ref lr, .ref lt, .ref ls, .ref lm, .ref so, .int (nI bxs)]))], u1, u2, w3] ∧ BookP g b ((clmK T l fm ((ss, sec, false, pNd r) : CmS) T.1).1) bx z u1 ∧ PersP g a x pks ((pNo r, pEv r, pPk r, pEp r, pLf r, (clmK T l fm ((ss, sec, false, pNd r) : CmS) T.1).2.2.2, pOn r, pKy r, pCh r, pRn r) : PeS) u2) noX := by
  refine Ct.of "Keygrove" [some (.ref x), some (.ref a), some (.ref t), some (.int (nI l)), some (.int (nI fm)), some (.int (nI sec)), none, none, none, none, none] rfl (by decide) rfl (Nat.le_of_ble_eq_true rfl) rfl ?_
  intro κ B E tb
  obtain ⟨ev, pl, nd, ch, ecap, pcap, nn, nc, plc, md, v0, v1, v2, v3, hP, hpl, hec, hpc, hv0, hv1, hv2, hv3, rfl⟩ := hw2
  refine g_open 2 rfl rfl rfl ?_
  refine (show Go g κ 0 [some (.ref x), some (.ref a), some (.ref t), some (.int (nI l)), some (.int (nI fm)), some (.int (nI sec)), none, none, none, none, none] [] [[(x, .inr (0, [.ref b, .ref lp, .ref lk, .ref lr, .ref lt, .ref ls, .ref lm, .ref so, .int (nI bxs)]))], w1, w3, [(a, .inr (2, [.int (nI (pNo r)), .ref ev, .ref pl, .int (oI (pEp r)), .int (nI (pLf r)), .ref nd, .int (nI (pOn r)), .int (nI (pKy r)), .ref ch, .int (oI (pRn r)), .ref x]))], v0, v1, v2, v3] (200 + 13 * (TA - PhS ss)) (1300 + 55 * (TA - PhS ss)) from ?_)
  have hP0 := hP
  obtain ⟨hp0, hp1, hP2, hp3, hp4, hp5, hp6, hp7, hp8⟩ := hP0
  have hB := TreeP.b hw3
  have hp2 := p2_4 hB.1
  have hd4 := hB.1
  refine g_iload (q := 2) B dX1_climbs_0 rfl rfl ?_
  refine g_istore (q := 4) (lv2 := [some (.ref x), some (.ref a), some (.ref t), some (.int (nI l)), some (.int (nI fm)), some (.int (nI sec)), some (.int (nI sec)), none, none, none, none]) B dX1_climbs_2 rfl (Nat.le_of_ble_eq_true rfl) rfl ?_
  refine g_iconst (v := nI 0) (q := 5) B dX1_climbs_4 rfl (by decide) ?_
  refine g_istore (q := 7) (lv2 := [some (.ref x), some (.ref a), some (.ref t), some (.int (nI l)), some (.int (nI fm)), some (.int (nI sec)), some (.int (nI sec)), some (.int (nI 0)), none, none, none]) B dX1_climbs_5 rfl (Nat.le_of_ble_eq_true rfl) rfl ?_
  refine g_aload_n (q := 8) B dX1_climbs_7 rfl rfl (rv_r _) ?_
  refine g_iload_n (q := 9) B dX1_climbs_8 rfl rfl ?_
  refine g_callV (q := 12) (is := [2]) (kc2 := (200 + 13 * (TA - PhS ss)) - 2) (ks2 := (1300 + 55 * (TA - PhS ss)) - 13) B [.int (nI l)] (ct_X10_way g J (t := t) (T := T) (l := l) hw3 (by first | assumption | omega | rfl)) dX1_climbs_9 rfl (rc_in B (ci := 5) rfl (k := 2) rfl (TreeP.hm hw3)) rfl q2560 q2495 q2496 q123 q2497 rfl rfl moX10_way rfl rfl (by decide) (by decide) (Nat.le_of_ble_eq_true rfl) (by omega) (by omega) (fun _ _ hx => noX_x hx) (fun v9 L1 hp9 => ?_)
  obtain ⟨p9, cap9, u1_9, rfl, rfl, hu1_9, hcp_9⟩ := hp9
  refine (show Go g κ 12 [some (.ref x), some (.ref a), some (.ref t), some (.int (nI l)), some (.int (nI fm)), some (.int (nI sec)), some (.int (nI sec)), some (.int (nI 0)), none, none, none] [.ref p9] [[(x, .inr (0, [.ref b, .ref lp, .ref lk, .ref lr, .ref lt, .ref ls, .ref lm, .ref so, .int (nI bxs)]))], w1, [(a, .inr (2, [.int (nI (pNo r)), .ref ev, .ref pl, .int (oI (pEp r)), .int (nI (pLf r)), .ref nd, .int (nI (pOn r)), .int (nI (pKy r)), .ref ch, .int (oI (pRn r)), .ref x]))], v0, v1, v2, v3, w3, u1_9] ((200 + 13 * (TA - PhS ss)) - 2) ((1300 + 55 * (TA - PhS ss)) - 13) from ?_)
  have hr_1 : LhP g (BxE g) p9 (wayD T.1 l) cap9 u1_9 := hu1_9
  have hwl := wayD_len T.1 l
  obtain ⟨ps_2, md_2, hli_2, hln_2, hel_2⟩ := LhP.at (Sub.self hr_1)
  refine g_callF (q := 17) (is := [8]) (kc2 := (200 + 13 * (TA - PhS ss)) - 3) (ks2 := (1300 + 55 * (TA - PhS ss)) - 17) B [] (ct_J2_iterator_s g J (p := p9) (xs := ps_2) (md := md_2) (cap := cap9) (W0 := u1_9)  (hli_2)) dX1_climbs_12 rfl (ci := 21) rfl (rc_in B (ci := 21) rfl (k := 8) rfl (LhP.hm hr_1)) q1153 q1156 q805 q81 q807 q1155 q1154 q806 q804 q318 rfl rfl mojava_util_List_iterator___Ljava_util_Iterator_ rfl rfl (by decide) (by decide) (Nat.le_of_ble_eq_true rfl) (by omega) (by omega) (fun _ _ hx => noX_x hx) (fun v12 L1 hp12 => ?_)
  obtain ⟨it12, rfl, rfl⟩ := hp12
  refine (show Go g κ 17 [some (.ref x), some (.ref a), some (.ref t), some (.int (nI l)), some (.int (nI fm)), some (.int (nI sec)), some (.int (nI sec)), some (.int (nI 0)), none, none, none] [.ref it12] [[(x, .inr (0, [.ref b, .ref lp, .ref lk, .ref lr, .ref lt, .ref ls, .ref lm, .ref so, .int (nI bxs)]))], w1, [(a, .inr (2, [.int (nI (pNo r)), .ref ev, .ref pl, .int (oI (pEp r)), .int (nI (pLf r)), .ref nd, .int (nI (pOn r)), .int (nI (pKy r)), .ref ch, .int (oI (pRn r)), .ref x]))], v0, v1, v2, v3, w3, [(it12, .inr (22, [.int (nI 0), .int (-1), .int md_2, .ref p9]))], u1_9] ((200 + 13 * (TA - PhS ss)) - 3) ((1300 + 55 * (TA - PhS ss)) - 17) from ?_)
  refine g_astore (q := 19) (lv2 := [some (.ref x), some (.ref a), some (.ref t), some (.int (nI l)), some (.int (nI fm)), some (.int (nI sec)), some (.int (nI sec)), some (.int (nI 0)), some (.ref it12), none, none]) B dX1_climbs_17 rfl (Nat.le_of_ble_eq_true rfl) (rv_r _) rfl ?_
  have lp19 : ∀ (n19 : Nat) (k : Nat) (lrt : Int32) (S : CmS) (nn1 : Nat) (l19_1 : va_W) (l19_5 : va_W), BookP g b S.1 bx z l19_1 → MoP g (BxE g) nd S.2.2.2 nn1 l19_5 → (k ≤ (wayD T.1 l).length) → (S = clmK T l fm ((ss, sec, false, pNd r) : CmS) k) → (∀ i n, S.2.2.2 i = some n → n < 1000) → (wayD T.1 l).length - k = n19 → Go g κ 19 [some (.ref x), some (.ref a), some (.ref t), some (.int (nI l)), some (.int (nI fm)), some (.int (nI sec)), some (.int (nI S.2.1)), some (.int (nI (if S.2.2.1 = true then 1 else 0))), some (.ref it12), none, none] [] [[(x, .inr (0, [.ref b, .ref lp, .ref lk, .ref lr, .ref lt, .ref ls, .ref lm, .ref so, .int (nI bxs)]))], l19_1, [(a, .inr (2, [.int (nI (pNo r)), .ref ev, .ref pl, .int (oI (pEp r)), .int (nI (pLf r)), .ref nd, .int (nI (pOn r)), .int (nI (pKy r)), .ref ch, .int (oI (pRn r)), .ref x]))], v0, v1, l19_5, v3, w3, [(it12, .inr (22, [.int (nI k), .int lrt, .int md_2, .ref p9]))], u1_9] (40 * (4 - k) + 13 * (TA - PhS S.1)) (300 * (4 - k) + 55 * (TA - PhS S.1)) := by
    intro n19
    induction n19 using Nat.strongRecOn with
    | _ n19 ih19 =>
    intro k lrt S nn1 l19_1 l19_5 hl19_1 hl19_5 hk hS hNb hmu19
    refine g_aload (q := 21) B dX1_climbs_19 rfl rfl (rv_r _) ?_
    refine g_callF (q := 26) (is := [8, 8]) (kc2 := 40 * (4 - k) + 13 * (TA - PhS S.1)) (ks2 := 300 * (4 - k) + 55 * (TA - PhS S.1)) B [] (ct_J19_hasNext_s g J (p := p9) (xs := ps_2) (md := md_2) (cap := cap9) (it := it12) (c := k) (lr := lrt) (W1 := u1_9)  (hli_2) (by have := hln_2.1; omega)) dX1_climbs_21 rfl (ci := 22) rfl (rc_at B (ci := 22) rfl (k := 8) rfl) q1158 q940 q942 q104 q944 q938 q937 q943 q941 q939 rfl rfl mojava_util_Iterator_hasNext___Z rfl rfl (by decide) (by decide) (Nat.le_of_ble_eq_true rfl) (by omega) (by omega) (fun _ _ hx => noX_x hx) (fun v21 L1 hp21 => ?_)
    obtain ⟨rfl, rfl⟩ := hp21
    refine (show Go g κ 26 [some (.ref x), some (.ref a), some (.ref t), some (.int (nI l)), some (.int (nI fm)), some (.int (nI sec)), some (.int (nI S.2.1)), some (.int (nI (if S.2.2.1 = true then 1 else 0))), some (.ref it12), none, none] [.int (nI (if ¬ k = ps_2.length then 1 else 0))] [[(x, .inr (0, [.ref b, .ref lp, .ref lk, .ref lr, .ref lt, .ref ls, .ref lm, .ref so, .int (nI bxs)]))], l19_1, [(a, .inr (2, [.int (nI (pNo r)), .ref ev, .ref pl, .int (oI (pEp r)), .int (nI (pLf r)), .ref nd, .int (nI (pOn r)), .int (nI (pKy r)), .ref ch, .int (oI (pRn r)), .ref x]))], v0, v1, l19_5, v3, w3, [(it12, .inr (22, [.int (nI k), .int lrt, .int md_2, .ref p9]))], u1_9] (40 * (4 - k) + 13 * (TA - PhS S.1)) (300 * (4 - k) + 55 * (TA - PhS S.1)) from ?_)
    rw [hln_2.1]
    refine (show Go g κ 26 [some (.ref x), some (.ref a), some (.ref t), some (.int (nI l)), some (.int (nI fm)), some (.int (nI sec)), some (.int (nI S.2.1)), some (.int (nI (if S.2.2.1 = true then 1 else 0))), some (.ref it12), none, none] [.int (nI (if ¬ k = (wayD T.1 l).length then 1 else 0))] [[(x, .inr (0, [.ref b, .ref lp, .ref lk, .ref lr, .ref lt, .ref ls, .ref lm, .ref so, .int (nI bxs)]))], l19_1, [(a, .inr (2, [.int (nI (pNo r)), .ref ev, .ref pl, .int (oI (pEp r)), .int (nI (pLf r)), .ref nd, .int (nI (pOn r)), .int (nI (pKy r)), .ref ch, .int (oI (pRn r)), .ref x]))], v0, v1, l19_5, v3, w3, [(it12, .inr (22, [.int (nI k), .int lrt, .int md_2, .ref p9]))], u1_9] (40 * (4 - k) + 13 * (TA - PhS S.1)) (300 * (4 - k) + 55 * (TA - PhS S.1)) from ?_)
    refine g_if_eq (tgt := 136) (q := 29) B dX1_climbs_26 rfl (by decide) (bo_eq) (fun c26 => ?_) (fun c26 => ?_)
    · skip
      have hkT : k = T.1 := by omega
      have hSF : S = (clmK T l fm ((ss, sec, false, pNd r) : CmS) T.1) := by rw [hS, hkT]
      have hr_3 : BookP g b ((clmK T l fm ((ss, sec, false, pNd r) : CmS) T.1).1) bx z l19_1 := by rw [← hSF]; exact hl19_1
      have hr_4 : MoP g (BxE g) nd ((clmK T l fm ((ss, sec, false, pNd r) : CmS) T.1).2.2.2) nn1 l19_5 := by rw [← hSF]; exact hl19_5
      rw [(show nI S.2.1 = nI (clmK T l fm ((ss, sec, false, pNd r) : CmS) T.1).2.1 from by rw [← hSF])]
      refine (show Go g κ 136 [some (.ref x), some (.ref a), some (.ref t), some (.int (nI l)), some (.int (nI fm)), some (.int (nI sec)), some (.int (nI ((clmK T l fm ((ss, sec, false, pNd r) : CmS) T.1).2.1))), some (.int (nI (if S.2.2.1 = true then 1 else 0))), some (.ref it12), none, none] [] [[(x, .inr (0, [.ref b, .ref lp, .ref lk, .ref lr, .ref lt, .ref ls, .ref lm, .ref so, .int (nI bxs)]))], l19_1, [(a, .inr (2, [.int (nI (pNo r)), .ref ev, .ref pl, .int (oI (pEp r)), .int (nI (pLf r)), .ref nd, .int (nI (pOn r)), .int (nI (pKy r)), .ref ch, .int (oI (pRn r)), .ref x]))], v0, v1, l19_5, v3, w3, [(it12, .inr (22, [.int (nI k), .int lrt, .int md_2, .ref p9]))], u1_9] (40 * (4 - k) + 13 * (TA - PhS S.1)) (300 * (4 - k) + 55 * (TA - PhS S.1)) from ?_)
      have hN9 : ∀ i n, (clmK T l fm ((ss, sec, false, pNd r) : CmS) T.1).2.2.2 i = some n → n < 1000 := by rw [← hSF]; exact hNb
      refine g_iload (q := 138) B dX1_climbs_136 rfl rfl ?_
      obtain ⟨wc_5, ewc_5⟩ : ∃ w : va_W, w = ([[(a, .inr (2, [.int (nI (pNo r)), .ref ev, .ref pl, .int (oI (pEp r)), .int (nI (pLf r)), .ref nd, .int (nI (pOn r)), .int (nI (pKy r)), .ref ch, .int (oI (pRn r)), .ref x]))], v0, v1, l19_5, v3] : List va_W).flatten := ⟨_, rfl⟩
      have hwc_5 : PersP g a x pks ((pNo r, pEv r, pPk r, pEp r, pLf r, (clmK T l fm ((ss, sec, false, pNd r) : CmS) T.1).2.2.2, pOn r, pKy r, pCh r, pRn r) : PeS) wc_5 := by
        rw [ewc_5]
        exact ⟨ev, pl, nd, ch, ecap, pcap, nn1, nc, plc, md, _, _, _, _, (by exact ⟨hp0, hp1, hP2, hp3, hp4, hp5, hN9, hp7, hp8⟩), hpl, hec, hpc, hv0, hv1, hr_4, hv3, rfl⟩
      refine g_close (w := wc_5) [2, 2, 2, 2, 2] rfl ewc_5 rfl ?_
      refine (show Go g κ 138 [some (.ref x), some (.ref a), some (.ref t), some (.int (nI l)), some (.int (nI fm)), some (.int (nI sec)), some (.int (nI ((clmK T l fm ((ss, sec, false, pNd r) : CmS) T.1).2.1))), some (.int (nI (if S.2.2.1 = true then 1 else 0))), some (.ref it12), none, none] [.int (nI ((clmK T l fm ((ss, sec, false, pNd r) : CmS) T.1).2.1))] [[(x, .inr (0, [.ref b, .ref lp, .ref lk, .ref lr, .ref lt, .ref ls, .ref lm, .ref so, .int (nI bxs)]))], l19_1, w3, [(it12, .inr (22, [.int (nI k), .int lrt, .int md_2, .ref p9]))], u1_9, wc_5] (40 * (4 - k) + 13 * (TA - PhS S.1)) (300 * (4 - k) + 55 * (TA - PhS S.1)) from ?_)
      refine g_pk [0, 0, 3, 0] rfl rfl ?_
      refine (show Go g κ 138 [some (.ref x), some (.ref a), some (.ref t), some (.int (nI l)), some (.int (nI fm)), some (.int (nI sec)), some (.int (nI ((clmK T l fm ((ss, sec, false, pNd r) : CmS) T.1).2.1))), some (.int (nI (if S.2.2.1 = true then 1 else 0))), some (.ref it12), none, none] [.int (nI ((clmK T l fm ((ss, sec, false, pNd r) : CmS) T.1).2.1))] [[(x, .inr (0, [.ref b, .ref lp, .ref lk, .ref lr, .ref lt, .ref ls, .ref lm, .ref so, .int (nI bxs)]))], l19_1, wc_5, w3] (40 * (4 - k) + 13 * (TA - PhS S.1)) (300 * (4 - k) + 55 * (TA - PhS S.1)) from ?_)
      exact g_iret B E dX1_climbs_138 (⟨l19_1, wc_5, rfl, rfl, hr_3, hwc_5⟩)
    · skip
      have c26 := Classical.not_not.mp c26
      refine g_aload (q := 31) B dX1_climbs_29 rfl rfl (rv_r _) ?_
      obtain ⟨x31, hx31⟩ := get_ex (xs := ps_2) (i := k) (by have := get_lt2 (show (wayD T.1 l)[k]? = some (nab l (k + 1)) from (wayD_get (by omega))); have := hln_2.1; omega)
      have hb_6 := Sub.box (hel_2 _ _ _ hx31 (show (wayD T.1 l)[k]? = some (nab l (k + 1)) from (wayD_get (by omega))))
      refine g_callF (q := 36) (is := [8, 8]) (kc2 := 40 * (4 - k) + 13 * (TA - PhS S.1)) (ks2 := 300 * (4 - k) + 55 * (TA - PhS S.1)) B [] (ct_J19_next_s g J (p := p9) (xs := ps_2) (md := md_2) (cap := cap9) (it := it12) (c := k) (lr := lrt) (x := x31) (W1 := u1_9)  (hli_2) (hx31)) dX1_climbs_31 rfl (ci := 22) rfl (rc_at B (ci := 22) rfl (k := 8) rfl) q1160 q967 q969 q104 q971 q966 q965 q970 q968 q939 rfl rfl mojava_util_Iterator_next___Ljava_lang_Object_ rfl rfl (by decide) (by decide) (Nat.le_of_ble_eq_true rfl) (by omega) (by omega) (fun _ _ hx => noX_x hx) (fun v31 L1 hp31 => ?_)
      obtain ⟨rfl, rfl⟩ := hp31
      refine (show Go g κ 36 [some (.ref x), some (.ref a), some (.ref t), some (.int (nI l)), some (.int (nI fm)), some (.int (nI sec)), some (.int (nI S.2.1)), some (.int (nI (if S.2.2.1 = true then 1 else 0))), some (.ref it12), none, none] [.ref x31] [[(x, .inr (0, [.ref b, .ref lp, .ref lk, .ref lr, .ref lt, .ref ls, .ref lm, .ref so, .int (nI bxs)]))], l19_1, [(a, .inr (2, [.int (nI (pNo r)), .ref ev, .ref pl, .int (oI (pEp r)), .int (nI (pLf r)), .ref nd, .int (nI (pOn r)), .int (nI (pKy r)), .ref ch, .int (oI (pRn r)), .ref x]))], v0, v1, l19_5, v3, w3, [(it12, .inr (22, [.int (nI (k + 1)), .int (nI k), .int md_2, .ref p9]))], u1_9] (40 * (4 - k) + 13 * (TA - PhS S.1)) (300 * (4 - k) + 55 * (TA - PhS S.1)) from ?_)
      refine g_castRS (ci := 35) (q := 39) B rfl (rc_bxat B J (k := 9) rfl hb_6) dX1_climbs_36 rfl q1829 ?_
      refine g_callV (q := 42) (is := [9]) (kc2 := 40 * (4 - k) + 13 * (TA - PhS S.1)) (ks2 := 300 * (4 - k) + 55 * (TA - PhS S.1)) B [] (ct_J26_intValue_b g J (a := x31) (v := nI (nab l (k + 1))) (wb := u1_9)  (hb_6)) dX1_climbs_39 rfl (rc_bxat B J (k := 9) rfl hb_6) rfl q1830 q1052 q1053 q111 q1054 rfl rfl moJ26_intValue rfl rfl (by decide) (by decide) (Nat.le_of_ble_eq_true rfl) (by omega) (by omega) (fun _ _ hx => noX_x hx) (fun v39 L1 hp39 => ?_)
      obtain ⟨rfl, rfl⟩ := hp39
      refine (show Go g κ 42 [some (.ref x), some (.ref a), some (.ref t), some (.int (nI l)), some (.int (nI fm)), some (.int (nI sec)), some (.int (nI S.2.1)), some (.int (nI (if S.2.2.1 = true then 1 else 0))), some (.ref it12), none, none] [.int (nI (nab l (k + 1)))] [[(x, .inr (0, [.ref b, .ref lp, .ref lk, .ref lr, .ref lt, .ref ls, .ref lm, .ref so, .int (nI bxs)]))], l19_1, [(a, .inr (2, [.int (nI (pNo r)), .ref ev, .ref pl, .int (oI (pEp r)), .int (nI (pLf r)), .ref nd, .int (nI (pOn r)), .int (nI (pKy r)), .ref ch, .int (oI (pRn r)), .ref x]))], v0, v1, l19_5, v3, w3, [(it12, .inr (22, [.int (nI (k + 1)), .int (nI k), .int md_2, .ref p9]))], u1_9] (40 * (4 - k) + 13 * (TA - PhS S.1)) (300 * (4 - k) + 55 * (TA - PhS S.1)) from ?_)
      refine g_istore (q := 44) (lv2 := [some (.ref x), some (.ref a), some (.ref t), some (.int (nI l)), some (.int (nI fm)), some (.int (nI sec)), some (.int (nI S.2.1)), some (.int (nI (if S.2.2.1 = true then 1 else 0))), some (.ref it12), some (.int (nI (nab l (k + 1)))), none]) B dX1_climbs_42 rfl (Nat.le_of_ble_eq_true rfl) rfl ?_
      have hnc : (nab l (k + 1)) < 31 := nab_b (k + 1) (by omega) l (by omega)
      have hSm := clmK_m T l fm ((ss, sec, false, pNd r) : CmS) (show k ≤ T.1 by omega)
      have hSn := clmK_m T l fm ((ss, sec, false, pNd r) : CmS) (show k + 1 ≤ T.1 by omega)
      have hSe : clmK T l fm ((ss, sec, false, pNd r) : CmS) (k + 1) = clm1 T l fm S k := by rw [hS]; rfl
      rw [hSe] at hSn
      rw [← hS] at hSm
      have hAm := clmA_m T (nab l (k + 1)) S
      have hsk := hsc k (by omega)
      rw [← hS] at hsk
      have hn1 : PhS (clmA T (nab l (k + 1)) S).1 ≤ PhS (clmK T l fm ((ss, sec, false, pNd r) : CmS) T.1).1 := hSn.1
      have hn2 : (clmA T (nab l (k + 1)) S).1.length ≤ (clmK T l fm ((ss, sec, false, pNd r) : CmS) T.1).1.length := hSn.2
      refine g_iload (q := 46) B dX1_climbs_44 rfl rfl ?_
      refine g_iload (q := 48) B dX1_climbs_46 rfl rfl ?_
      refine g_icmp_ne (tgt := 55) (q := 51) B dX1_climbs_48 rfl (by decide) (not_congr (nI_eq (by omega) (by omega))) (fun c48 => ?_) (fun c48 => ?_)
      · skip
        refine g_iconst (v := nI 0) (q := 56) B dX1_climbs_55 rfl (by decide) ?_
        refine g_istore (q := 58) (lv2 := [some (.ref x), some (.ref a), some (.ref t), some (.int (nI l)), some (.int (nI fm)), some (.int (nI sec)), some (.int (nI S.2.1)), some (.int (nI (if S.2.2.1 = true then 1 else 0))), some (.ref it12), some (.int (nI (nab l (k + 1)))), some (.int (nI 0))]) B dX1_climbs_56 rfl (Nat.le_of_ble_eq_true rfl) rfl ?_
        refine g_iload (q := 60) B dX1_climbs_58 rfl rfl ?_
        refine g_if_eq (tgt := 84) (q := 63) B dX1_climbs_60 rfl (by decide) (bo_eq) (fun c60 => ?_) (fun c60 => ?_)
        · skip
          have hA := clmA_n (T := T) (n := (nab l (k + 1))) (S := S) (by rintro ⟨z1, z2⟩; first | exact c60 z1 | exact z2 c69)
          have hi0 : S.2.1 < 1000 := by omega
          refine g_iload (q := 86) B dX1_climbs_84 rfl rfl ?_
          refine g_if_ne (tgt := 94) (q := 89) B dX1_climbs_86 rfl (by decide) (bo_ne) (fun c86 => ?_) (fun c86 => ?_)
          · skip
            refine g_iconst (v := nI 1) (q := 95) B dX1_climbs_94 rfl (by decide) ?_
            refine g_goto (tgt := 99) B dX1_climbs_95 (by decide) ?_
            refine g_istore (q := 101) (lv2 := [some (.ref x), some (.ref a), some (.ref t), some (.int (nI l)), some (.int (nI fm)), some (.int (nI sec)), some (.int (nI S.2.1)), some (.int (nI 1)), some (.ref it12), some (.int (nI (nab l (k + 1)))), some (.int (nI 0))]) B dX1_climbs_99 rfl (Nat.le_of_ble_eq_true rfl) rfl ?_
            refine g_iload (q := 103) B dX1_climbs_101 rfl rfl ?_
            have hb : (S.2.2.1 || (nab l (k + 1)) == fm) = true := by first | (rw [show S.2.2.1 = true from c86]; rfl) | (rw [Classical.not_not.mp c48]; simp) | (rw [beq_iff_eq.mpr (Classical.not_not.mp c48), Bool.or_true])
            have hC := clm1_e (l := l) hA hb
            refine g_if_eq (tgt := 133) (q := 106) B dX1_climbs_103 rfl (by decide) (iff_false_intro (by decide)) (fun z => z.elim) (fun _ => ?_)
            refine g_aload_n (q := 107) B dX1_climbs_106 rfl rfl (rv_r _) ?_
            refine g_iload (q := 109) B dX1_climbs_107 rfl rfl ?_
            refine g_callV (q := 112) (is := [7]) (kc2 := 40 * (4 - k) + 13 * (TA - PhS S.1)) (ks2 := 300 * (4 - k) + 55 * (TA - PhS S.1)) B [.int (nI (nab l (k + 1)))] (ct_X10_isBlank g J (t := t) (T := T) (n := (nab l (k + 1))) hw3 (by first | assumption | omega | rfl)) dX1_climbs_109 rfl (rc_in B (ci := 5) rfl (k := 7) rfl (TreeP.hm hw3)) rfl q1144 q1145 q1146 q123 q1147 rfl rfl moX10_isBlank rfl rfl (by decide) (by decide) (Nat.le_of_ble_eq_true rfl) (by omega) (by omega) (fun _ _ hx => noX_x hx) (fun v109 L1 hp109 => ?_)
            obtain ⟨rfl, rfl⟩ := hp109
            refine (show Go g κ 112 [some (.ref x), some (.ref a), some (.ref t), some (.int (nI l)), some (.int (nI fm)), some (.int (nI sec)), some (.int (nI S.2.1)), some (.int (nI 1)), some (.ref it12), some (.int (nI (nab l (k + 1)))), some (.int (nI 0))] [.int (nI (if T.2.1 (nab l (k + 1)) = none then 1 else 0))] [[(x, .inr (0, [.ref b, .ref lp, .ref lk, .ref lr, .ref lt, .ref ls, .ref lm, .ref so, .int (nI bxs)]))], l19_1, [(a, .inr (2, [.int (nI (pNo r)), .ref ev, .ref pl, .int (oI (pEp r)), .int (nI (pLf r)), .ref nd, .int (nI (pOn r)), .int (nI (pKy r)), .ref ch, .int (oI (pRn r)), .ref x]))], v0, v1, l19_5, v3, [(it12, .inr (22, [.int (nI (k + 1)), .int (nI k), .int md_2, .ref p9]))], u1_9, w3] (40 * (4 - k) + 13 * (TA - PhS S.1)) (300 * (4 - k) + 55 * (TA - PhS S.1)) from ?_)
            refine g_if_ne (tgt := 133) (q := 115) B dX1_climbs_112 rfl (by decide) (bo_ne) (fun c112 => ?_) (fun c112 => ?_)
            · skip
              refine g_goto (tgt := 19) B dX1_climbs_133 (by decide) ?_
              rw [if_neg (fun z => z.2 c112)] at hC
              have hr_7 : BookP g b ((clm1 T l fm S k).1) bx z l19_1 := by rw [hC]; exact hl19_1
              have hr_8 : MoP g (BxE g) nd ((clm1 T l fm S k).2.2.2) nn1 l19_5 := by rw [hC]; exact hl19_5
              refine g_lvs (lv2 := [some (.ref x), some (.ref a), some (.ref t), some (.int (nI l)), some (.int (nI fm)), some (.int (nI sec)), some (.int (nI ((clm1 T l fm S k).2.1))), some (.int (nI (if (clm1 T l fm S k).2.2.1 = true then 1 else 0))), some (.ref it12), some (.int (nI (nab l (k + 1)))), some (.int (nI 0))]) (st2 := []) (by rw [hC]; rfl) rfl ?_
              have hy1 : PhS (clm1 T l fm S k).1 ≤ PhS (clmK T l fm ((ss, sec, false, pNd r) : CmS) T.1).1 := hSn.1
              have hy2 : PhS S.1 ≤ PhS (clm1 T l fm S k).1 := hAm.1
              refine (show Go g κ 19 [some (.ref x), some (.ref a), some (.ref t), some (.int (nI l)), some (.int (nI fm)), some (.int (nI sec)), some (.int (nI ((clm1 T l fm S k).2.1))), some (.int (nI (if (clm1 T l fm S k).2.2.1 = true then 1 else 0))), some (.ref it12), some (.int (nI (nab l (k + 1)))), some (.int (nI 0))] [] [[(x, .inr (0, [.ref b, .ref lp, .ref lk, .ref lr, .ref lt, .ref ls, .ref lm, .ref so, .int (nI bxs)]))], l19_1, [(a, .inr (2, [.int (nI (pNo r)), .ref ev, .ref pl, .int (oI (pEp r)), .int (nI (pLf r)), .ref nd, .int (nI (pOn r)), .int (nI (pKy r)), .ref ch, .int (oI (pRn r)), .ref x]))], v0, v1, l19_5, v3, [(it12, .inr (22, [.int (nI (k + 1)), .int (nI k), .int md_2, .ref p9]))], u1_9, w3] (40 * (4 - k) + 13 * (TA - PhS S.1)) (300 * (4 - k) + 55 * (TA - PhS S.1)) from ?_)
              refine g_fg 9 rfl ?_
              refine g_fg 10 rfl ?_
              refine g_pk [0, 0, 0, 0, 0, 0, 0, 2, 0, 0] rfl rfl ?_
              refine (show Go g κ 19 [some (.ref x), some (.ref a), some (.ref t), some (.int (nI l)), some (.int (nI fm)), some (.int (nI sec)), some (.int (nI ((clm1 T l fm S k).2.1))), some (.int (nI (if (clm1 T l fm S k).2.2.1 = true then 1 else 0))), some (.ref it12), none, none] [] [[(x, .inr (0, [.ref b, .ref lp, .ref lk, .ref lr, .ref lt, .ref ls, .ref lm, .ref so, .int (nI bxs)]))], l19_1, [(a, .inr (2, [.int (nI (pNo r)), .ref ev, .ref pl, .int (oI (pEp r)), .int (nI (pLf r)), .ref nd, .int (nI (pOn r)), .int (nI (pKy r)), .ref ch, .int (oI (pRn r)), .ref x]))], v0, v1, l19_5, v3, w3, [(it12, .inr (22, [.int (nI (k + 1)), .int (nI k), .int md_2, .ref p9]))], u1_9] (40 * (4 - k) + 13 * (TA - PhS S.1)) (300 * (4 - k) + 55 * (TA - PhS S.1)) from ?_)
              refine g_room (kc2 := 40 * (4 - (k + 1)) + 13 * (TA - PhS (clm1 T l fm S k).1)) (ks2 := 300 * (4 - (k + 1)) + 55 * (TA - PhS (clm1 T l fm S k).1)) (by omega) (by omega) ?_
              exact ih19 _ (by omega) (k + 1) (nI k) (clm1 T l fm S k) nn1 l19_1 l19_5 hr_7 hr_8 (by first | assumption | omega | rfl) (by rw [hS]; rfl) (by rw [hC]; first | exact hNb | exact fup_bd hNb (by first | exact hi1 | exact hi0)) rfl
            · skip
              refine g_aload_n (q := 116) B dX1_climbs_115 rfl rfl (rv_r _) ?_
              refine g_getN (q := 119) B (ci := 2) (k := 2) (j := 5) in_X4 rfl dX1_climbs_116 rfl rfl (Nat.le_of_ble_eq_true rfl) q1905 rfl rfl ?_
              refine g_iload (q := 121) B dX1_climbs_119 rfl rfl ?_
              refine g_callS (q := 124) (is := []) (kc2 := 40 * (4 - k) + 13 * (TA - PhS S.1)) (ks2 := 300 * (4 - k) + 55 * (TA - PhS S.1)) B [.int (nI (nab l (k + 1)))] (ct_J26_valueOf_k g J (k := (nab l (k + 1)))  (by omega)) dX1_climbs_121 rfl q685 q686 q111 q687 rfl rfl moJ26_valueOf rfl rfl (by decide) (by decide) (Nat.le_of_ble_eq_true rfl) (by omega) (by omega) (fun _ _ hx => noX_x hx) (fun v121 L1 hp121 => ?_)
              obtain ⟨rfl, rfl⟩ := hp121
              refine (show Go g κ 124 [some (.ref x), some (.ref a), some (.ref t), some (.int (nI l)), some (.int (nI fm)), some (.int (nI sec)), some (.int (nI S.2.1)), some (.int (nI 1)), some (.ref it12), some (.int (nI (nab l (k + 1)))), some (.int (nI 0))] [.ref (kI g (nab l (k + 1))), .ref nd] [[(x, .inr (0, [.ref b, .ref lp, .ref lk, .ref lr, .ref lt, .ref ls, .ref lm, .ref so, .int (nI bxs)]))], l19_1, [(a, .inr (2, [.int (nI (pNo r)), .ref ev, .ref pl, .int (oI (pEp r)), .int (nI (pLf r)), .ref nd, .int (nI (pOn r)), .int (nI (pKy r)), .ref ch, .int (oI (pRn r)), .ref x]))], v0, v1, l19_5, v3, [(it12, .inr (22, [.int (nI (k + 1)), .int (nI k), .int md_2, .ref p9]))], u1_9, w3] (40 * (4 - k) + 13 * (TA - PhS S.1)) (300 * (4 - k) + 55 * (TA - PhS S.1)) from ?_)
              refine g_iload (q := 126) B dX1_climbs_124 rfl rfl ?_
              refine g_callS (q := 129) (is := []) (kc2 := (40 * (4 - k) + 13 * (TA - PhS S.1)) - 1) (ks2 := (300 * (4 - k) + 55 * (TA - PhS S.1)) - 1) B [.int (nI S.2.1)] (ct_J26_valueOf g J (v := nI S.2.1)  ) dX1_climbs_126 rfl q685 q686 q111 q687 rfl rfl moJ26_valueOf rfl rfl (by decide) (by decide) (Nat.le_of_ble_eq_true rfl) (by omega) (by omega) (fun _ _ hx => noX_x hx) (fun v126 L1 hp126 => ?_)
              obtain ⟨a126, u0_126, rfl, rfl, hu0_126⟩ := hp126
              refine (show Go g κ 129 [some (.ref x), some (.ref a), some (.ref t), some (.int (nI l)), some (.int (nI fm)), some (.int (nI sec)), some (.int (nI S.2.1)), some (.int (nI 1)), some (.ref it12), some (.int (nI (nab l (k + 1)))), some (.int (nI 0))] [.ref a126, .ref (kI g (nab l (k + 1))), .ref nd] [[(x, .inr (0, [.ref b, .ref lp, .ref lk, .ref lr, .ref lt, .ref ls, .ref lm, .ref so, .int (nI bxs)]))], l19_1, [(a, .inr (2, [.int (nI (pNo r)), .ref ev, .ref pl, .int (oI (pEp r)), .int (nI (pLf r)), .ref nd, .int (nI (pOn r)), .int (nI (pKy r)), .ref ch, .int (oI (pRn r)), .ref x]))], v0, v1, l19_5, v3, [(it12, .inr (22, [.int (nI (k + 1)), .int (nI k), .int md_2, .ref p9]))], u1_9, w3, u0_126] ((40 * (4 - k) + 13 * (TA - PhS S.1)) - 1) ((300 * (4 - k) + 55 * (TA - PhS S.1)) - 1) from ?_)
              refine g_callV (q := 132) (is := [5, 9]) (kc2 := (40 * (4 - k) + 13 * (TA - PhS S.1)) - 2) (ks2 := (300 * (4 - k) + 55 * (TA - PhS S.1)) - 7) B [.ref (kI g (nab l (k + 1))), .ref a126] (ct_NmP_put g J (t := nd) (F := S.2.2.2) (n := nn1) (k := nab l (k + 1)) (a := a126) (r := S.2.1) hl19_5 hu0_126 (by omega)) dX1_climbs_129 rfl (rc_in B (ci := 27) rfl (k := 5) rfl (MoP.hm hl19_5)) rfl q2084 q2085 q2086 q91 q2087 rfl rfl moJ10_put rfl rfl (by decide) (by decide) (Nat.le_of_ble_eq_true rfl) (by omega) (by omega) (fun _ _ hx => noX_x hx) (fun v129 L1 hp129 => ?_)
              obtain ⟨o129, u0_129, rfl, rfl, hu0_129⟩ := hp129
              refine (show Go g κ 132 [some (.ref x), some (.ref a), some (.ref t), some (.int (nI l)), some (.int (nI fm)), some (.int (nI sec)), some (.int (nI S.2.1)), some (.int (nI 1)), some (.ref it12), some (.int (nI (nab l (k + 1)))), some (.int (nI 0))] [va_rf o129] [[(x, .inr (0, [.ref b, .ref lp, .ref lk, .ref lr, .ref lt, .ref ls, .ref lm, .ref so, .int (nI bxs)]))], l19_1, [(a, .inr (2, [.int (nI (pNo r)), .ref ev, .ref pl, .int (oI (pEp r)), .int (nI (pLf r)), .ref nd, .int (nI (pOn r)), .int (nI (pKy r)), .ref ch, .int (oI (pRn r)), .ref x]))], v0, v1, v3, [(it12, .inr (22, [.int (nI (k + 1)), .int (nI k), .int md_2, .ref p9]))], u1_9, w3, u0_129] ((40 * (4 - k) + 13 * (TA - PhS S.1)) - 2) ((300 * (4 - k) + 55 * (TA - PhS S.1)) - 7) from ?_)
              refine g_pop (q := 133) B dX1_climbs_132 rfl (rv_c (rv_o _)) ?_
              refine g_goto (tgt := 19) B dX1_climbs_133 (by decide) ?_
              rw [if_pos ⟨rfl, c112⟩] at hC
              have hr_9 : BookP g b ((clm1 T l fm S k).1) bx z l19_1 := by rw [hC]; exact hl19_1
              have hr_10 : MoP g (BxE g) nd ((clm1 T l fm S k).2.2.2) (nn1 + (if S.2.2.2 (nab l (k + 1)) = none then 1 else 0)) u0_129 := by rw [hC]; exact hu0_129
              refine g_lvs (lv2 := [some (.ref x), some (.ref a), some (.ref t), some (.int (nI l)), some (.int (nI fm)), some (.int (nI sec)), some (.int (nI ((clm1 T l fm S k).2.1))), some (.int (nI (if (clm1 T l fm S k).2.2.1 = true then 1 else 0))), some (.ref it12), some (.int (nI (nab l (k + 1)))), some (.int (nI 0))]) (st2 := []) (by rw [hC]; rfl) rfl ?_
              have hy1 : PhS (clm1 T l fm S k).1 ≤ PhS (clmK T l fm ((ss, sec, false, pNd r) : CmS) T.1).1 := hSn.1
              have hy2 : PhS S.1 ≤ PhS (clm1 T l fm S k).1 := hAm.1
              refine (show Go g κ 19 [some (.ref x), some (.ref a), some (.ref t), some (.int (nI l)), some (.int (nI fm)), some (.int (nI sec)), some (.int (nI ((clm1 T l fm S k).2.1))), some (.int (nI (if (clm1 T l fm S k).2.2.1 = true then 1 else 0))), some (.ref it12), some (.int (nI (nab l (k + 1)))), some (.int (nI 0))] [] [[(x, .inr (0, [.ref b, .ref lp, .ref lk, .ref lr, .ref lt, .ref ls, .ref lm, .ref so, .int (nI bxs)]))], l19_1, [(a, .inr (2, [.int (nI (pNo r)), .ref ev, .ref pl, .int (oI (pEp r)), .int (nI (pLf r)), .ref nd, .int (nI (pOn r)), .int (nI (pKy r)), .ref ch, .int (oI (pRn r)), .ref x]))], v0, v1, v3, [(it12, .inr (22, [.int (nI (k + 1)), .int (nI k), .int md_2, .ref p9]))], u1_9, w3, u0_129] ((40 * (4 - k) + 13 * (TA - PhS S.1)) - 2) ((300 * (4 - k) + 55 * (TA - PhS S.1)) - 7) from ?_)
              refine g_fg 9 rfl ?_
              refine g_fg 10 rfl ?_
              refine g_pk [0, 0, 0, 0, 0, 4, 0, 2, 0, 0] rfl rfl ?_
              refine (show Go g κ 19 [some (.ref x), some (.ref a), some (.ref t), some (.int (nI l)), some (.int (nI fm)), some (.int (nI sec)), some (.int (nI ((clm1 T l fm S k).2.1))), some (.int (nI (if (clm1 T l fm S k).2.2.1 = true then 1 else 0))), some (.ref it12), none, none] [] [[(x, .inr (0, [.ref b, .ref lp, .ref lk, .ref lr, .ref lt, .ref ls, .ref lm, .ref so, .int (nI bxs)]))], l19_1, [(a, .inr (2, [.int (nI (pNo r)), .ref ev, .ref pl, .int (oI (pEp r)), .int (nI (pLf r)), .ref nd, .int (nI (pOn r)), .int (nI (pKy r)), .ref ch, .int (oI (pRn r)), .ref x]))], v0, v1, u0_129, v3, w3, [(it12, .inr (22, [.int (nI (k + 1)), .int (nI k), .int md_2, .ref p9]))], u1_9] ((40 * (4 - k) + 13 * (TA - PhS S.1)) - 2) ((300 * (4 - k) + 55 * (TA - PhS S.1)) - 7) from ?_)
              refine g_room (kc2 := 40 * (4 - (k + 1)) + 13 * (TA - PhS (clm1 T l fm S k).1)) (ks2 := 300 * (4 - (k + 1)) + 55 * (TA - PhS (clm1 T l fm S k).1)) (by omega) (by omega) ?_
              exact ih19 _ (by omega) (k + 1) (nI k) (clm1 T l fm S k) (nn1 + (if S.2.2.2 (nab l (k + 1)) = none then 1 else 0)) l19_1 u0_129 hr_9 hr_10 (by first | assumption | omega | rfl) (by rw [hS]; rfl) (by rw [hC]; first | exact hNb | exact fup_bd hNb (by first | exact hi1 | exact hi0)) rfl
          · skip
            refine g_iload (q := 91) B dX1_climbs_89 rfl rfl ?_
            refine g_if_eq (tgt := 98) (q := 94) B dX1_climbs_91 rfl (by decide) (iff_true_intro (by decide)) (fun _ => ?_) (fun z => absurd trivial z)
            refine g_iconst (v := nI 0) (q := 99) B dX1_climbs_98 rfl (by decide) ?_
            refine g_istore (q := 101) (lv2 := [some (.ref x), some (.ref a), some (.ref t), some (.int (nI l)), some (.int (nI fm)), some (.int (nI sec)), some (.int (nI S.2.1)), some (.int (nI 0)), some (.ref it12), some (.int (nI (nab l (k + 1)))), some (.int (nI 0))]) B dX1_climbs_99 rfl (Nat.le_of_ble_eq_true rfl) rfl ?_
            refine g_iload (q := 103) B dX1_climbs_101 rfl rfl ?_
            have hb : (S.2.2.1 || (nab l (k + 1)) == fm) = false := by rw [show S.2.2.1 = false by simpa using c86, show ((nab l (k + 1)) == fm) = false by simpa using c48]; rfl
            have hC := clm1_e (l := l) hA hb
            refine g_if_eq (tgt := 133) (q := 106) B dX1_climbs_103 rfl (by decide) (iff_true_intro (by decide)) (fun _ => ?_) (fun z => absurd trivial z)
            refine g_goto (tgt := 19) B dX1_climbs_133 (by decide) ?_
            rw [if_neg (fun z => by cases z.1)] at hC
            have hr_11 : BookP g b ((clm1 T l fm S k).1) bx z l19_1 := by rw [hC]; exact hl19_1
            have hr_12 : MoP g (BxE g) nd ((clm1 T l fm S k).2.2.2) nn1 l19_5 := by rw [hC]; exact hl19_5
            refine g_lvs (lv2 := [some (.ref x), some (.ref a), some (.ref t), some (.int (nI l)), some (.int (nI fm)), some (.int (nI sec)), some (.int (nI ((clm1 T l fm S k).2.1))), some (.int (nI (if (clm1 T l fm S k).2.2.1 = true then 1 else 0))), some (.ref it12), some (.int (nI (nab l (k + 1)))), some (.int (nI 0))]) (st2 := []) (by rw [hC]; rfl) rfl ?_
            have hy1 : PhS (clm1 T l fm S k).1 ≤ PhS (clmK T l fm ((ss, sec, false, pNd r) : CmS) T.1).1 := hSn.1
            have hy2 : PhS S.1 ≤ PhS (clm1 T l fm S k).1 := hAm.1
            refine (show Go g κ 19 [some (.ref x), some (.ref a), some (.ref t), some (.int (nI l)), some (.int (nI fm)), some (.int (nI sec)), some (.int (nI ((clm1 T l fm S k).2.1))), some (.int (nI (if (clm1 T l fm S k).2.2.1 = true then 1 else 0))), some (.ref it12), some (.int (nI (nab l (k + 1)))), some (.int (nI 0))] [] [[(x, .inr (0, [.ref b, .ref lp, .ref lk, .ref lr, .ref lt, .ref ls, .ref lm, .ref so, .int (nI bxs)]))], l19_1, [(a, .inr (2, [.int (nI (pNo r)), .ref ev, .ref pl, .int (oI (pEp r)), .int (nI (pLf r)), .ref nd, .int (nI (pOn r)), .int (nI (pKy r)), .ref ch, .int (oI (pRn r)), .ref x]))], v0, v1, l19_5, v3, w3, [(it12, .inr (22, [.int (nI (k + 1)), .int (nI k), .int md_2, .ref p9]))], u1_9] (40 * (4 - k) + 13 * (TA - PhS S.1)) (300 * (4 - k) + 55 * (TA - PhS S.1)) from ?_)
            refine g_fg 9 rfl ?_
            refine g_fg 10 rfl ?_
            refine g_room (kc2 := 40 * (4 - (k + 1)) + 13 * (TA - PhS (clm1 T l fm S k).1)) (ks2 := 300 * (4 - (k + 1)) + 55 * (TA - PhS (clm1 T l fm S k).1)) (by omega) (by omega) ?_
            exact ih19 _ (by omega) (k + 1) (nI k) (clm1 T l fm S k) nn1 l19_1 l19_5 hr_11 hr_12 (by first | assumption | omega | rfl) (by rw [hS]; rfl) (by rw [hC]; first | exact hNb | exact fup_bd hNb (by first | exact hi1 | exact hi0)) rfl
        · skip
          have c60 := Classical.not_not.mp c60
          refine g_aload_n (q := 64) B dX1_climbs_63 rfl rfl (rv_r _) ?_
          refine g_iload (q := 66) B dX1_climbs_64 rfl rfl ?_
          refine g_callV (q := 69) (is := [7]) (kc2 := 40 * (4 - k) + 13 * (TA - PhS S.1)) (ks2 := 300 * (4 - k) + 55 * (TA - PhS S.1)) B [.int (nI (nab l (k + 1)))] (ct_X10_isBlank g J (t := t) (T := T) (n := (nab l (k + 1))) hw3 (by first | assumption | omega | rfl)) dX1_climbs_66 rfl (rc_in B (ci := 5) rfl (k := 7) rfl (TreeP.hm hw3)) rfl q1144 q1145 q1146 q123 q1147 rfl rfl moX10_isBlank rfl rfl (by decide) (by decide) (Nat.le_of_ble_eq_true rfl) (by omega) (by omega) (fun _ _ hx => noX_x hx) (fun v66 L1 hp66 => ?_)
          obtain ⟨rfl, rfl⟩ := hp66
          refine (show Go g κ 69 [some (.ref x), some (.ref a), some (.ref t), some (.int (nI l)), some (.int (nI fm)), some (.int (nI sec)), some (.int (nI S.2.1)), some (.int (nI (if S.2.2.1 = true then 1 else 0))), some (.ref it12), some (.int (nI (nab l (k + 1)))), some (.int (nI 0))] [.int (nI (if T.2.1 (nab l (k + 1)) = none then 1 else 0))] [[(x, .inr (0, [.ref b, .ref lp, .ref lk, .ref lr, .ref lt, .ref ls, .ref lm, .ref so, .int (nI bxs)]))], l19_1, [(a, .inr (2, [.int (nI (pNo r)), .ref ev, .ref pl, .int (oI (pEp r)), .int (nI (pLf r)), .ref nd, .int (nI (pOn r)), .int (nI (pKy r)), .ref ch, .int (oI (pRn r)), .ref x]))], v0, v1, l19_5, v3, [(it12, .inr (22, [.int (nI (k + 1)), .int (nI k), .int md_2, .ref p9]))], u1_9, w3] (40 * (4 - k) + 13 * (TA - PhS S.1)) (300 * (4 - k) + 55 * (TA - PhS S.1)) from ?_)
          refine g_if_ne (tgt := 84) (q := 72) B dX1_climbs_69 rfl (by decide) (bo_ne) (fun c69 => ?_) (fun c69 => ?_)
          · skip
            have hA := clmA_n (T := T) (n := (nab l (k + 1))) (S := S) (by rintro ⟨z1, z2⟩; first | exact c60 z1 | exact z2 c69)
            have hi0 : S.2.1 < 1000 := by omega
            refine g_iload (q := 86) B dX1_climbs_84 rfl rfl ?_
            refine g_if_ne (tgt := 94) (q := 89) B dX1_climbs_86 rfl (by decide) (bo_ne) (fun c86 => ?_) (fun c86 => ?_)
            · skip
              refine g_iconst (v := nI 1) (q := 95) B dX1_climbs_94 rfl (by decide) ?_
              refine g_goto (tgt := 99) B dX1_climbs_95 (by decide) ?_
              refine g_istore (q := 101) (lv2 := [some (.ref x), some (.ref a), some (.ref t), some (.int (nI l)), some (.int (nI fm)), some (.int (nI sec)), some (.int (nI S.2.1)), some (.int (nI 1)), some (.ref it12), some (.int (nI (nab l (k + 1)))), some (.int (nI 0))]) B dX1_climbs_99 rfl (Nat.le_of_ble_eq_true rfl) rfl ?_
              refine g_iload (q := 103) B dX1_climbs_101 rfl rfl ?_
              have hb : (S.2.2.1 || (nab l (k + 1)) == fm) = true := by first | (rw [show S.2.2.1 = true from c86]; rfl) | (rw [Classical.not_not.mp c48]; simp) | (rw [beq_iff_eq.mpr (Classical.not_not.mp c48), Bool.or_true])
              have hC := clm1_e (l := l) hA hb
              refine g_if_eq (tgt := 133) (q := 106) B dX1_climbs_103 rfl (by decide) (iff_false_intro (by decide)) (fun z => z.elim) (fun _ => ?_)
              refine g_aload_n (q := 107) B dX1_climbs_106 rfl rfl (rv_r _) ?_
              refine g_iload (q := 109) B dX1_climbs_107 rfl rfl ?_
              refine g_callV (q := 112) (is := [9]) (kc2 := 40 * (4 - k) + 13 * (TA - PhS S.1)) (ks2 := 300 * (4 - k) + 55 * (TA - PhS S.1)) B [.int (nI (nab l (k + 1)))] (ct_X10_isBlank g J (t := t) (T := T) (n := (nab l (k + 1))) hw3 (by first | assumption | omega | rfl)) dX1_climbs_109 rfl (rc_in B (ci := 5) rfl (k := 9) rfl (TreeP.hm hw3)) rfl q1144 q1145 q1146 q123 q1147 rfl rfl moX10_isBlank rfl rfl (by decide) (by decide) (Nat.le_of_ble_eq_true rfl) (by omega) (by omega) (fun _ _ hx => noX_x hx) (fun v109 L1 hp109 => ?_)
              obtain ⟨rfl, rfl⟩ := hp109
              refine (show Go g κ 112 [some (.ref x), some (.ref a), some (.ref t), some (.int (nI l)), some (.int (nI fm)), some (.int (nI sec)), some (.int (nI S.2.1)), some (.int (nI 1)), some (.ref it12), some (.int (nI (nab l (k + 1)))), some (.int (nI 0))] [.int (nI (if T.2.1 (nab l (k + 1)) = none then 1 else 0))] [[(x, .inr (0, [.ref b, .ref lp, .ref lk, .ref lr, .ref lt, .ref ls, .ref lm, .ref so, .int (nI bxs)]))], l19_1, [(a, .inr (2, [.int (nI (pNo r)), .ref ev, .ref pl, .int (oI (pEp r)), .int (nI (pLf r)), .ref nd, .int (nI (pOn r)), .int (nI (pKy r)), .ref ch, .int (oI (pRn r)), .ref x]))], v0, v1, l19_5, v3, [(it12, .inr (22, [.int (nI (k + 1)), .int (nI k), .int md_2, .ref p9]))], u1_9, w3] (40 * (4 - k) + 13 * (TA - PhS S.1)) (300 * (4 - k) + 55 * (TA - PhS S.1)) from ?_)
              refine g_if_ne (tgt := 133) (q := 115) B dX1_climbs_112 rfl (by decide) (bo_ne) (fun c112 => ?_) (fun c112 => ?_)
              · skip
                refine g_goto (tgt := 19) B dX1_climbs_133 (by decide) ?_
                rw [if_neg (fun z => z.2 c112)] at hC
                have hr_13 : BookP g b ((clm1 T l fm S k).1) bx z l19_1 := by rw [hC]; exact hl19_1
                have hr_14 : MoP g (BxE g) nd ((clm1 T l fm S k).2.2.2) nn1 l19_5 := by rw [hC]; exact hl19_5
                refine g_lvs (lv2 := [some (.ref x), some (.ref a), some (.ref t), some (.int (nI l)), some (.int (nI fm)), some (.int (nI sec)), some (.int (nI ((clm1 T l fm S k).2.1))), some (.int (nI (if (clm1 T l fm S k).2.2.1 = true then 1 else 0))), some (.ref it12), some (.int (nI (nab l (k + 1)))), some (.int (nI 0))]) (st2 := []) (by rw [hC]; rfl) rfl ?_
                have hy1 : PhS (clm1 T l fm S k).1 ≤ PhS (clmK T l fm ((ss, sec, false, pNd r) : CmS) T.1).1 := hSn.1
                have hy2 : PhS S.1 ≤ PhS (clm1 T l fm S k).1 := hAm.1
                refine (show Go g κ 19 [some (.ref x), some (.ref a), some (.ref t), some (.int (nI l)), some (.int (nI fm)), some (.int (nI sec)), some (.int (nI ((clm1 T l fm S k).2.1))), some (.int (nI (if (clm1 T l fm S k).2.2.1 = true then 1 else 0))), some (.ref it12), some (.int (nI (nab l (k + 1)))), some (.int (nI 0))] [] [[(x, .inr (0, [.ref b, .ref lp, .ref lk, .ref lr, .ref lt, .ref ls, .ref lm, .ref so, .int (nI bxs)]))], l19_1, [(a, .inr (2, [.int (nI (pNo r)), .ref ev, .ref pl, .int (oI (pEp r)), .int (nI (pLf r)), .ref nd, .int (nI (pOn r)), .int (nI (pKy r)), .ref ch, .int (oI (pRn r)), .ref x]))], v0, v1, l19_5, v3, [(it12, .inr (22, [.int (nI (k + 1)), .int (nI k), .int md_2, .ref p9]))], u1_9, w3] (40 * (4 - k) + 13 * (TA - PhS S.1)) (300 * (4 - k) + 55 * (TA - PhS S.1)) from ?_)
                refine g_fg 9 rfl ?_
                refine g_fg 10 rfl ?_
                refine g_pk [0, 0, 0, 0, 0, 0, 0, 2, 0, 0] rfl rfl ?_
                refine (show Go g κ 19 [some (.ref x), some (.ref a), some (.ref t), some (.int (nI l)), some (.int (nI fm)), some (.int (nI sec)), some (.int (nI ((clm1 T l fm S k).2.1))), some (.int (nI (if (clm1 T l fm S k).2.2.1 = true then 1 else 0))), some (.ref it12), none, none] [] [[(x, .inr (0, [.ref b, .ref lp, .ref lk, .ref lr, .ref lt, .ref ls, .ref lm, .ref so, .int (nI bxs)]))], l19_1, [(a, .inr (2, [.int (nI (pNo r)), .ref ev, .ref pl, .int (oI (pEp r)), .int (nI (pLf r)), .ref nd, .int (nI (pOn r)), .int (nI (pKy r)), .ref ch, .int (oI (pRn r)), .ref x]))], v0, v1, l19_5, v3, w3, [(it12, .inr (22, [.int (nI (k + 1)), .int (nI k), .int md_2, .ref p9]))], u1_9] (40 * (4 - k) + 13 * (TA - PhS S.1)) (300 * (4 - k) + 55 * (TA - PhS S.1)) from ?_)
                refine g_room (kc2 := 40 * (4 - (k + 1)) + 13 * (TA - PhS (clm1 T l fm S k).1)) (ks2 := 300 * (4 - (k + 1)) + 55 * (TA - PhS (clm1 T l fm S k).1)) (by omega) (by omega) ?_
                exact ih19 _ (by omega) (k + 1) (nI k) (clm1 T l fm S k) nn1 l19_1 l19_5 hr_13 hr_14 (by first | assumption | omega | rfl) (by rw [hS]; rfl) (by rw [hC]; first | exact hNb | exact fup_bd hNb (by first | exact hi1 | exact hi0)) rfl
              · skip
                exact absurd c69 c112
            · skip
              refine g_iload (q := 91) B dX1_climbs_89 rfl rfl ?_
              refine g_if_eq (tgt := 98) (q := 94) B dX1_climbs_91 rfl (by decide) (iff_true_intro (by decide)) (fun _ => ?_) (fun z => absurd trivial z)
              refine g_iconst (v := nI 0) (q := 99) B dX1_climbs_98 rfl (by decide) ?_
              refine g_istore (q := 101) (lv2 := [some (.ref x), some (.ref a), some (.ref t), some (.int (nI l)), some (.int (nI fm)), some (.int (nI sec)), some (.int (nI S.2.1)), some (.int (nI 0)), some (.ref it12), some (.int (nI (nab l (k + 1)))), some (.int (nI 0))]) B dX1_climbs_99 rfl (Nat.le_of_ble_eq_true rfl) rfl ?_
              refine g_iload (q := 103) B dX1_climbs_101 rfl rfl ?_
              have hb : (S.2.2.1 || (nab l (k + 1)) == fm) = false := by rw [show S.2.2.1 = false by simpa using c86, show ((nab l (k + 1)) == fm) = false by simpa using c48]; rfl
              have hC := clm1_e (l := l) hA hb
              refine g_if_eq (tgt := 133) (q := 106) B dX1_climbs_103 rfl (by decide) (iff_true_intro (by decide)) (fun _ => ?_) (fun z => absurd trivial z)
              refine g_goto (tgt := 19) B dX1_climbs_133 (by decide) ?_
              rw [if_neg (fun z => by cases z.1)] at hC
              have hr_15 : BookP g b ((clm1 T l fm S k).1) bx z l19_1 := by rw [hC]; exact hl19_1
              have hr_16 : MoP g (BxE g) nd ((clm1 T l fm S k).2.2.2) nn1 l19_5 := by rw [hC]; exact hl19_5
              refine g_lvs (lv2 := [some (.ref x), some (.ref a), some (.ref t), some (.int (nI l)), some (.int (nI fm)), some (.int (nI sec)), some (.int (nI ((clm1 T l fm S k).2.1))), some (.int (nI (if (clm1 T l fm S k).2.2.1 = true then 1 else 0))), some (.ref it12), some (.int (nI (nab l (k + 1)))), some (.int (nI 0))]) (st2 := []) (by rw [hC]; rfl) rfl ?_
              have hy1 : PhS (clm1 T l fm S k).1 ≤ PhS (clmK T l fm ((ss, sec, false, pNd r) : CmS) T.1).1 := hSn.1
              have hy2 : PhS S.1 ≤ PhS (clm1 T l fm S k).1 := hAm.1
              refine (show Go g κ 19 [some (.ref x), some (.ref a), some (.ref t), some (.int (nI l)), some (.int (nI fm)), some (.int (nI sec)), some (.int (nI ((clm1 T l fm S k).2.1))), some (.int (nI (if (clm1 T l fm S k).2.2.1 = true then 1 else 0))), some (.ref it12), some (.int (nI (nab l (k + 1)))), some (.int (nI 0))] [] [[(x, .inr (0, [.ref b, .ref lp, .ref lk, .ref lr, .ref lt, .ref ls, .ref lm, .ref so, .int (nI bxs)]))], l19_1, [(a, .inr (2, [.int (nI (pNo r)), .ref ev, .ref pl, .int (oI (pEp r)), .int (nI (pLf r)), .ref nd, .int (nI (pOn r)), .int (nI (pKy r)), .ref ch, .int (oI (pRn r)), .ref x]))], v0, v1, l19_5, v3, [(it12, .inr (22, [.int (nI (k + 1)), .int (nI k), .int md_2, .ref p9]))], u1_9, w3] (40 * (4 - k) + 13 * (TA - PhS S.1)) (300 * (4 - k) + 55 * (TA - PhS S.1)) from ?_)
              refine g_fg 9 rfl ?_
              refine g_fg 10 rfl ?_
              refine g_pk [0, 0, 0, 0, 0, 0, 0, 2, 0, 0] rfl rfl ?_
              refine (show Go g κ 19 [some (.ref x), some (.ref a), some (.ref t), some (.int (nI l)), some (.int (nI fm)), some (.int (nI sec)), some (.int (nI ((clm1 T l fm S k).2.1))), some (.int (nI (if (clm1 T l fm S k).2.2.1 = true then 1 else 0))), some (.ref it12), none, none] [] [[(x, .inr (0, [.ref b, .ref lp, .ref lk, .ref lr, .ref lt, .ref ls, .ref lm, .ref so, .int (nI bxs)]))], l19_1, [(a, .inr (2, [.int (nI (pNo r)), .ref ev, .ref pl, .int (oI (pEp r)), .int (nI (pLf r)), .ref nd, .int (nI (pOn r)), .int (nI (pKy r)), .ref ch, .int (oI (pRn r)), .ref x]))], v0, v1, l19_5, v3, w3, [(it12, .inr (22, [.int (nI (k + 1)), .int (nI k), .int md_2, .ref p9]))], u1_9] (40 * (4 - k) + 13 * (TA - PhS S.1)) (300 * (4 - k) + 55 * (TA - PhS S.1)) from ?_)
              refine g_room (kc2 := 40 * (4 - (k + 1)) + 13 * (TA - PhS (clm1 T l fm S k).1)) (ks2 := 300 * (4 - (k + 1)) + 55 * (TA - PhS (clm1 T l fm S k).1)) (by omega) (by omega) ?_
              exact ih19 _ (by omega) (k + 1) (nI k) (clm1 T l fm S k) nn1 l19_1 l19_5 hr_15 hr_16 (by first | assumption | omega | rfl) (by rw [hS]; rfl) (by rw [hC]; first | exact hNb | exact fup_bd hNb (by first | exact hi1 | exact hi0)) rfl
          · skip
            obtain ⟨⟨q1, i1⟩, hq1⟩ : ∃ p, frm S.1 (S.2.1, none, 2) = p := ⟨_, rfl⟩
            have hA := clmA_y (n := (nab l (k + 1))) c60 c69 hq1
            rw [hA] at hAm hn1 hn2
            have hn1 : PhS q1 ≤ _ := hn1
            have hg9 := Ph_fr hq1
            have hi1 : i1 < 1000 := by have := hg9.2.2.2; have hn2 : q1.length ≤ _ := hn2; omega
            refine g_aload_n (q := 73) B dX1_climbs_72 rfl rfl (rv_r _) ?_
            refine g_get (q := 76) B (ci := 0) (k := 0) (j := 0) in_X1 rfl dX1_climbs_73 rfl rfl (Nat.le_of_ble_eq_true rfl) q277 rfl rfl ?_
            refine g_iload (q := 78) B dX1_climbs_76 rfl rfl ?_
            refine g_iconst (v := nI 2) (q := 79) B dX1_climbs_78 rfl (by decide) ?_
            refine g_callV (q := 82) (is := [1]) (kc2 := 20 + 40 * (3 - k) + 13 * (TA - PhS q1)) (ks2 := 100 + 300 * (3 - k) + 55 * (TA - PhS q1)) B [.int (nI S.2.1), .int (nI 2)] (ct_X2_from_p g J (b := b) (ss := S.1) (bx := bx) (z := z) (one := S.2.1) (l := 2) (s2 := q1) (i := i1) hl19_1 (hsk) (by omega) (Or.inl (by decide)) (hq1)) dX1_climbs_79 rfl (rc_in B (ci := 1) rfl (k := 1) rfl (BookP.hm hl19_1)) rfl q1229 q1230 q1231 q78 q1232 rfl rfl moX2_from rfl rfl (by decide) (by decide) (Nat.le_of_ble_eq_true rfl) (by omega) (by omega) (fun _ _ hx => noX_x hx) (fun v79 L1 hp79 => ?_)
            obtain ⟨u0_79, rfl, rfl, hu0_79, hph_79⟩ := hp79
            refine (show Go g κ 82 [some (.ref x), some (.ref a), some (.ref t), some (.int (nI l)), some (.int (nI fm)), some (.int (nI sec)), some (.int (nI S.2.1)), some (.int (nI (if S.2.2.1 = true then 1 else 0))), some (.ref it12), some (.int (nI (nab l (k + 1)))), some (.int (nI 0))] [.int (nI i1)] [[(x, .inr (0, [.ref b, .ref lp, .ref lk, .ref lr, .ref lt, .ref ls, .ref lm, .ref so, .int (nI bxs)]))], [(a, .inr (2, [.int (nI (pNo r)), .ref ev, .ref pl, .int (oI (pEp r)), .int (nI (pLf r)), .ref nd, .int (nI (pOn r)), .int (nI (pKy r)), .ref ch, .int (oI (pRn r)), .ref x]))], v0, v1, l19_5, v3, [(it12, .inr (22, [.int (nI (k + 1)), .int (nI k), .int md_2, .ref p9]))], u1_9, w3, u0_79] (20 + 40 * (3 - k) + 13 * (TA - PhS q1)) (100 + 300 * (3 - k) + 55 * (TA - PhS q1)) from ?_)
            refine g_istore (q := 84) (lv2 := [some (.ref x), some (.ref a), some (.ref t), some (.int (nI l)), some (.int (nI fm)), some (.int (nI sec)), some (.int (nI i1)), some (.int (nI (if S.2.2.1 = true then 1 else 0))), some (.ref it12), some (.int (nI (nab l (k + 1)))), some (.int (nI 0))]) B dX1_climbs_82 rfl (Nat.le_of_ble_eq_true rfl) rfl ?_
            refine g_iload (q := 86) B dX1_climbs_84 rfl rfl ?_
            refine g_if_ne (tgt := 94) (q := 89) B dX1_climbs_86 rfl (by decide) (bo_ne) (fun c86 => ?_) (fun c86 => ?_)
            · skip
              refine g_iconst (v := nI 1) (q := 95) B dX1_climbs_94 rfl (by decide) ?_
              refine g_goto (tgt := 99) B dX1_climbs_95 (by decide) ?_
              refine g_istore (q := 101) (lv2 := [some (.ref x), some (.ref a), some (.ref t), some (.int (nI l)), some (.int (nI fm)), some (.int (nI sec)), some (.int (nI i1)), some (.int (nI 1)), some (.ref it12), some (.int (nI (nab l (k + 1)))), some (.int (nI 0))]) B dX1_climbs_99 rfl (Nat.le_of_ble_eq_true rfl) rfl ?_
              refine g_iload (q := 103) B dX1_climbs_101 rfl rfl ?_
              have hb : (S.2.2.1 || (nab l (k + 1)) == fm) = true := by first | (rw [show S.2.2.1 = true from c86]; rfl) | (rw [Classical.not_not.mp c48]; simp) | (rw [beq_iff_eq.mpr (Classical.not_not.mp c48), Bool.or_true])
              have hC := clm1_e (l := l) hA hb
              refine g_if_eq (tgt := 133) (q := 106) B dX1_climbs_103 rfl (by decide) (iff_false_intro (by decide)) (fun z => z.elim) (fun _ => ?_)
              refine g_aload_n (q := 107) B dX1_climbs_106 rfl rfl (rv_r _) ?_
              refine g_iload (q := 109) B dX1_climbs_107 rfl rfl ?_
              refine g_callV (q := 112) (is := [8]) (kc2 := 20 + 40 * (3 - k) + 13 * (TA - PhS q1)) (ks2 := 100 + 300 * (3 - k) + 55 * (TA - PhS q1)) B [.int (nI (nab l (k + 1)))] (ct_X10_isBlank g J (t := t) (T := T) (n := (nab l (k + 1))) hw3 (by first | assumption | omega | rfl)) dX1_climbs_109 rfl (rc_in B (ci := 5) rfl (k := 8) rfl (TreeP.hm hw3)) rfl q1144 q1145 q1146 q123 q1147 rfl rfl moX10_isBlank rfl rfl (by decide) (by decide) (Nat.le_of_ble_eq_true rfl) (by omega) (by omega) (fun _ _ hx => noX_x hx) (fun v109 L1 hp109 => ?_)
              obtain ⟨rfl, rfl⟩ := hp109
              refine (show Go g κ 112 [some (.ref x), some (.ref a), some (.ref t), some (.int (nI l)), some (.int (nI fm)), some (.int (nI sec)), some (.int (nI i1)), some (.int (nI 1)), some (.ref it12), some (.int (nI (nab l (k + 1)))), some (.int (nI 0))] [.int (nI (if T.2.1 (nab l (k + 1)) = none then 1 else 0))] [[(x, .inr (0, [.ref b, .ref lp, .ref lk, .ref lr, .ref lt, .ref ls, .ref lm, .ref so, .int (nI bxs)]))], [(a, .inr (2, [.int (nI (pNo r)), .ref ev, .ref pl, .int (oI (pEp r)), .int (nI (pLf r)), .ref nd, .int (nI (pOn r)), .int (nI (pKy r)), .ref ch, .int (oI (pRn r)), .ref x]))], v0, v1, l19_5, v3, [(it12, .inr (22, [.int (nI (k + 1)), .int (nI k), .int md_2, .ref p9]))], u1_9, u0_79, w3] (20 + 40 * (3 - k) + 13 * (TA - PhS q1)) (100 + 300 * (3 - k) + 55 * (TA - PhS q1)) from ?_)
              refine g_if_ne (tgt := 133) (q := 115) B dX1_climbs_112 rfl (by decide) (bo_ne) (fun c112 => ?_) (fun c112 => ?_)
              · skip
                exact absurd c112 c69
              · skip
                refine g_aload_n (q := 116) B dX1_climbs_115 rfl rfl (rv_r _) ?_
                refine g_getN (q := 119) B (ci := 2) (k := 1) (j := 5) in_X4 rfl dX1_climbs_116 rfl rfl (Nat.le_of_ble_eq_true rfl) q1905 rfl rfl ?_
                refine g_iload (q := 121) B dX1_climbs_119 rfl rfl ?_
                refine g_callS (q := 124) (is := []) (kc2 := 20 + 40 * (3 - k) + 13 * (TA - PhS q1)) (ks2 := 100 + 300 * (3 - k) + 55 * (TA - PhS q1)) B [.int (nI (nab l (k + 1)))] (ct_J26_valueOf_k g J (k := (nab l (k + 1)))  (by omega)) dX1_climbs_121 rfl q685 q686 q111 q687 rfl rfl moJ26_valueOf rfl rfl (by decide) (by decide) (Nat.le_of_ble_eq_true rfl) (by omega) (by omega) (fun _ _ hx => noX_x hx) (fun v121 L1 hp121 => ?_)
                obtain ⟨rfl, rfl⟩ := hp121
                refine (show Go g κ 124 [some (.ref x), some (.ref a), some (.ref t), some (.int (nI l)), some (.int (nI fm)), some (.int (nI sec)), some (.int (nI i1)), some (.int (nI 1)), some (.ref it12), some (.int (nI (nab l (k + 1)))), some (.int (nI 0))] [.ref (kI g (nab l (k + 1))), .ref nd] [[(x, .inr (0, [.ref b, .ref lp, .ref lk, .ref lr, .ref lt, .ref ls, .ref lm, .ref so, .int (nI bxs)]))], [(a, .inr (2, [.int (nI (pNo r)), .ref ev, .ref pl, .int (oI (pEp r)), .int (nI (pLf r)), .ref nd, .int (nI (pOn r)), .int (nI (pKy r)), .ref ch, .int (oI (pRn r)), .ref x]))], v0, v1, l19_5, v3, [(it12, .inr (22, [.int (nI (k + 1)), .int (nI k), .int md_2, .ref p9]))], u1_9, u0_79, w3] (20 + 40 * (3 - k) + 13 * (TA - PhS q1)) (100 + 300 * (3 - k) + 55 * (TA - PhS q1)) from ?_)
                refine g_iload (q := 126) B dX1_climbs_124 rfl rfl ?_
                refine g_callS (q := 129) (is := []) (kc2 := (20 + 40 * (3 - k) + 13 * (TA - PhS q1)) - 1) (ks2 := (100 + 300 * (3 - k) + 55 * (TA - PhS q1)) - 1) B [.int (nI i1)] (ct_J26_valueOf g J (v := nI i1)  ) dX1_climbs_126 rfl q685 q686 q111 q687 rfl rfl moJ26_valueOf rfl rfl (by decide) (by decide) (Nat.le_of_ble_eq_true rfl) (by omega) (by omega) (fun _ _ hx => noX_x hx) (fun v126 L1 hp126 => ?_)
                obtain ⟨a126, u0_126, rfl, rfl, hu0_126⟩ := hp126
                refine (show Go g κ 129 [some (.ref x), some (.ref a), some (.ref t), some (.int (nI l)), some (.int (nI fm)), some (.int (nI sec)), some (.int (nI i1)), some (.int (nI 1)), some (.ref it12), some (.int (nI (nab l (k + 1)))), some (.int (nI 0))] [.ref a126, .ref (kI g (nab l (k + 1))), .ref nd] [[(x, .inr (0, [.ref b, .ref lp, .ref lk, .ref lr, .ref lt, .ref ls, .ref lm, .ref so, .int (nI bxs)]))], [(a, .inr (2, [.int (nI (pNo r)), .ref ev, .ref pl, .int (oI (pEp r)), .int (nI (pLf r)), .ref nd, .int (nI (pOn r)), .int (nI (pKy r)), .ref ch, .int (oI (pRn r)), .ref x]))], v0, v1, l19_5, v3, [(it12, .inr (22, [.int (nI (k + 1)), .int (nI k), .int md_2, .ref p9]))], u1_9, u0_79, w3, u0_126] ((20 + 40 * (3 - k) + 13 * (TA - PhS q1)) - 1) ((100 + 300 * (3 - k) + 55 * (TA - PhS q1)) - 1) from ?_)
                refine g_callV (q := 132) (is := [4, 9]) (kc2 := (20 + 40 * (3 - k) + 13 * (TA - PhS q1)) - 2) (ks2 := (100 + 300 * (3 - k) + 55 * (TA - PhS q1)) - 7) B [.ref (kI g (nab l (k + 1))), .ref a126] (ct_NmP_put g J (t := nd) (F := S.2.2.2) (n := nn1) (k := nab l (k + 1)) (a := a126) (r := i1) hl19_5 hu0_126 (by omega)) dX1_climbs_129 rfl (rc_in B (ci := 27) rfl (k := 4) rfl (MoP.hm hl19_5)) rfl q2084 q2085 q2086 q91 q2087 rfl rfl moJ10_put rfl rfl (by decide) (by decide) (Nat.le_of_ble_eq_true rfl) (by omega) (by omega) (fun _ _ hx => noX_x hx) (fun v129 L1 hp129 => ?_)
                obtain ⟨o129, u0_129, rfl, rfl, hu0_129⟩ := hp129
                refine (show Go g κ 132 [some (.ref x), some (.ref a), some (.ref t), some (.int (nI l)), some (.int (nI fm)), some (.int (nI sec)), some (.int (nI i1)), some (.int (nI 1)), some (.ref it12), some (.int (nI (nab l (k + 1)))), some (.int (nI 0))] [va_rf o129] [[(x, .inr (0, [.ref b, .ref lp, .ref lk, .ref lr, .ref lt, .ref ls, .ref lm, .ref so, .int (nI bxs)]))], [(a, .inr (2, [.int (nI (pNo r)), .ref ev, .ref pl, .int (oI (pEp r)), .int (nI (pLf r)), .ref nd, .int (nI (pOn r)), .int (nI (pKy r)), .ref ch, .int (oI (pRn r)), .ref x]))], v0, v1, v3, [(it12, .inr (22, [.int (nI (k + 1)), .int (nI k), .int md_2, .ref p9]))], u1_9, u0_79, w3, u0_129] ((20 + 40 * (3 - k) + 13 * (TA - PhS q1)) - 2) ((100 + 300 * (3 - k) + 55 * (TA - PhS q1)) - 7) from ?_)
                refine g_pop (q := 133) B dX1_climbs_132 rfl (rv_c (rv_o _)) ?_
                refine g_goto (tgt := 19) B dX1_climbs_133 (by decide) ?_
                rw [if_pos ⟨rfl, c112⟩] at hC
                have hr_17 : BookP g b ((clm1 T l fm S k).1) bx z u0_79 := by rw [hC]; exact hu0_79
                have hr_18 : MoP g (BxE g) nd ((clm1 T l fm S k).2.2.2) (nn1 + (if S.2.2.2 (nab l (k + 1)) = none then 1 else 0)) u0_129 := by rw [hC]; exact hu0_129
                refine g_lvs (lv2 := [some (.ref x), some (.ref a), some (.ref t), some (.int (nI l)), some (.int (nI fm)), some (.int (nI sec)), some (.int (nI ((clm1 T l fm S k).2.1))), some (.int (nI (if (clm1 T l fm S k).2.2.1 = true then 1 else 0))), some (.ref it12), some (.int (nI (nab l (k + 1)))), some (.int (nI 0))]) (st2 := []) (by rw [hC]; rfl) rfl ?_
                have hy1 : PhS (clm1 T l fm S k).1 ≤ PhS (clmK T l fm ((ss, sec, false, pNd r) : CmS) T.1).1 := hSn.1
                have hy2 : PhS (clm1 T l fm S k).1 = PhS q1 := by rw [hC]
                refine (show Go g κ 19 [some (.ref x), some (.ref a), some (.ref t), some (.int (nI l)), some (.int (nI fm)), some (.int (nI sec)), some (.int (nI ((clm1 T l fm S k).2.1))), some (.int (nI (if (clm1 T l fm S k).2.2.1 = true then 1 else 0))), some (.ref it12), some (.int (nI (nab l (k + 1)))), some (.int (nI 0))] [] [[(x, .inr (0, [.ref b, .ref lp, .ref lk, .ref lr, .ref lt, .ref ls, .ref lm, .ref so, .int (nI bxs)]))], [(a, .inr (2, [.int (nI (pNo r)), .ref ev, .ref pl, .int (oI (pEp r)), .int (nI (pLf r)), .ref nd, .int (nI (pOn r)), .int (nI (pKy r)), .ref ch, .int (oI (pRn r)), .ref x]))], v0, v1, v3, [(it12, .inr (22, [.int (nI (k + 1)), .int (nI k), .int md_2, .ref p9]))], u1_9, u0_79, w3, u0_129] ((20 + 40 * (3 - k) + 13 * (TA - PhS q1)) - 2) ((100 + 300 * (3 - k) + 55 * (TA - PhS q1)) - 7) from ?_)
                refine g_fg 9 rfl ?_
                refine g_fg 10 rfl ?_
                refine g_pk [0, 6, 0, 0, 0, 4, 0, 2, 0, 0] rfl rfl ?_
                refine (show Go g κ 19 [some (.ref x), some (.ref a), some (.ref t), some (.int (nI l)), some (.int (nI fm)), some (.int (nI sec)), some (.int (nI ((clm1 T l fm S k).2.1))), some (.int (nI (if (clm1 T l fm S k).2.2.1 = true then 1 else 0))), some (.ref it12), none, none] [] [[(x, .inr (0, [.ref b, .ref lp, .ref lk, .ref lr, .ref lt, .ref ls, .ref lm, .ref so, .int (nI bxs)]))], u0_79, [(a, .inr (2, [.int (nI (pNo r)), .ref ev, .ref pl, .int (oI (pEp r)), .int (nI (pLf r)), .ref nd, .int (nI (pOn r)), .int (nI (pKy r)), .ref ch, .int (oI (pRn r)), .ref x]))], v0, v1, u0_129, v3, w3, [(it12, .inr (22, [.int (nI (k + 1)), .int (nI k), .int md_2, .ref p9]))], u1_9] ((20 + 40 * (3 - k) + 13 * (TA - PhS q1)) - 2) ((100 + 300 * (3 - k) + 55 * (TA - PhS q1)) - 7) from ?_)
                refine g_room (kc2 := 40 * (4 - (k + 1)) + 13 * (TA - PhS (clm1 T l fm S k).1)) (ks2 := 300 * (4 - (k + 1)) + 55 * (TA - PhS (clm1 T l fm S k).1)) (by omega) (by omega) ?_
                exact ih19 _ (by omega) (k + 1) (nI k) (clm1 T l fm S k) (nn1 + (if S.2.2.2 (nab l (k + 1)) = none then 1 else 0)) u0_79 u0_129 hr_17 hr_18 (by first | assumption | omega | rfl) (by rw [hS]; rfl) (by rw [hC]; first | exact hNb | exact fup_bd hNb (by first | exact hi1 | exact hi0)) rfl
            · skip
              refine g_iload (q := 91) B dX1_climbs_89 rfl rfl ?_
              refine g_if_eq (tgt := 98) (q := 94) B dX1_climbs_91 rfl (by decide) (iff_true_intro (by decide)) (fun _ => ?_) (fun z => absurd trivial z)
              refine g_iconst (v := nI 0) (q := 99) B dX1_climbs_98 rfl (by decide) ?_
              refine g_istore (q := 101) (lv2 := [some (.ref x), some (.ref a), some (.ref t), some (.int (nI l)), some (.int (nI fm)), some (.int (nI sec)), some (.int (nI i1)), some (.int (nI 0)), some (.ref it12), some (.int (nI (nab l (k + 1)))), some (.int (nI 0))]) B dX1_climbs_99 rfl (Nat.le_of_ble_eq_true rfl) rfl ?_
              refine g_iload (q := 103) B dX1_climbs_101 rfl rfl ?_
              have hb : (S.2.2.1 || (nab l (k + 1)) == fm) = false := by rw [show S.2.2.1 = false by simpa using c86, show ((nab l (k + 1)) == fm) = false by simpa using c48]; rfl
              have hC := clm1_e (l := l) hA hb
              refine g_if_eq (tgt := 133) (q := 106) B dX1_climbs_103 rfl (by decide) (iff_true_intro (by decide)) (fun _ => ?_) (fun z => absurd trivial z)
              refine g_goto (tgt := 19) B dX1_climbs_133 (by decide) ?_
              rw [if_neg (fun z => by cases z.1)] at hC
              have hr_19 : BookP g b ((clm1 T l fm S k).1) bx z u0_79 := by rw [hC]; exact hu0_79
              have hr_20 : MoP g (BxE g) nd ((clm1 T l fm S k).2.2.2) nn1 l19_5 := by rw [hC]; exact hl19_5
              refine g_lvs (lv2 := [some (.ref x), some (.ref a), some (.ref t), some (.int (nI l)), some (.int (nI fm)), some (.int (nI sec)), some (.int (nI ((clm1 T l fm S k).2.1))), some (.int (nI (if (clm1 T l fm S k).2.2.1 = true then 1 else 0))), some (.ref it12), some (.int (nI (nab l (k + 1)))), some (.int (nI 0))]) (st2 := []) (by rw [hC]; rfl) rfl ?_
              have hy1 : PhS (clm1 T l fm S k).1 ≤ PhS (clmK T l fm ((ss, sec, false, pNd r) : CmS) T.1).1 := hSn.1
              have hy2 : PhS (clm1 T l fm S k).1 = PhS q1 := by rw [hC]
              refine (show Go g κ 19 [some (.ref x), some (.ref a), some (.ref t), some (.int (nI l)), some (.int (nI fm)), some (.int (nI sec)), some (.int (nI ((clm1 T l fm S k).2.1))), some (.int (nI (if (clm1 T l fm S k).2.2.1 = true then 1 else 0))), some (.ref it12), some (.int (nI (nab l (k + 1)))), some (.int (nI 0))] [] [[(x, .inr (0, [.ref b, .ref lp, .ref lk, .ref lr, .ref lt, .ref ls, .ref lm, .ref so, .int (nI bxs)]))], [(a, .inr (2, [.int (nI (pNo r)), .ref ev, .ref pl, .int (oI (pEp r)), .int (nI (pLf r)), .ref nd, .int (nI (pOn r)), .int (nI (pKy r)), .ref ch, .int (oI (pRn r)), .ref x]))], v0, v1, l19_5, v3, [(it12, .inr (22, [.int (nI (k + 1)), .int (nI k), .int md_2, .ref p9]))], u1_9, w3, u0_79] (20 + 40 * (3 - k) + 13 * (TA - PhS q1)) (100 + 300 * (3 - k) + 55 * (TA - PhS q1)) from ?_)
              refine g_fg 9 rfl ?_
              refine g_fg 10 rfl ?_
              refine g_pk [0, 8, 0, 0, 0, 0, 0, 2, 0, 0] rfl rfl ?_
              refine (show Go g κ 19 [some (.ref x), some (.ref a), some (.ref t), some (.int (nI l)), some (.int (nI fm)), some (.int (nI sec)), some (.int (nI ((clm1 T l fm S k).2.1))), some (.int (nI (if (clm1 T l fm S k).2.2.1 = true then 1 else 0))), some (.ref it12), none, none] [] [[(x, .inr (0, [.ref b, .ref lp, .ref lk, .ref lr, .ref lt, .ref ls, .ref lm, .ref so, .int (nI bxs)]))], u0_79, [(a, .inr (2, [.int (nI (pNo r)), .ref ev, .ref pl, .int (oI (pEp r)), .int (nI (pLf r)), .ref nd, .int (nI (pOn r)), .int (nI (pKy r)), .ref ch, .int (oI (pRn r)), .ref x]))], v0, v1, l19_5, v3, w3, [(it12, .inr (22, [.int (nI (k + 1)), .int (nI k), .int md_2, .ref p9]))], u1_9] (20 + 40 * (3 - k) + 13 * (TA - PhS q1)) (100 + 300 * (3 - k) + 55 * (TA - PhS q1)) from ?_)
              refine g_room (kc2 := 40 * (4 - (k + 1)) + 13 * (TA - PhS (clm1 T l fm S k).1)) (ks2 := 300 * (4 - (k + 1)) + 55 * (TA - PhS (clm1 T l fm S k).1)) (by omega) (by omega) ?_
              exact ih19 _ (by omega) (k + 1) (nI k) (clm1 T l fm S k) nn1 u0_79 l19_5 hr_19 hr_20 (by first | assumption | omega | rfl) (by rw [hS]; rfl) (by rw [hC]; first | exact hNb | exact fup_bd hNb (by first | exact hi1 | exact hi0)) rfl
      · skip
        refine g_iconst (v := nI 1) (q := 52) B dX1_climbs_51 rfl (by decide) ?_
        refine g_goto (tgt := 56) B dX1_climbs_52 (by decide) ?_
        refine g_istore (q := 58) (lv2 := [some (.ref x), some (.ref a), some (.ref t), some (.int (nI l)), some (.int (nI fm)), some (.int (nI sec)), some (.int (nI S.2.1)), some (.int (nI (if S.2.2.1 = true then 1 else 0))), some (.ref it12), some (.int (nI (nab l (k + 1)))), some (.int (nI 1))]) B dX1_climbs_56 rfl (Nat.le_of_ble_eq_true rfl) rfl ?_
        refine g_iload (q := 60) B dX1_climbs_58 rfl rfl ?_
        refine g_if_eq (tgt := 84) (q := 63) B dX1_climbs_60 rfl (by decide) (bo_eq) (fun c60 => ?_) (fun c60 => ?_)
        · skip
          have hA := clmA_n (T := T) (n := (nab l (k + 1))) (S := S) (by rintro ⟨z1, z2⟩; first | exact c60 z1 | exact z2 c69)
          have hi0 : S.2.1 < 1000 := by omega
          refine g_iload (q := 86) B dX1_climbs_84 rfl rfl ?_
          refine g_if_ne (tgt := 94) (q := 89) B dX1_climbs_86 rfl (by decide) (bo_ne) (fun c86 => ?_) (fun c86 => ?_)
          · skip
            refine g_iconst (v := nI 1) (q := 95) B dX1_climbs_94 rfl (by decide) ?_
            refine g_goto (tgt := 99) B dX1_climbs_95 (by decide) ?_
            refine g_istore (q := 101) (lv2 := [some (.ref x), some (.ref a), some (.ref t), some (.int (nI l)), some (.int (nI fm)), some (.int (nI sec)), some (.int (nI S.2.1)), some (.int (nI 1)), some (.ref it12), some (.int (nI (nab l (k + 1)))), some (.int (nI 1))]) B dX1_climbs_99 rfl (Nat.le_of_ble_eq_true rfl) rfl ?_
            refine g_iload (q := 103) B dX1_climbs_101 rfl rfl ?_
            have hb : (S.2.2.1 || (nab l (k + 1)) == fm) = true := by first | (rw [show S.2.2.1 = true from c86]; rfl) | (rw [Classical.not_not.mp c48]; simp) | (rw [beq_iff_eq.mpr (Classical.not_not.mp c48), Bool.or_true])
            have hC := clm1_e (l := l) hA hb
            refine g_if_eq (tgt := 133) (q := 106) B dX1_climbs_103 rfl (by decide) (iff_false_intro (by decide)) (fun z => z.elim) (fun _ => ?_)
            refine g_aload_n (q := 107) B dX1_climbs_106 rfl rfl (rv_r _) ?_
            refine g_iload (q := 109) B dX1_climbs_107 rfl rfl ?_
            refine g_callV (q := 112) (is := [7]) (kc2 := 40 * (4 - k) + 13 * (TA - PhS S.1)) (ks2 := 300 * (4 - k) + 55 * (TA - PhS S.1)) B [.int (nI (nab l (k + 1)))] (ct_X10_isBlank g J (t := t) (T := T) (n := (nab l (k + 1))) hw3 (by first | assumption | omega | rfl)) dX1_climbs_109 rfl (rc_in B (ci := 5) rfl (k := 7) rfl (TreeP.hm hw3)) rfl q1144 q1145 q1146 q123 q1147 rfl rfl moX10_isBlank rfl rfl (by decide) (by decide) (Nat.le_of_ble_eq_true rfl) (by omega) (by omega) (fun _ _ hx => noX_x hx) (fun v109 L1 hp109 => ?_)
            obtain ⟨rfl, rfl⟩ := hp109
            refine (show Go g κ 112 [some (.ref x), some (.ref a), some (.ref t), some (.int (nI l)), some (.int (nI fm)), some (.int (nI sec)), some (.int (nI S.2.1)), some (.int (nI 1)), some (.ref it12), some (.int (nI (nab l (k + 1)))), some (.int (nI 1))] [.int (nI (if T.2.1 (nab l (k + 1)) = none then 1 else 0))] [[(x, .inr (0, [.ref b, .ref lp, .ref lk, .ref lr, .ref lt, .ref ls, .ref lm, .ref so, .int (nI bxs)]))], l19_1, [(a, .inr (2, [.int (nI (pNo r)), .ref ev, .ref pl, .int (oI (pEp r)), .int (nI (pLf r)), .ref nd, .int (nI (pOn r)), .int (nI (pKy r)), .ref ch, .int (oI (pRn r)), .ref x]))], v0, v1, l19_5, v3, [(it12, .inr (22, [.int (nI (k + 1)), .int (nI k), .int md_2, .ref p9]))], u1_9, w3] (40 * (4 - k) + 13 * (TA - PhS S.1)) (300 * (4 - k) + 55 * (TA - PhS S.1)) from ?_)
            refine g_if_ne (tgt := 133) (q := 115) B dX1_climbs_112 rfl (by decide) (bo_ne) (fun c112 => ?_) (fun c112 => ?_)
            · skip
              refine g_goto (tgt := 19) B dX1_climbs_133 (by decide) ?_
              rw [if_neg (fun z => z.2 c112)] at hC
              have hr_21 : BookP g b ((clm1 T l fm S k).1) bx z l19_1 := by rw [hC]; exact hl19_1
              have hr_22 : MoP g (BxE g) nd ((clm1 T l fm S k).2.2.2) nn1 l19_5 := by rw [hC]; exact hl19_5
              refine g_lvs (lv2 := [some (.ref x), some (.ref a), some (.ref t), some (.int (nI l)), some (.int (nI fm)), some (.int (nI sec)), some (.int (nI ((clm1 T l fm S k).2.1))), some (.int (nI (if (clm1 T l fm S k).2.2.1 = true then 1 else 0))), some (.ref it12), some (.int (nI (nab l (k + 1)))), some (.int (nI 1))]) (st2 := []) (by rw [hC]; rfl) rfl ?_
              have hy1 : PhS (clm1 T l fm S k).1 ≤ PhS (clmK T l fm ((ss, sec, false, pNd r) : CmS) T.1).1 := hSn.1
              have hy2 : PhS S.1 ≤ PhS (clm1 T l fm S k).1 := hAm.1
              refine (show Go g κ 19 [some (.ref x), some (.ref a), some (.ref t), some (.int (nI l)), some (.int (nI fm)), some (.int (nI sec)), some (.int (nI ((clm1 T l fm S k).2.1))), some (.int (nI (if (clm1 T l fm S k).2.2.1 = true then 1 else 0))), some (.ref it12), some (.int (nI (nab l (k + 1)))), some (.int (nI 1))] [] [[(x, .inr (0, [.ref b, .ref lp, .ref lk, .ref lr, .ref lt, .ref ls, .ref lm, .ref so, .int (nI bxs)]))], l19_1, [(a, .inr (2, [.int (nI (pNo r)), .ref ev, .ref pl, .int (oI (pEp r)), .int (nI (pLf r)), .ref nd, .int (nI (pOn r)), .int (nI (pKy r)), .ref ch, .int (oI (pRn r)), .ref x]))], v0, v1, l19_5, v3, [(it12, .inr (22, [.int (nI (k + 1)), .int (nI k), .int md_2, .ref p9]))], u1_9, w3] (40 * (4 - k) + 13 * (TA - PhS S.1)) (300 * (4 - k) + 55 * (TA - PhS S.1)) from ?_)
              refine g_fg 9 rfl ?_
              refine g_fg 10 rfl ?_
              refine g_pk [0, 0, 0, 0, 0, 0, 0, 2, 0, 0] rfl rfl ?_
              refine (show Go g κ 19 [some (.ref x), some (.ref a), some (.ref t), some (.int (nI l)), some (.int (nI fm)), some (.int (nI sec)), some (.int (nI ((clm1 T l fm S k).2.1))), some (.int (nI (if (clm1 T l fm S k).2.2.1 = true then 1 else 0))), some (.ref it12), none, none] [] [[(x, .inr (0, [.ref b, .ref lp, .ref lk, .ref lr, .ref lt, .ref ls, .ref lm, .ref so, .int (nI bxs)]))], l19_1, [(a, .inr (2, [.int (nI (pNo r)), .ref ev, .ref pl, .int (oI (pEp r)), .int (nI (pLf r)), .ref nd, .int (nI (pOn r)), .int (nI (pKy r)), .ref ch, .int (oI (pRn r)), .ref x]))], v0, v1, l19_5, v3, w3, [(it12, .inr (22, [.int (nI (k + 1)), .int (nI k), .int md_2, .ref p9]))], u1_9] (40 * (4 - k) + 13 * (TA - PhS S.1)) (300 * (4 - k) + 55 * (TA - PhS S.1)) from ?_)
              refine g_room (kc2 := 40 * (4 - (k + 1)) + 13 * (TA - PhS (clm1 T l fm S k).1)) (ks2 := 300 * (4 - (k + 1)) + 55 * (TA - PhS (clm1 T l fm S k).1)) (by omega) (by omega) ?_
              exact ih19 _ (by omega) (k + 1) (nI k) (clm1 T l fm S k) nn1 l19_1 l19_5 hr_21 hr_22 (by first | assumption | omega | rfl) (by rw [hS]; rfl) (by rw [hC]; first | exact hNb | exact fup_bd hNb (by first | exact hi1 | exact hi0)) rfl
            · skip
              refine g_aload_n (q := 116) B dX1_climbs_115 rfl rfl (rv_r _) ?_
              refine g_getN (q := 119) B (ci := 2) (k := 2) (j := 5) in_X4 rfl dX1_climbs_116 rfl rfl (Nat.le_of_ble_eq_true rfl) q1905 rfl rfl ?_
              refine g_iload (q := 121) B dX1_climbs_119 rfl rfl ?_
              refine g_callS (q := 124) (is := []) (kc2 := 40 * (4 - k) + 13 * (TA - PhS S.1)) (ks2 := 300 * (4 - k) + 55 * (TA - PhS S.1)) B [.int (nI (nab l (k + 1)))] (ct_J26_valueOf_k g J (k := (nab l (k + 1)))  (by omega)) dX1_climbs_121 rfl q685 q686 q111 q687 rfl rfl moJ26_valueOf rfl rfl (by decide) (by decide) (Nat.le_of_ble_eq_true rfl) (by omega) (by omega) (fun _ _ hx => noX_x hx) (fun v121 L1 hp121 => ?_)
              obtain ⟨rfl, rfl⟩ := hp121
              refine (show Go g κ 124 [some (.ref x), some (.ref a), some (.ref t), some (.int (nI l)), some (.int (nI fm)), some (.int (nI sec)), some (.int (nI S.2.1)), some (.int (nI 1)), some (.ref it12), some (.int (nI (nab l (k + 1)))), some (.int (nI 1))] [.ref (kI g (nab l (k + 1))), .ref nd] [[(x, .inr (0, [.ref b, .ref lp, .ref lk, .ref lr, .ref lt, .ref ls, .ref lm, .ref so, .int (nI bxs)]))], l19_1, [(a, .inr (2, [.int (nI (pNo r)), .ref ev, .ref pl, .int (oI (pEp r)), .int (nI (pLf r)), .ref nd, .int (nI (pOn r)), .int (nI (pKy r)), .ref ch, .int (oI (pRn r)), .ref x]))], v0, v1, l19_5, v3, [(it12, .inr (22, [.int (nI (k + 1)), .int (nI k), .int md_2, .ref p9]))], u1_9, w3] (40 * (4 - k) + 13 * (TA - PhS S.1)) (300 * (4 - k) + 55 * (TA - PhS S.1)) from ?_)
              refine g_iload (q := 126) B dX1_climbs_124 rfl rfl ?_
              refine g_callS (q := 129) (is := []) (kc2 := (40 * (4 - k) + 13 * (TA - PhS S.1)) - 1) (ks2 := (300 * (4 - k) + 55 * (TA - PhS S.1)) - 1) B [.int (nI S.2.1)] (ct_J26_valueOf g J (v := nI S.2.1)  ) dX1_climbs_126 rfl q685 q686 q111 q687 rfl rfl moJ26_valueOf rfl rfl (by decide) (by decide) (Nat.le_of_ble_eq_true rfl) (by omega) (by omega) (fun _ _ hx => noX_x hx) (fun v126 L1 hp126 => ?_)
              obtain ⟨a126, u0_126, rfl, rfl, hu0_126⟩ := hp126
              refine (show Go g κ 129 [some (.ref x), some (.ref a), some (.ref t), some (.int (nI l)), some (.int (nI fm)), some (.int (nI sec)), some (.int (nI S.2.1)), some (.int (nI 1)), some (.ref it12), some (.int (nI (nab l (k + 1)))), some (.int (nI 1))] [.ref a126, .ref (kI g (nab l (k + 1))), .ref nd] [[(x, .inr (0, [.ref b, .ref lp, .ref lk, .ref lr, .ref lt, .ref ls, .ref lm, .ref so, .int (nI bxs)]))], l19_1, [(a, .inr (2, [.int (nI (pNo r)), .ref ev, .ref pl, .int (oI (pEp r)), .int (nI (pLf r)), .ref nd, .int (nI (pOn r)), .int (nI (pKy r)), .ref ch, .int (oI (pRn r)), .ref x]))], v0, v1, l19_5, v3, [(it12, .inr (22, [.int (nI (k + 1)), .int (nI k), .int md_2, .ref p9]))], u1_9, w3, u0_126] ((40 * (4 - k) + 13 * (TA - PhS S.1)) - 1) ((300 * (4 - k) + 55 * (TA - PhS S.1)) - 1) from ?_)
              refine g_callV (q := 132) (is := [5, 9]) (kc2 := (40 * (4 - k) + 13 * (TA - PhS S.1)) - 2) (ks2 := (300 * (4 - k) + 55 * (TA - PhS S.1)) - 7) B [.ref (kI g (nab l (k + 1))), .ref a126] (ct_NmP_put g J (t := nd) (F := S.2.2.2) (n := nn1) (k := nab l (k + 1)) (a := a126) (r := S.2.1) hl19_5 hu0_126 (by omega)) dX1_climbs_129 rfl (rc_in B (ci := 27) rfl (k := 5) rfl (MoP.hm hl19_5)) rfl q2084 q2085 q2086 q91 q2087 rfl rfl moJ10_put rfl rfl (by decide) (by decide) (Nat.le_of_ble_eq_true rfl) (by omega) (by omega) (fun _ _ hx => noX_x hx) (fun v129 L1 hp129 => ?_)
              obtain ⟨o129, u0_129, rfl, rfl, hu0_129⟩ := hp129
              refine (show Go g κ 132 [some (.ref x), some (.ref a), some (.ref t), some (.int (nI l)), some (.int (nI fm)), some (.int (nI sec)), some (.int (nI S.2.1)), some (.int (nI 1)), some (.ref it12), some (.int (nI (nab l (k + 1)))), some (.int (nI 1))] [va_rf o129] [[(x, .inr (0, [.ref b, .ref lp, .ref lk, .ref lr, .ref lt, .ref ls, .ref lm, .ref so, .int (nI bxs)]))], l19_1, [(a, .inr (2, [.int (nI (pNo r)), .ref ev, .ref pl, .int (oI (pEp r)), .int (nI (pLf r)), .ref nd, .int (nI (pOn r)), .int (nI (pKy r)), .ref ch, .int (oI (pRn r)), .ref x]))], v0, v1, v3, [(it12, .inr (22, [.int (nI (k + 1)), .int (nI k), .int md_2, .ref p9]))], u1_9, w3, u0_129] ((40 * (4 - k) + 13 * (TA - PhS S.1)) - 2) ((300 * (4 - k) + 55 * (TA - PhS S.1)) - 7) from ?_)
              refine g_pop (q := 133) B dX1_climbs_132 rfl (rv_c (rv_o _)) ?_
              refine g_goto (tgt := 19) B dX1_climbs_133 (by decide) ?_
              rw [if_pos ⟨rfl, c112⟩] at hC
              have hr_23 : BookP g b ((clm1 T l fm S k).1) bx z l19_1 := by rw [hC]; exact hl19_1
              have hr_24 : MoP g (BxE g) nd ((clm1 T l fm S k).2.2.2) (nn1 + (if S.2.2.2 (nab l (k + 1)) = none then 1 else 0)) u0_129 := by rw [hC]; exact hu0_129
              refine g_lvs (lv2 := [some (.ref x), some (.ref a), some (.ref t), some (.int (nI l)), some (.int (nI fm)), some (.int (nI sec)), some (.int (nI ((clm1 T l fm S k).2.1))), some (.int (nI (if (clm1 T l fm S k).2.2.1 = true then 1 else 0))), some (.ref it12), some (.int (nI (nab l (k + 1)))), some (.int (nI 1))]) (st2 := []) (by rw [hC]; rfl) rfl ?_
              have hy1 : PhS (clm1 T l fm S k).1 ≤ PhS (clmK T l fm ((ss, sec, false, pNd r) : CmS) T.1).1 := hSn.1
              have hy2 : PhS S.1 ≤ PhS (clm1 T l fm S k).1 := hAm.1
              refine (show Go g κ 19 [some (.ref x), some (.ref a), some (.ref t), some (.int (nI l)), some (.int (nI fm)), some (.int (nI sec)), some (.int (nI ((clm1 T l fm S k).2.1))), some (.int (nI (if (clm1 T l fm S k).2.2.1 = true then 1 else 0))), some (.ref it12), some (.int (nI (nab l (k + 1)))), some (.int (nI 1))] [] [[(x, .inr (0, [.ref b, .ref lp, .ref lk, .ref lr, .ref lt, .ref ls, .ref lm, .ref so, .int (nI bxs)]))], l19_1, [(a, .inr (2, [.int (nI (pNo r)), .ref ev, .ref pl, .int (oI (pEp r)), .int (nI (pLf r)), .ref nd, .int (nI (pOn r)), .int (nI (pKy r)), .ref ch, .int (oI (pRn r)), .ref x]))], v0, v1, v3, [(it12, .inr (22, [.int (nI (k + 1)), .int (nI k), .int md_2, .ref p9]))], u1_9, w3, u0_129] ((40 * (4 - k) + 13 * (TA - PhS S.1)) - 2) ((300 * (4 - k) + 55 * (TA - PhS S.1)) - 7) from ?_)
              refine g_fg 9 rfl ?_
              refine g_fg 10 rfl ?_
              refine g_pk [0, 0, 0, 0, 0, 4, 0, 2, 0, 0] rfl rfl ?_
              refine (show Go g κ 19 [some (.ref x), some (.ref a), some (.ref t), some (.int (nI l)), some (.int (nI fm)), some (.int (nI sec)), some (.int (nI ((clm1 T l fm S k).2.1))), some (.int (nI (if (clm1 T l fm S k).2.2.1 = true then 1 else 0))), some (.ref it12), none, none] [] [[(x, .inr (0, [.ref b, .ref lp, .ref lk, .ref lr, .ref lt, .ref ls, .ref lm, .ref so, .int (nI bxs)]))], l19_1, [(a, .inr (2, [.int (nI (pNo r)), .ref ev, .ref pl, .int (oI (pEp r)), .int (nI (pLf r)), .ref nd, .int (nI (pOn r)), .int (nI (pKy r)), .ref ch, .int (oI (pRn r)), .ref x]))], v0, v1, u0_129, v3, w3, [(it12, .inr (22, [.int (nI (k + 1)), .int (nI k), .int md_2, .ref p9]))], u1_9] ((40 * (4 - k) + 13 * (TA - PhS S.1)) - 2) ((300 * (4 - k) + 55 * (TA - PhS S.1)) - 7) from ?_)
              refine g_room (kc2 := 40 * (4 - (k + 1)) + 13 * (TA - PhS (clm1 T l fm S k).1)) (ks2 := 300 * (4 - (k + 1)) + 55 * (TA - PhS (clm1 T l fm S k).1)) (by omega) (by omega) ?_
              exact ih19 _ (by omega) (k + 1) (nI k) (clm1 T l fm S k) (nn1 + (if S.2.2.2 (nab l (k + 1)) = none then 1 else 0)) l19_1 u0_129 hr_23 hr_24 (by first | assumption | omega | rfl) (by rw [hS]; rfl) (by rw [hC]; first | exact hNb | exact fup_bd hNb (by first | exact hi1 | exact hi0)) rfl
          · skip
            refine g_iload (q := 91) B dX1_climbs_89 rfl rfl ?_
            refine g_if_eq (tgt := 98) (q := 94) B dX1_climbs_91 rfl (by decide) (iff_false_intro (by decide)) (fun z => z.elim) (fun _ => ?_)
            refine g_iconst (v := nI 1) (q := 95) B dX1_climbs_94 rfl (by decide) ?_
            refine g_goto (tgt := 99) B dX1_climbs_95 (by decide) ?_
            refine g_istore (q := 101) (lv2 := [some (.ref x), some (.ref a), some (.ref t), some (.int (nI l)), some (.int (nI fm)), some (.int (nI sec)), some (.int (nI S.2.1)), some (.int (nI 1)), some (.ref it12), some (.int (nI (nab l (k + 1)))), some (.int (nI 1))]) B dX1_climbs_99 rfl (Nat.le_of_ble_eq_true rfl) rfl ?_
            refine g_iload (q := 103) B dX1_climbs_101 rfl rfl ?_
            have hb : (S.2.2.1 || (nab l (k + 1)) == fm) = true := by first | (rw [show S.2.2.1 = true from c86]; rfl) | (rw [Classical.not_not.mp c48]; simp) | (rw [beq_iff_eq.mpr (Classical.not_not.mp c48), Bool.or_true])
            have hC := clm1_e (l := l) hA hb
            refine g_if_eq (tgt := 133) (q := 106) B dX1_climbs_103 rfl (by decide) (iff_false_intro (by decide)) (fun z => z.elim) (fun _ => ?_)
            refine g_aload_n (q := 107) B dX1_climbs_106 rfl rfl (rv_r _) ?_
            refine g_iload (q := 109) B dX1_climbs_107 rfl rfl ?_
            refine g_callV (q := 112) (is := [7]) (kc2 := 40 * (4 - k) + 13 * (TA - PhS S.1)) (ks2 := 300 * (4 - k) + 55 * (TA - PhS S.1)) B [.int (nI (nab l (k + 1)))] (ct_X10_isBlank g J (t := t) (T := T) (n := (nab l (k + 1))) hw3 (by first | assumption | omega | rfl)) dX1_climbs_109 rfl (rc_in B (ci := 5) rfl (k := 7) rfl (TreeP.hm hw3)) rfl q1144 q1145 q1146 q123 q1147 rfl rfl moX10_isBlank rfl rfl (by decide) (by decide) (Nat.le_of_ble_eq_true rfl) (by omega) (by omega) (fun _ _ hx => noX_x hx) (fun v109 L1 hp109 => ?_)
            obtain ⟨rfl, rfl⟩ := hp109
            refine (show Go g κ 112 [some (.ref x), some (.ref a), some (.ref t), some (.int (nI l)), some (.int (nI fm)), some (.int (nI sec)), some (.int (nI S.2.1)), some (.int (nI 1)), some (.ref it12), some (.int (nI (nab l (k + 1)))), some (.int (nI 1))] [.int (nI (if T.2.1 (nab l (k + 1)) = none then 1 else 0))] [[(x, .inr (0, [.ref b, .ref lp, .ref lk, .ref lr, .ref lt, .ref ls, .ref lm, .ref so, .int (nI bxs)]))], l19_1, [(a, .inr (2, [.int (nI (pNo r)), .ref ev, .ref pl, .int (oI (pEp r)), .int (nI (pLf r)), .ref nd, .int (nI (pOn r)), .int (nI (pKy r)), .ref ch, .int (oI (pRn r)), .ref x]))], v0, v1, l19_5, v3, [(it12, .inr (22, [.int (nI (k + 1)), .int (nI k), .int md_2, .ref p9]))], u1_9, w3] (40 * (4 - k) + 13 * (TA - PhS S.1)) (300 * (4 - k) + 55 * (TA - PhS S.1)) from ?_)
            refine g_if_ne (tgt := 133) (q := 115) B dX1_climbs_112 rfl (by decide) (bo_ne) (fun c112 => ?_) (fun c112 => ?_)
            · skip
              refine g_goto (tgt := 19) B dX1_climbs_133 (by decide) ?_
              rw [if_neg (fun z => z.2 c112)] at hC
              have hr_25 : BookP g b ((clm1 T l fm S k).1) bx z l19_1 := by rw [hC]; exact hl19_1
              have hr_26 : MoP g (BxE g) nd ((clm1 T l fm S k).2.2.2) nn1 l19_5 := by rw [hC]; exact hl19_5
              refine g_lvs (lv2 := [some (.ref x), some (.ref a), some (.ref t), some (.int (nI l)), some (.int (nI fm)), some (.int (nI sec)), some (.int (nI ((clm1 T l fm S k).2.1))), some (.int (nI (if (clm1 T l fm S k).2.2.1 = true then 1 else 0))), some (.ref it12), some (.int (nI (nab l (k + 1)))), some (.int (nI 1))]) (st2 := []) (by rw [hC]; rfl) rfl ?_
              have hy1 : PhS (clm1 T l fm S k).1 ≤ PhS (clmK T l fm ((ss, sec, false, pNd r) : CmS) T.1).1 := hSn.1
              have hy2 : PhS S.1 ≤ PhS (clm1 T l fm S k).1 := hAm.1
              refine (show Go g κ 19 [some (.ref x), some (.ref a), some (.ref t), some (.int (nI l)), some (.int (nI fm)), some (.int (nI sec)), some (.int (nI ((clm1 T l fm S k).2.1))), some (.int (nI (if (clm1 T l fm S k).2.2.1 = true then 1 else 0))), some (.ref it12), some (.int (nI (nab l (k + 1)))), some (.int (nI 1))] [] [[(x, .inr (0, [.ref b, .ref lp, .ref lk, .ref lr, .ref lt, .ref ls, .ref lm, .ref so, .int (nI bxs)]))], l19_1, [(a, .inr (2, [.int (nI (pNo r)), .ref ev, .ref pl, .int (oI (pEp r)), .int (nI (pLf r)), .ref nd, .int (nI (pOn r)), .int (nI (pKy r)), .ref ch, .int (oI (pRn r)), .ref x]))], v0, v1, l19_5, v3, [(it12, .inr (22, [.int (nI (k + 1)), .int (nI k), .int md_2, .ref p9]))], u1_9, w3] (40 * (4 - k) + 13 * (TA - PhS S.1)) (300 * (4 - k) + 55 * (TA - PhS S.1)) from ?_)
              refine g_fg 9 rfl ?_
              refine g_fg 10 rfl ?_
              refine g_pk [0, 0, 0, 0, 0, 0, 0, 2, 0, 0] rfl rfl ?_
              refine (show Go g κ 19 [some (.ref x), some (.ref a), some (.ref t), some (.int (nI l)), some (.int (nI fm)), some (.int (nI sec)), some (.int (nI ((clm1 T l fm S k).2.1))), some (.int (nI (if (clm1 T l fm S k).2.2.1 = true then 1 else 0))), some (.ref it12), none, none] [] [[(x, .inr (0, [.ref b, .ref lp, .ref lk, .ref lr, .ref lt, .ref ls, .ref lm, .ref so, .int (nI bxs)]))], l19_1, [(a, .inr (2, [.int (nI (pNo r)), .ref ev, .ref pl, .int (oI (pEp r)), .int (nI (pLf r)), .ref nd, .int (nI (pOn r)), .int (nI (pKy r)), .ref ch, .int (oI (pRn r)), .ref x]))], v0, v1, l19_5, v3, w3, [(it12, .inr (22, [.int (nI (k + 1)), .int (nI k), .int md_2, .ref p9]))], u1_9] (40 * (4 - k) + 13 * (TA - PhS S.1)) (300 * (4 - k) + 55 * (TA - PhS S.1)) from ?_)
              refine g_room (kc2 := 40 * (4 - (k + 1)) + 13 * (TA - PhS (clm1 T l fm S k).1)) (ks2 := 300 * (4 - (k + 1)) + 55 * (TA - PhS (clm1 T l fm S k).1)) (by omega) (by omega) ?_
              exact ih19 _ (by omega) (k + 1) (nI k) (clm1 T l fm S k) nn1 l19_1 l19_5 hr_25 hr_26 (by first | assumption | omega | rfl) (by rw [hS]; rfl) (by rw [hC]; first | exact hNb | exact fup_bd hNb (by first | exact hi1 | exact hi0)) rfl
            · skip
              refine g_aload_n (q := 116) B dX1_climbs_115 rfl rfl (rv_r _) ?_
              refine g_getN (q := 119) B (ci := 2) (k := 2) (j := 5) in_X4 rfl dX1_climbs_116 rfl rfl (Nat.le_of_ble_eq_true rfl) q1905 rfl rfl ?_
              refine g_iload (q := 121) B dX1_climbs_119 rfl rfl ?_
              refine g_callS (q := 124) (is := []) (kc2 := 40 * (4 - k) + 13 * (TA - PhS S.1)) (ks2 := 300 * (4 - k) + 55 * (TA - PhS S.1)) B [.int (nI (nab l (k + 1)))] (ct_J26_valueOf_k g J (k := (nab l (k + 1)))  (by omega)) dX1_climbs_121 rfl q685 q686 q111 q687 rfl rfl moJ26_valueOf rfl rfl (by decide) (by decide) (Nat.le_of_ble_eq_true rfl) (by omega) (by omega) (fun _ _ hx => noX_x hx) (fun v121 L1 hp121 => ?_)
              obtain ⟨rfl, rfl⟩ := hp121
              refine (show Go g κ 124 [some (.ref x), some (.ref a), some (.ref t), some (.int (nI l)), some (.int (nI fm)), some (.int (nI sec)), some (.int (nI S.2.1)), some (.int (nI 1)), some (.ref it12), some (.int (nI (nab l (k + 1)))), some (.int (nI 1))] [.ref (kI g (nab l (k + 1))), .ref nd] [[(x, .inr (0, [.ref b, .ref lp, .ref lk, .ref lr, .ref lt, .ref ls, .ref lm, .ref so, .int (nI bxs)]))], l19_1, [(a, .inr (2, [.int (nI (pNo r)), .ref ev, .ref pl, .int (oI (pEp r)), .int (nI (pLf r)), .ref nd, .int (nI (pOn r)), .int (nI (pKy r)), .ref ch, .int (oI (pRn r)), .ref x]))], v0, v1, l19_5, v3, [(it12, .inr (22, [.int (nI (k + 1)), .int (nI k), .int md_2, .ref p9]))], u1_9, w3] (40 * (4 - k) + 13 * (TA - PhS S.1)) (300 * (4 - k) + 55 * (TA - PhS S.1)) from ?_)
              refine g_iload (q := 126) B dX1_climbs_124 rfl rfl ?_
              refine g_callS (q := 129) (is := []) (kc2 := (40 * (4 - k) + 13 * (TA - PhS S.1)) - 1) (ks2 := (300 * (4 - k) + 55 * (TA - PhS S.1)) - 1) B [.int (nI S.2.1)] (ct_J26_valueOf g J (v := nI S.2.1)  ) dX1_climbs_126 rfl q685 q686 q111 q687 rfl rfl moJ26_valueOf rfl rfl (by decide) (by decide) (Nat.le_of_ble_eq_true rfl) (by omega) (by omega) (fun _ _ hx => noX_x hx) (fun v126 L1 hp126 => ?_)
              obtain ⟨a126, u0_126, rfl, rfl, hu0_126⟩ := hp126
              refine (show Go g κ 129 [some (.ref x), some (.ref a), some (.ref t), some (.int (nI l)), some (.int (nI fm)), some (.int (nI sec)), some (.int (nI S.2.1)), some (.int (nI 1)), some (.ref it12), some (.int (nI (nab l (k + 1)))), some (.int (nI 1))] [.ref a126, .ref (kI g (nab l (k + 1))), .ref nd] [[(x, .inr (0, [.ref b, .ref lp, .ref lk, .ref lr, .ref lt, .ref ls, .ref lm, .ref so, .int (nI bxs)]))], l19_1, [(a, .inr (2, [.int (nI (pNo r)), .ref ev, .ref pl, .int (oI (pEp r)), .int (nI (pLf r)), .ref nd, .int (nI (pOn r)), .int (nI (pKy r)), .ref ch, .int (oI (pRn r)), .ref x]))], v0, v1, l19_5, v3, [(it12, .inr (22, [.int (nI (k + 1)), .int (nI k), .int md_2, .ref p9]))], u1_9, w3, u0_126] ((40 * (4 - k) + 13 * (TA - PhS S.1)) - 1) ((300 * (4 - k) + 55 * (TA - PhS S.1)) - 1) from ?_)
              refine g_callV (q := 132) (is := [5, 9]) (kc2 := (40 * (4 - k) + 13 * (TA - PhS S.1)) - 2) (ks2 := (300 * (4 - k) + 55 * (TA - PhS S.1)) - 7) B [.ref (kI g (nab l (k + 1))), .ref a126] (ct_NmP_put g J (t := nd) (F := S.2.2.2) (n := nn1) (k := nab l (k + 1)) (a := a126) (r := S.2.1) hl19_5 hu0_126 (by omega)) dX1_climbs_129 rfl (rc_in B (ci := 27) rfl (k := 5) rfl (MoP.hm hl19_5)) rfl q2084 q2085 q2086 q91 q2087 rfl rfl moJ10_put rfl rfl (by decide) (by decide) (Nat.le_of_ble_eq_true rfl) (by omega) (by omega) (fun _ _ hx => noX_x hx) (fun v129 L1 hp129 => ?_)
              obtain ⟨o129, u0_129, rfl, rfl, hu0_129⟩ := hp129
              refine (show Go g κ 132 [some (.ref x), some (.ref a), some (.ref t), some (.int (nI l)), some (.int (nI fm)), some (.int (nI sec)), some (.int (nI S.2.1)), some (.int (nI 1)), some (.ref it12), some (.int (nI (nab l (k + 1)))), some (.int (nI 1))] [va_rf o129] [[(x, .inr (0, [.ref b, .ref lp, .ref lk, .ref lr, .ref lt, .ref ls, .ref lm, .ref so, .int (nI bxs)]))], l19_1, [(a, .inr (2, [.int (nI (pNo r)), .ref ev, .ref pl, .int (oI (pEp r)), .int (nI (pLf r)), .ref nd, .int (nI (pOn r)), .int (nI (pKy r)), .ref ch, .int (oI (pRn r)), .ref x]))], v0, v1, v3, [(it12, .inr (22, [.int (nI (k + 1)), .int (nI k), .int md_2, .ref p9]))], u1_9, w3, u0_129] ((40 * (4 - k) + 13 * (TA - PhS S.1)) - 2) ((300 * (4 - k) + 55 * (TA - PhS S.1)) - 7) from ?_)
              refine g_pop (q := 133) B dX1_climbs_132 rfl (rv_c (rv_o _)) ?_
              refine g_goto (tgt := 19) B dX1_climbs_133 (by decide) ?_
              rw [if_pos ⟨rfl, c112⟩] at hC
              have hr_27 : BookP g b ((clm1 T l fm S k).1) bx z l19_1 := by rw [hC]; exact hl19_1
              have hr_28 : MoP g (BxE g) nd ((clm1 T l fm S k).2.2.2) (nn1 + (if S.2.2.2 (nab l (k + 1)) = none then 1 else 0)) u0_129 := by rw [hC]; exact hu0_129
              refine g_lvs (lv2 := [some (.ref x), some (.ref a), some (.ref t), some (.int (nI l)), some (.int (nI fm)), some (.int (nI sec)), some (.int (nI ((clm1 T l fm S k).2.1))), some (.int (nI (if (clm1 T l fm S k).2.2.1 = true then 1 else 0))), some (.ref it12), some (.int (nI (nab l (k + 1)))), some (.int (nI 1))]) (st2 := []) (by rw [hC]; rfl) rfl ?_
              have hy1 : PhS (clm1 T l fm S k).1 ≤ PhS (clmK T l fm ((ss, sec, false, pNd r) : CmS) T.1).1 := hSn.1
              have hy2 : PhS S.1 ≤ PhS (clm1 T l fm S k).1 := hAm.1
              refine (show Go g κ 19 [some (.ref x), some (.ref a), some (.ref t), some (.int (nI l)), some (.int (nI fm)), some (.int (nI sec)), some (.int (nI ((clm1 T l fm S k).2.1))), some (.int (nI (if (clm1 T l fm S k).2.2.1 = true then 1 else 0))), some (.ref it12), some (.int (nI (nab l (k + 1)))), some (.int (nI 1))] [] [[(x, .inr (0, [.ref b, .ref lp, .ref lk, .ref lr, .ref lt, .ref ls, .ref lm, .ref so, .int (nI bxs)]))], l19_1, [(a, .inr (2, [.int (nI (pNo r)), .ref ev, .ref pl, .int (oI (pEp r)), .int (nI (pLf r)), .ref nd, .int (nI (pOn r)), .int (nI (pKy r)), .ref ch, .int (oI (pRn r)), .ref x]))], v0, v1, v3, [(it12, .inr (22, [.int (nI (k + 1)), .int (nI k), .int md_2, .ref p9]))], u1_9, w3, u0_129] ((40 * (4 - k) + 13 * (TA - PhS S.1)) - 2) ((300 * (4 - k) + 55 * (TA - PhS S.1)) - 7) from ?_)
              refine g_fg 9 rfl ?_
              refine g_fg 10 rfl ?_
              refine g_pk [0, 0, 0, 0, 0, 4, 0, 2, 0, 0] rfl rfl ?_
              refine (show Go g κ 19 [some (.ref x), some (.ref a), some (.ref t), some (.int (nI l)), some (.int (nI fm)), some (.int (nI sec)), some (.int (nI ((clm1 T l fm S k).2.1))), some (.int (nI (if (clm1 T l fm S k).2.2.1 = true then 1 else 0))), some (.ref it12), none, none] [] [[(x, .inr (0, [.ref b, .ref lp, .ref lk, .ref lr, .ref lt, .ref ls, .ref lm, .ref so, .int (nI bxs)]))], l19_1, [(a, .inr (2, [.int (nI (pNo r)), .ref ev, .ref pl, .int (oI (pEp r)), .int (nI (pLf r)), .ref nd, .int (nI (pOn r)), .int (nI (pKy r)), .ref ch, .int (oI (pRn r)), .ref x]))], v0, v1, u0_129, v3, w3, [(it12, .inr (22, [.int (nI (k + 1)), .int (nI k), .int md_2, .ref p9]))], u1_9] ((40 * (4 - k) + 13 * (TA - PhS S.1)) - 2) ((300 * (4 - k) + 55 * (TA - PhS S.1)) - 7) from ?_)
              refine g_room (kc2 := 40 * (4 - (k + 1)) + 13 * (TA - PhS (clm1 T l fm S k).1)) (ks2 := 300 * (4 - (k + 1)) + 55 * (TA - PhS (clm1 T l fm S k).1)) (by omega) (by omega) ?_
              exact ih19 _ (by omega) (k + 1) (nI k) (clm1 T l fm S k) (nn1 + (if S.2.2.2 (nab l (k + 1)) = none then 1 else 0)) l19_1 u0_129 hr_27 hr_28 (by first | assumption | omega | rfl) (by rw [hS]; rfl) (by rw [hC]; first | exact hNb | exact fup_bd hNb (by first | exact hi1 | exact hi0)) rfl
        · skip
          have c60 := Classical.not_not.mp c60
          refine g_aload_n (q := 64) B dX1_climbs_63 rfl rfl (rv_r _) ?_
          refine g_iload (q := 66) B dX1_climbs_64 rfl rfl ?_
          refine g_callV (q := 69) (is := [7]) (kc2 := 40 * (4 - k) + 13 * (TA - PhS S.1)) (ks2 := 300 * (4 - k) + 55 * (TA - PhS S.1)) B [.int (nI (nab l (k + 1)))] (ct_X10_isBlank g J (t := t) (T := T) (n := (nab l (k + 1))) hw3 (by first | assumption | omega | rfl)) dX1_climbs_66 rfl (rc_in B (ci := 5) rfl (k := 7) rfl (TreeP.hm hw3)) rfl q1144 q1145 q1146 q123 q1147 rfl rfl moX10_isBlank rfl rfl (by decide) (by decide) (Nat.le_of_ble_eq_true rfl) (by omega) (by omega) (fun _ _ hx => noX_x hx) (fun v66 L1 hp66 => ?_)
          obtain ⟨rfl, rfl⟩ := hp66
          refine (show Go g κ 69 [some (.ref x), some (.ref a), some (.ref t), some (.int (nI l)), some (.int (nI fm)), some (.int (nI sec)), some (.int (nI S.2.1)), some (.int (nI (if S.2.2.1 = true then 1 else 0))), some (.ref it12), some (.int (nI (nab l (k + 1)))), some (.int (nI 1))] [.int (nI (if T.2.1 (nab l (k + 1)) = none then 1 else 0))] [[(x, .inr (0, [.ref b, .ref lp, .ref lk, .ref lr, .ref lt, .ref ls, .ref lm, .ref so, .int (nI bxs)]))], l19_1, [(a, .inr (2, [.int (nI (pNo r)), .ref ev, .ref pl, .int (oI (pEp r)), .int (nI (pLf r)), .ref nd, .int (nI (pOn r)), .int (nI (pKy r)), .ref ch, .int (oI (pRn r)), .ref x]))], v0, v1, l19_5, v3, [(it12, .inr (22, [.int (nI (k + 1)), .int (nI k), .int md_2, .ref p9]))], u1_9, w3] (40 * (4 - k) + 13 * (TA - PhS S.1)) (300 * (4 - k) + 55 * (TA - PhS S.1)) from ?_)
          refine g_if_ne (tgt := 84) (q := 72) B dX1_climbs_69 rfl (by decide) (bo_ne) (fun c69 => ?_) (fun c69 => ?_)
          · skip
            have hA := clmA_n (T := T) (n := (nab l (k + 1))) (S := S) (by rintro ⟨z1, z2⟩; first | exact c60 z1 | exact z2 c69)
            have hi0 : S.2.1 < 1000 := by omega
            refine g_iload (q := 86) B dX1_climbs_84 rfl rfl ?_
            refine g_if_ne (tgt := 94) (q := 89) B dX1_climbs_86 rfl (by decide) (bo_ne) (fun c86 => ?_) (fun c86 => ?_)
            · skip
              refine g_iconst (v := nI 1) (q := 95) B dX1_climbs_94 rfl (by decide) ?_
              refine g_goto (tgt := 99) B dX1_climbs_95 (by decide) ?_
              refine g_istore (q := 101) (lv2 := [some (.ref x), some (.ref a), some (.ref t), some (.int (nI l)), some (.int (nI fm)), some (.int (nI sec)), some (.int (nI S.2.1)), some (.int (nI 1)), some (.ref it12), some (.int (nI (nab l (k + 1)))), some (.int (nI 1))]) B dX1_climbs_99 rfl (Nat.le_of_ble_eq_true rfl) rfl ?_
              refine g_iload (q := 103) B dX1_climbs_101 rfl rfl ?_
              have hb : (S.2.2.1 || (nab l (k + 1)) == fm) = true := by first | (rw [show S.2.2.1 = true from c86]; rfl) | (rw [Classical.not_not.mp c48]; simp) | (rw [beq_iff_eq.mpr (Classical.not_not.mp c48), Bool.or_true])
              have hC := clm1_e (l := l) hA hb
              refine g_if_eq (tgt := 133) (q := 106) B dX1_climbs_103 rfl (by decide) (iff_false_intro (by decide)) (fun z => z.elim) (fun _ => ?_)
              refine g_aload_n (q := 107) B dX1_climbs_106 rfl rfl (rv_r _) ?_
              refine g_iload (q := 109) B dX1_climbs_107 rfl rfl ?_
              refine g_callV (q := 112) (is := [9]) (kc2 := 40 * (4 - k) + 13 * (TA - PhS S.1)) (ks2 := 300 * (4 - k) + 55 * (TA - PhS S.1)) B [.int (nI (nab l (k + 1)))] (ct_X10_isBlank g J (t := t) (T := T) (n := (nab l (k + 1))) hw3 (by first | assumption | omega | rfl)) dX1_climbs_109 rfl (rc_in B (ci := 5) rfl (k := 9) rfl (TreeP.hm hw3)) rfl q1144 q1145 q1146 q123 q1147 rfl rfl moX10_isBlank rfl rfl (by decide) (by decide) (Nat.le_of_ble_eq_true rfl) (by omega) (by omega) (fun _ _ hx => noX_x hx) (fun v109 L1 hp109 => ?_)
              obtain ⟨rfl, rfl⟩ := hp109
              refine (show Go g κ 112 [some (.ref x), some (.ref a), some (.ref t), some (.int (nI l)), some (.int (nI fm)), some (.int (nI sec)), some (.int (nI S.2.1)), some (.int (nI 1)), some (.ref it12), some (.int (nI (nab l (k + 1)))), some (.int (nI 1))] [.int (nI (if T.2.1 (nab l (k + 1)) = none then 1 else 0))] [[(x, .inr (0, [.ref b, .ref lp, .ref lk, .ref lr, .ref lt, .ref ls, .ref lm, .ref so, .int (nI bxs)]))], l19_1, [(a, .inr (2, [.int (nI (pNo r)), .ref ev, .ref pl, .int (oI (pEp r)), .int (nI (pLf r)), .ref nd, .int (nI (pOn r)), .int (nI (pKy r)), .ref ch, .int (oI (pRn r)), .ref x]))], v0, v1, l19_5, v3, [(it12, .inr (22, [.int (nI (k + 1)), .int (nI k), .int md_2, .ref p9]))], u1_9, w3] (40 * (4 - k) + 13 * (TA - PhS S.1)) (300 * (4 - k) + 55 * (TA - PhS S.1)) from ?_)
              refine g_if_ne (tgt := 133) (q := 115) B dX1_climbs_112 rfl (by decide) (bo_ne) (fun c112 => ?_) (fun c112 => ?_)
              · skip
                refine g_goto (tgt := 19) B dX1_climbs_133 (by decide) ?_
                rw [if_neg (fun z => z.2 c112)] at hC
                have hr_29 : BookP g b ((clm1 T l fm S k).1) bx z l19_1 := by rw [hC]; exact hl19_1
                have hr_30 : MoP g (BxE g) nd ((clm1 T l fm S k).2.2.2) nn1 l19_5 := by rw [hC]; exact hl19_5
                refine g_lvs (lv2 := [some (.ref x), some (.ref a), some (.ref t), some (.int (nI l)), some (.int (nI fm)), some (.int (nI sec)), some (.int (nI ((clm1 T l fm S k).2.1))), some (.int (nI (if (clm1 T l fm S k).2.2.1 = true then 1 else 0))), some (.ref it12), some (.int (nI (nab l (k + 1)))), some (.int (nI 1))]) (st2 := []) (by rw [hC]; rfl) rfl ?_
                have hy1 : PhS (clm1 T l fm S k).1 ≤ PhS (clmK T l fm ((ss, sec, false, pNd r) : CmS) T.1).1 := hSn.1
                have hy2 : PhS S.1 ≤ PhS (clm1 T l fm S k).1 := hAm.1
                refine (show Go g κ 19 [some (.ref x), some (.ref a), some (.ref t), some (.int (nI l)), some (.int (nI fm)), some (.int (nI sec)), some (.int (nI ((clm1 T l fm S k).2.1))), some (.int (nI (if (clm1 T l fm S k).2.2.1 = true then 1 else 0))), some (.ref it12), some (.int (nI (nab l (k + 1)))), some (.int (nI 1))] [] [[(x, .inr (0, [.ref b, .ref lp, .ref lk, .ref lr, .ref lt, .ref ls, .ref lm, .ref so, .int (nI bxs)]))], l19_1, [(a, .inr (2, [.int (nI (pNo r)), .ref ev, .ref pl, .int (oI (pEp r)), .int (nI (pLf r)), .ref nd, .int (nI (pOn r)), .int (nI (pKy r)), .ref ch, .int (oI (pRn r)), .ref x]))], v0, v1, l19_5, v3, [(it12, .inr (22, [.int (nI (k + 1)), .int (nI k), .int md_2, .ref p9]))], u1_9, w3] (40 * (4 - k) + 13 * (TA - PhS S.1)) (300 * (4 - k) + 55 * (TA - PhS S.1)) from ?_)
                refine g_fg 9 rfl ?_
                refine g_fg 10 rfl ?_
                refine g_pk [0, 0, 0, 0, 0, 0, 0, 2, 0, 0] rfl rfl ?_
                refine (show Go g κ 19 [some (.ref x), some (.ref a), some (.ref t), some (.int (nI l)), some (.int (nI fm)), some (.int (nI sec)), some (.int (nI ((clm1 T l fm S k).2.1))), some (.int (nI (if (clm1 T l fm S k).2.2.1 = true then 1 else 0))), some (.ref it12), none, none] [] [[(x, .inr (0, [.ref b, .ref lp, .ref lk, .ref lr, .ref lt, .ref ls, .ref lm, .ref so, .int (nI bxs)]))], l19_1, [(a, .inr (2, [.int (nI (pNo r)), .ref ev, .ref pl, .int (oI (pEp r)), .int (nI (pLf r)), .ref nd, .int (nI (pOn r)), .int (nI (pKy r)), .ref ch, .int (oI (pRn r)), .ref x]))], v0, v1, l19_5, v3, w3, [(it12, .inr (22, [.int (nI (k + 1)), .int (nI k), .int md_2, .ref p9]))], u1_9] (40 * (4 - k) + 13 * (TA - PhS S.1)) (300 * (4 - k) + 55 * (TA - PhS S.1)) from ?_)
                refine g_room (kc2 := 40 * (4 - (k + 1)) + 13 * (TA - PhS (clm1 T l fm S k).1)) (ks2 := 300 * (4 - (k + 1)) + 55 * (TA - PhS (clm1 T l fm S k).1)) (by omega) (by omega) ?_
                exact ih19 _ (by omega) (k + 1) (nI k) (clm1 T l fm S k) nn1 l19_1 l19_5 hr_29 hr_30 (by first | assumption | omega | rfl) (by rw [hS]; rfl) (by rw [hC]; first | exact hNb | exact fup_bd hNb (by first | exact hi1 | exact hi0)) rfl
              · skip
                exact absurd c69 c112
            · skip
              refine g_iload (q := 91) B dX1_climbs_89 rfl rfl ?_
              refine g_if_eq (tgt := 98) (q := 94) B dX1_climbs_91 rfl (by decide) (iff_false_intro (by decide)) (fun z => z.elim) (fun _ => ?_)
              refine g_iconst (v := nI 1) (q := 95) B dX1_climbs_94 rfl (by decide) ?_
              refine g_goto (tgt := 99) B dX1_climbs_95 (by decide) ?_
              refine g_istore (q := 101) (lv2 := [some (.ref x), some (.ref a), some (.ref t), some (.int (nI l)), some (.int (nI fm)), some (.int (nI sec)), some (.int (nI S.2.1)), some (.int (nI 1)), some (.ref it12), some (.int (nI (nab l (k + 1)))), some (.int (nI 1))]) B dX1_climbs_99 rfl (Nat.le_of_ble_eq_true rfl) rfl ?_
              refine g_iload (q := 103) B dX1_climbs_101 rfl rfl ?_
              have hb : (S.2.2.1 || (nab l (k + 1)) == fm) = true := by first | (rw [show S.2.2.1 = true from c86]; rfl) | (rw [Classical.not_not.mp c48]; simp) | (rw [beq_iff_eq.mpr (Classical.not_not.mp c48), Bool.or_true])
              have hC := clm1_e (l := l) hA hb
              refine g_if_eq (tgt := 133) (q := 106) B dX1_climbs_103 rfl (by decide) (iff_false_intro (by decide)) (fun z => z.elim) (fun _ => ?_)
              refine g_aload_n (q := 107) B dX1_climbs_106 rfl rfl (rv_r _) ?_
              refine g_iload (q := 109) B dX1_climbs_107 rfl rfl ?_
              refine g_callV (q := 112) (is := [9]) (kc2 := 40 * (4 - k) + 13 * (TA - PhS S.1)) (ks2 := 300 * (4 - k) + 55 * (TA - PhS S.1)) B [.int (nI (nab l (k + 1)))] (ct_X10_isBlank g J (t := t) (T := T) (n := (nab l (k + 1))) hw3 (by first | assumption | omega | rfl)) dX1_climbs_109 rfl (rc_in B (ci := 5) rfl (k := 9) rfl (TreeP.hm hw3)) rfl q1144 q1145 q1146 q123 q1147 rfl rfl moX10_isBlank rfl rfl (by decide) (by decide) (Nat.le_of_ble_eq_true rfl) (by omega) (by omega) (fun _ _ hx => noX_x hx) (fun v109 L1 hp109 => ?_)
              obtain ⟨rfl, rfl⟩ := hp109
              refine (show Go g κ 112 [some (.ref x), some (.ref a), some (.ref t), some (.int (nI l)), some (.int (nI fm)), some (.int (nI sec)), some (.int (nI S.2.1)), some (.int (nI 1)), some (.ref it12), some (.int (nI (nab l (k + 1)))), some (.int (nI 1))] [.int (nI (if T.2.1 (nab l (k + 1)) = none then 1 else 0))] [[(x, .inr (0, [.ref b, .ref lp, .ref lk, .ref lr, .ref lt, .ref ls, .ref lm, .ref so, .int (nI bxs)]))], l19_1, [(a, .inr (2, [.int (nI (pNo r)), .ref ev, .ref pl, .int (oI (pEp r)), .int (nI (pLf r)), .ref nd, .int (nI (pOn r)), .int (nI (pKy r)), .ref ch, .int (oI (pRn r)), .ref x]))], v0, v1, l19_5, v3, [(it12, .inr (22, [.int (nI (k + 1)), .int (nI k), .int md_2, .ref p9]))], u1_9, w3] (40 * (4 - k) + 13 * (TA - PhS S.1)) (300 * (4 - k) + 55 * (TA - PhS S.1)) from ?_)
              refine g_if_ne (tgt := 133) (q := 115) B dX1_climbs_112 rfl (by decide) (bo_ne) (fun c112 => ?_) (fun c112 => ?_)
              · skip
                refine g_goto (tgt := 19) B dX1_climbs_133 (by decide) ?_
                rw [if_neg (fun z => z.2 c112)] at hC
                have hr_31 : BookP g b ((clm1 T l fm S k).1) bx z l19_1 := by rw [hC]; exact hl19_1
                have hr_32 : MoP g (BxE g) nd ((clm1 T l fm S k).2.2.2) nn1 l19_5 := by rw [hC]; exact hl19_5
                refine g_lvs (lv2 := [some (.ref x), some (.ref a), some (.ref t), some (.int (nI l)), some (.int (nI fm)), some (.int (nI sec)), some (.int (nI ((clm1 T l fm S k).2.1))), some (.int (nI (if (clm1 T l fm S k).2.2.1 = true then 1 else 0))), some (.ref it12), some (.int (nI (nab l (k + 1)))), some (.int (nI 1))]) (st2 := []) (by rw [hC]; rfl) rfl ?_
                have hy1 : PhS (clm1 T l fm S k).1 ≤ PhS (clmK T l fm ((ss, sec, false, pNd r) : CmS) T.1).1 := hSn.1
                have hy2 : PhS S.1 ≤ PhS (clm1 T l fm S k).1 := hAm.1
                refine (show Go g κ 19 [some (.ref x), some (.ref a), some (.ref t), some (.int (nI l)), some (.int (nI fm)), some (.int (nI sec)), some (.int (nI ((clm1 T l fm S k).2.1))), some (.int (nI (if (clm1 T l fm S k).2.2.1 = true then 1 else 0))), some (.ref it12), some (.int (nI (nab l (k + 1)))), some (.int (nI 1))] [] [[(x, .inr (0, [.ref b, .ref lp, .ref lk, .ref lr, .ref lt, .ref ls, .ref lm, .ref so, .int (nI bxs)]))], l19_1, [(a, .inr (2, [.int (nI (pNo r)), .ref ev, .ref pl, .int (oI (pEp r)), .int (nI (pLf r)), .ref nd, .int (nI (pOn r)), .int (nI (pKy r)), .ref ch, .int (oI (pRn r)), .ref x]))], v0, v1, l19_5, v3, [(it12, .inr (22, [.int (nI (k + 1)), .int (nI k), .int md_2, .ref p9]))], u1_9, w3] (40 * (4 - k) + 13 * (TA - PhS S.1)) (300 * (4 - k) + 55 * (TA - PhS S.1)) from ?_)
                refine g_fg 9 rfl ?_
                refine g_fg 10 rfl ?_
                refine g_pk [0, 0, 0, 0, 0, 0, 0, 2, 0, 0] rfl rfl ?_
                refine (show Go g κ 19 [some (.ref x), some (.ref a), some (.ref t), some (.int (nI l)), some (.int (nI fm)), some (.int (nI sec)), some (.int (nI ((clm1 T l fm S k).2.1))), some (.int (nI (if (clm1 T l fm S k).2.2.1 = true then 1 else 0))), some (.ref it12), none, none] [] [[(x, .inr (0, [.ref b, .ref lp, .ref lk, .ref lr, .ref lt, .ref ls, .ref lm, .ref so, .int (nI bxs)]))], l19_1, [(a, .inr (2, [.int (nI (pNo r)), .ref ev, .ref pl, .int (oI (pEp r)), .int (nI (pLf r)), .ref nd, .int (nI (pOn r)), .int (nI (pKy r)), .ref ch, .int (oI (pRn r)), .ref x]))], v0, v1, l19_5, v3, w3, [(it12, .inr (22, [.int (nI (k + 1)), .int (nI k), .int md_2, .ref p9]))], u1_9] (40 * (4 - k) + 13 * (TA - PhS S.1)) (300 * (4 - k) + 55 * (TA - PhS S.1)) from ?_)
                refine g_room (kc2 := 40 * (4 - (k + 1)) + 13 * (TA - PhS (clm1 T l fm S k).1)) (ks2 := 300 * (4 - (k + 1)) + 55 * (TA - PhS (clm1 T l fm S k).1)) (by omega) (by omega) ?_
                exact ih19 _ (by omega) (k + 1) (nI k) (clm1 T l fm S k) nn1 l19_1 l19_5 hr_31 hr_32 (by first | assumption | omega | rfl) (by rw [hS]; rfl) (by rw [hC]; first | exact hNb | exact fup_bd hNb (by first | exact hi1 | exact hi0)) rfl
              · skip
                exact absurd c69 c112
          · skip
            obtain ⟨⟨q1, i1⟩, hq1⟩ : ∃ p, frm S.1 (S.2.1, none, 2) = p := ⟨_, rfl⟩
            have hA := clmA_y (n := (nab l (k + 1))) c60 c69 hq1
            rw [hA] at hAm hn1 hn2
            have hn1 : PhS q1 ≤ _ := hn1
            have hg9 := Ph_fr hq1
            have hi1 : i1 < 1000 := by have := hg9.2.2.2; have hn2 : q1.length ≤ _ := hn2; omega
            refine g_aload_n (q := 73) B dX1_climbs_72 rfl rfl (rv_r _) ?_
            refine g_get (q := 76) B (ci := 0) (k := 0) (j := 0) in_X1 rfl dX1_climbs_73 rfl rfl (Nat.le_of_ble_eq_true rfl) q277 rfl rfl ?_
            refine g_iload (q := 78) B dX1_climbs_76 rfl rfl ?_
            refine g_iconst (v := nI 2) (q := 79) B dX1_climbs_78 rfl (by decide) ?_
            refine g_callV (q := 82) (is := [1]) (kc2 := 20 + 40 * (3 - k) + 13 * (TA - PhS q1)) (ks2 := 100 + 300 * (3 - k) + 55 * (TA - PhS q1)) B [.int (nI S.2.1), .int (nI 2)] (ct_X2_from_p g J (b := b) (ss := S.1) (bx := bx) (z := z) (one := S.2.1) (l := 2) (s2 := q1) (i := i1) hl19_1 (hsk) (by omega) (Or.inl (by decide)) (hq1)) dX1_climbs_79 rfl (rc_in B (ci := 1) rfl (k := 1) rfl (BookP.hm hl19_1)) rfl q1229 q1230 q1231 q78 q1232 rfl rfl moX2_from rfl rfl (by decide) (by decide) (Nat.le_of_ble_eq_true rfl) (by omega) (by omega) (fun _ _ hx => noX_x hx) (fun v79 L1 hp79 => ?_)
            obtain ⟨u0_79, rfl, rfl, hu0_79, hph_79⟩ := hp79
            refine (show Go g κ 82 [some (.ref x), some (.ref a), some (.ref t), some (.int (nI l)), some (.int (nI fm)), some (.int (nI sec)), some (.int (nI S.2.1)), some (.int (nI (if S.2.2.1 = true then 1 else 0))), some (.ref it12), some (.int (nI (nab l (k + 1)))), some (.int (nI 1))] [.int (nI i1)] [[(x, .inr (0, [.ref b, .ref lp, .ref lk, .ref lr, .ref lt, .ref ls, .ref lm, .ref so, .int (nI bxs)]))], [(a, .inr (2, [.int (nI (pNo r)), .ref ev, .ref pl, .int (oI (pEp r)), .int (nI (pLf r)), .ref nd, .int (nI (pOn r)), .int (nI (pKy r)), .ref ch, .int (oI (pRn r)), .ref x]))], v0, v1, l19_5, v3, [(it12, .inr (22, [.int (nI (k + 1)), .int (nI k), .int md_2, .ref p9]))], u1_9, w3, u0_79] (20 + 40 * (3 - k) + 13 * (TA - PhS q1)) (100 + 300 * (3 - k) + 55 * (TA - PhS q1)) from ?_)
            refine g_istore (q := 84) (lv2 := [some (.ref x), some (.ref a), some (.ref t), some (.int (nI l)), some (.int (nI fm)), some (.int (nI sec)), some (.int (nI i1)), some (.int (nI (if S.2.2.1 = true then 1 else 0))), some (.ref it12), some (.int (nI (nab l (k + 1)))), some (.int (nI 1))]) B dX1_climbs_82 rfl (Nat.le_of_ble_eq_true rfl) rfl ?_
            refine g_iload (q := 86) B dX1_climbs_84 rfl rfl ?_
            refine g_if_ne (tgt := 94) (q := 89) B dX1_climbs_86 rfl (by decide) (bo_ne) (fun c86 => ?_) (fun c86 => ?_)
            · skip
              refine g_iconst (v := nI 1) (q := 95) B dX1_climbs_94 rfl (by decide) ?_
              refine g_goto (tgt := 99) B dX1_climbs_95 (by decide) ?_
              refine g_istore (q := 101) (lv2 := [some (.ref x), some (.ref a), some (.ref t), some (.int (nI l)), some (.int (nI fm)), some (.int (nI sec)), some (.int (nI i1)), some (.int (nI 1)), some (.ref it12), some (.int (nI (nab l (k + 1)))), some (.int (nI 1))]) B dX1_climbs_99 rfl (Nat.le_of_ble_eq_true rfl) rfl ?_
              refine g_iload (q := 103) B dX1_climbs_101 rfl rfl ?_
              have hb : (S.2.2.1 || (nab l (k + 1)) == fm) = true := by first | (rw [show S.2.2.1 = true from c86]; rfl) | (rw [Classical.not_not.mp c48]; simp) | (rw [beq_iff_eq.mpr (Classical.not_not.mp c48), Bool.or_true])
              have hC := clm1_e (l := l) hA hb
              refine g_if_eq (tgt := 133) (q := 106) B dX1_climbs_103 rfl (by decide) (iff_false_intro (by decide)) (fun z => z.elim) (fun _ => ?_)
              refine g_aload_n (q := 107) B dX1_climbs_106 rfl rfl (rv_r _) ?_
              refine g_iload (q := 109) B dX1_climbs_107 rfl rfl ?_
              refine g_callV (q := 112) (is := [8]) (kc2 := 20 + 40 * (3 - k) + 13 * (TA - PhS q1)) (ks2 := 100 + 300 * (3 - k) + 55 * (TA - PhS q1)) B [.int (nI (nab l (k + 1)))] (ct_X10_isBlank g J (t := t) (T := T) (n := (nab l (k + 1))) hw3 (by first | assumption | omega | rfl)) dX1_climbs_109 rfl (rc_in B (ci := 5) rfl (k := 8) rfl (TreeP.hm hw3)) rfl q1144 q1145 q1146 q123 q1147 rfl rfl moX10_isBlank rfl rfl (by decide) (by decide) (Nat.le_of_ble_eq_true rfl) (by omega) (by omega) (fun _ _ hx => noX_x hx) (fun v109 L1 hp109 => ?_)
              obtain ⟨rfl, rfl⟩ := hp109
              refine (show Go g κ 112 [some (.ref x), some (.ref a), some (.ref t), some (.int (nI l)), some (.int (nI fm)), some (.int (nI sec)), some (.int (nI i1)), some (.int (nI 1)), some (.ref it12), some (.int (nI (nab l (k + 1)))), some (.int (nI 1))] [.int (nI (if T.2.1 (nab l (k + 1)) = none then 1 else 0))] [[(x, .inr (0, [.ref b, .ref lp, .ref lk, .ref lr, .ref lt, .ref ls, .ref lm, .ref so, .int (nI bxs)]))], [(a, .inr (2, [.int (nI (pNo r)), .ref ev, .ref pl, .int (oI (pEp r)), .int (nI (pLf r)), .ref nd, .int (nI (pOn r)), .int (nI (pKy r)), .ref ch, .int (oI (pRn r)), .ref x]))], v0, v1, l19_5, v3, [(it12, .inr (22, [.int (nI (k + 1)), .int (nI k), .int md_2, .ref p9]))], u1_9, u0_79, w3] (20 + 40 * (3 - k) + 13 * (TA - PhS q1)) (100 + 300 * (3 - k) + 55 * (TA - PhS q1)) from ?_)
              refine g_if_ne (tgt := 133) (q := 115) B dX1_climbs_112 rfl (by decide) (bo_ne) (fun c112 => ?_) (fun c112 => ?_)
              · skip
                exact absurd c112 c69
              · skip
                refine g_aload_n (q := 116) B dX1_climbs_115 rfl rfl (rv_r _) ?_
                refine g_getN (q := 119) B (ci := 2) (k := 1) (j := 5) in_X4 rfl dX1_climbs_116 rfl rfl (Nat.le_of_ble_eq_true rfl) q1905 rfl rfl ?_
                refine g_iload (q := 121) B dX1_climbs_119 rfl rfl ?_
                refine g_callS (q := 124) (is := []) (kc2 := 20 + 40 * (3 - k) + 13 * (TA - PhS q1)) (ks2 := 100 + 300 * (3 - k) + 55 * (TA - PhS q1)) B [.int (nI (nab l (k + 1)))] (ct_J26_valueOf_k g J (k := (nab l (k + 1)))  (by omega)) dX1_climbs_121 rfl q685 q686 q111 q687 rfl rfl moJ26_valueOf rfl rfl (by decide) (by decide) (Nat.le_of_ble_eq_true rfl) (by omega) (by omega) (fun _ _ hx => noX_x hx) (fun v121 L1 hp121 => ?_)
                obtain ⟨rfl, rfl⟩ := hp121
                refine (show Go g κ 124 [some (.ref x), some (.ref a), some (.ref t), some (.int (nI l)), some (.int (nI fm)), some (.int (nI sec)), some (.int (nI i1)), some (.int (nI 1)), some (.ref it12), some (.int (nI (nab l (k + 1)))), some (.int (nI 1))] [.ref (kI g (nab l (k + 1))), .ref nd] [[(x, .inr (0, [.ref b, .ref lp, .ref lk, .ref lr, .ref lt, .ref ls, .ref lm, .ref so, .int (nI bxs)]))], [(a, .inr (2, [.int (nI (pNo r)), .ref ev, .ref pl, .int (oI (pEp r)), .int (nI (pLf r)), .ref nd, .int (nI (pOn r)), .int (nI (pKy r)), .ref ch, .int (oI (pRn r)), .ref x]))], v0, v1, l19_5, v3, [(it12, .inr (22, [.int (nI (k + 1)), .int (nI k), .int md_2, .ref p9]))], u1_9, u0_79, w3] (20 + 40 * (3 - k) + 13 * (TA - PhS q1)) (100 + 300 * (3 - k) + 55 * (TA - PhS q1)) from ?_)
                refine g_iload (q := 126) B dX1_climbs_124 rfl rfl ?_
                refine g_callS (q := 129) (is := []) (kc2 := (20 + 40 * (3 - k) + 13 * (TA - PhS q1)) - 1) (ks2 := (100 + 300 * (3 - k) + 55 * (TA - PhS q1)) - 1) B [.int (nI i1)] (ct_J26_valueOf g J (v := nI i1)  ) dX1_climbs_126 rfl q685 q686 q111 q687 rfl rfl moJ26_valueOf rfl rfl (by decide) (by decide) (Nat.le_of_ble_eq_true rfl) (by omega) (by omega) (fun _ _ hx => noX_x hx) (fun v126 L1 hp126 => ?_)
                obtain ⟨a126, u0_126, rfl, rfl, hu0_126⟩ := hp126
                refine (show Go g κ 129 [some (.ref x), some (.ref a), some (.ref t), some (.int (nI l)), some (.int (nI fm)), some (.int (nI sec)), some (.int (nI i1)), some (.int (nI 1)), some (.ref it12), some (.int (nI (nab l (k + 1)))), some (.int (nI 1))] [.ref a126, .ref (kI g (nab l (k + 1))), .ref nd] [[(x, .inr (0, [.ref b, .ref lp, .ref lk, .ref lr, .ref lt, .ref ls, .ref lm, .ref so, .int (nI bxs)]))], [(a, .inr (2, [.int (nI (pNo r)), .ref ev, .ref pl, .int (oI (pEp r)), .int (nI (pLf r)), .ref nd, .int (nI (pOn r)), .int (nI (pKy r)), .ref ch, .int (oI (pRn r)), .ref x]))], v0, v1, l19_5, v3, [(it12, .inr (22, [.int (nI (k + 1)), .int (nI k), .int md_2, .ref p9]))], u1_9, u0_79, w3, u0_126] ((20 + 40 * (3 - k) + 13 * (TA - PhS q1)) - 1) ((100 + 300 * (3 - k) + 55 * (TA - PhS q1)) - 1) from ?_)
                refine g_callV (q := 132) (is := [4, 9]) (kc2 := (20 + 40 * (3 - k) + 13 * (TA - PhS q1)) - 2) (ks2 := (100 + 300 * (3 - k) + 55 * (TA - PhS q1)) - 7) B [.ref (kI g (nab l (k + 1))), .ref a126] (ct_NmP_put g J (t := nd) (F := S.2.2.2) (n := nn1) (k := nab l (k + 1)) (a := a126) (r := i1) hl19_5 hu0_126 (by omega)) dX1_climbs_129 rfl (rc_in B (ci := 27) rfl (k := 4) rfl (MoP.hm hl19_5)) rfl q2084 q2085 q2086 q91 q2087 rfl rfl moJ10_put rfl rfl (by decide) (by decide) (Nat.le_of_ble_eq_true rfl) (by omega) (by omega) (fun _ _ hx => noX_x hx) (fun v129 L1 hp129 => ?_)
                obtain ⟨o129, u0_129, rfl, rfl, hu0_129⟩ := hp129
                refine (show Go g κ 132 [some (.ref x), some (.ref a), some (.ref t), some (.int (nI l)), some (.int (nI fm)), some (.int (nI sec)), some (.int (nI i1)), some (.int (nI 1)), some (.ref it12), some (.int (nI (nab l (k + 1)))), some (.int (nI 1))] [va_rf o129] [[(x, .inr (0, [.ref b, .ref lp, .ref lk, .ref lr, .ref lt, .ref ls, .ref lm, .ref so, .int (nI bxs)]))], [(a, .inr (2, [.int (nI (pNo r)), .ref ev, .ref pl, .int (oI (pEp r)), .int (nI (pLf r)), .ref nd, .int (nI (pOn r)), .int (nI (pKy r)), .ref ch, .int (oI (pRn r)), .ref x]))], v0, v1, v3, [(it12, .inr (22, [.int (nI (k + 1)), .int (nI k), .int md_2, .ref p9]))], u1_9, u0_79, w3, u0_129] ((20 + 40 * (3 - k) + 13 * (TA - PhS q1)) - 2) ((100 + 300 * (3 - k) + 55 * (TA - PhS q1)) - 7) from ?_)
                refine g_pop (q := 133) B dX1_climbs_132 rfl (rv_c (rv_o _)) ?_
                refine g_goto (tgt := 19) B dX1_climbs_133 (by decide) ?_
                rw [if_pos ⟨rfl, c112⟩] at hC
                have hr_33 : BookP g b ((clm1 T l fm S k).1) bx z u0_79 := by rw [hC]; exact hu0_79
                have hr_34 : MoP g (BxE g) nd ((clm1 T l fm S k).2.2.2) (nn1 + (if S.2.2.2 (nab l (k + 1)) = none then 1 else 0)) u0_129 := by rw [hC]; exact hu0_129
                refine g_lvs (lv2 := [some (.ref x), some (.ref a), some (.ref t), some (.int (nI l)), some (.int (nI fm)), some (.int (nI sec)), some (.int (nI ((clm1 T l fm S k).2.1))), some (.int (nI (if (clm1 T l fm S k).2.2.1 = true then 1 else 0))), some (.ref it12), some (.int (nI (nab l (k + 1)))), some (.int (nI 1))]) (st2 := []) (by rw [hC]; rfl) rfl ?_
                have hy1 : PhS (clm1 T l fm S k).1 ≤ PhS (clmK T l fm ((ss, sec, false, pNd r) : CmS) T.1).1 := hSn.1
                have hy2 : PhS (clm1 T l fm S k).1 = PhS q1 := by rw [hC]
                refine (show Go g κ 19 [some (.ref x), some (.ref a), some (.ref t), some (.int (nI l)), some (.int (nI fm)), some (.int (nI sec)), some (.int (nI ((clm1 T l fm S k).2.1))), some (.int (nI (if (clm1 T l fm S k).2.2.1 = true then 1 else 0))), some (.ref it12), some (.int (nI (nab l (k + 1)))), some (.int (nI 1))] [] [[(x, .inr (0, [.ref b, .ref lp, .ref lk, .ref lr, .ref lt, .ref ls, .ref lm, .ref so, .int (nI bxs)]))], [(a, .inr (2, [.int (nI (pNo r)), .ref ev, .ref pl, .int (oI (pEp r)), .int (nI (pLf r)), .ref nd, .int (nI (pOn r)), .int (nI (pKy r)), .ref ch, .int (oI (pRn r)), .ref x]))], v0, v1, v3, [(it12, .inr (22, [.int (nI (k + 1)), .int (nI k), .int md_2, .ref p9]))], u1_9, u0_79, w3, u0_129] ((20 + 40 * (3 - k) + 13 * (TA - PhS q1)) - 2) ((100 + 300 * (3 - k) + 55 * (TA - PhS q1)) - 7) from ?_)
                refine g_fg 9 rfl ?_
                refine g_fg 10 rfl ?_
                refine g_pk [0, 6, 0, 0, 0, 4, 0, 2, 0, 0] rfl rfl ?_
                refine (show Go g κ 19 [some (.ref x), some (.ref a), some (.ref t), some (.int (nI l)), some (.int (nI fm)), some (.int (nI sec)), some (.int (nI ((clm1 T l fm S k).2.1))), some (.int (nI (if (clm1 T l fm S k).2.2.1 = true then 1 else 0))), some (.ref it12), none, none] [] [[(x, .inr (0, [.ref b, .ref lp, .ref lk, .ref lr, .ref lt, .ref ls, .ref lm, .ref so, .int (nI bxs)]))], u0_79, [(a, .inr (2, [.int (nI (pNo r)), .ref ev, .ref pl, .int (oI (pEp r)), .int (nI (pLf r)), .ref nd, .int (nI (pOn r)), .int (nI (pKy r)), .ref ch, .int (oI (pRn r)), .ref x]))], v0, v1, u0_129, v3, w3, [(it12, .inr (22, [.int (nI (k + 1)), .int (nI k), .int md_2, .ref p9]))], u1_9] ((20 + 40 * (3 - k) + 13 * (TA - PhS q1)) - 2) ((100 + 300 * (3 - k) + 55 * (TA - PhS q1)) - 7) from ?_)
                refine g_room (kc2 := 40 * (4 - (k + 1)) + 13 * (TA - PhS (clm1 T l fm S k).1)) (ks2 := 300 * (4 - (k + 1)) + 55 * (TA - PhS (clm1 T l fm S k).1)) (by omega) (by omega) ?_
                exact ih19 _ (by omega) (k + 1) (nI k) (clm1 T l fm S k) (nn1 + (if S.2.2.2 (nab l (k + 1)) = none then 1 else 0)) u0_79 u0_129 hr_33 hr_34 (by first | assumption | omega | rfl) (by rw [hS]; rfl) (by rw [hC]; first | exact hNb | exact fup_bd hNb (by first | exact hi1 | exact hi0)) rfl
            · skip
              refine g_iload (q := 91) B dX1_climbs_89 rfl rfl ?_
              refine g_if_eq (tgt := 98) (q := 94) B dX1_climbs_91 rfl (by decide) (iff_false_intro (by decide)) (fun z => z.elim) (fun _ => ?_)
              refine g_iconst (v := nI 1) (q := 95) B dX1_climbs_94 rfl (by decide) ?_
              refine g_goto (tgt := 99) B dX1_climbs_95 (by decide) ?_
              refine g_istore (q := 101) (lv2 := [some (.ref x), some (.ref a), some (.ref t), some (.int (nI l)), some (.int (nI fm)), some (.int (nI sec)), some (.int (nI i1)), some (.int (nI 1)), some (.ref it12), some (.int (nI (nab l (k + 1)))), some (.int (nI 1))]) B dX1_climbs_99 rfl (Nat.le_of_ble_eq_true rfl) rfl ?_
              refine g_iload (q := 103) B dX1_climbs_101 rfl rfl ?_
              have hb : (S.2.2.1 || (nab l (k + 1)) == fm) = true := by first | (rw [show S.2.2.1 = true from c86]; rfl) | (rw [Classical.not_not.mp c48]; simp) | (rw [beq_iff_eq.mpr (Classical.not_not.mp c48), Bool.or_true])
              have hC := clm1_e (l := l) hA hb
              refine g_if_eq (tgt := 133) (q := 106) B dX1_climbs_103 rfl (by decide) (iff_false_intro (by decide)) (fun z => z.elim) (fun _ => ?_)
              refine g_aload_n (q := 107) B dX1_climbs_106 rfl rfl (rv_r _) ?_
              refine g_iload (q := 109) B dX1_climbs_107 rfl rfl ?_
              refine g_callV (q := 112) (is := [8]) (kc2 := 20 + 40 * (3 - k) + 13 * (TA - PhS q1)) (ks2 := 100 + 300 * (3 - k) + 55 * (TA - PhS q1)) B [.int (nI (nab l (k + 1)))] (ct_X10_isBlank g J (t := t) (T := T) (n := (nab l (k + 1))) hw3 (by first | assumption | omega | rfl)) dX1_climbs_109 rfl (rc_in B (ci := 5) rfl (k := 8) rfl (TreeP.hm hw3)) rfl q1144 q1145 q1146 q123 q1147 rfl rfl moX10_isBlank rfl rfl (by decide) (by decide) (Nat.le_of_ble_eq_true rfl) (by omega) (by omega) (fun _ _ hx => noX_x hx) (fun v109 L1 hp109 => ?_)
              obtain ⟨rfl, rfl⟩ := hp109
              refine (show Go g κ 112 [some (.ref x), some (.ref a), some (.ref t), some (.int (nI l)), some (.int (nI fm)), some (.int (nI sec)), some (.int (nI i1)), some (.int (nI 1)), some (.ref it12), some (.int (nI (nab l (k + 1)))), some (.int (nI 1))] [.int (nI (if T.2.1 (nab l (k + 1)) = none then 1 else 0))] [[(x, .inr (0, [.ref b, .ref lp, .ref lk, .ref lr, .ref lt, .ref ls, .ref lm, .ref so, .int (nI bxs)]))], [(a, .inr (2, [.int (nI (pNo r)), .ref ev, .ref pl, .int (oI (pEp r)), .int (nI (pLf r)), .ref nd, .int (nI (pOn r)), .int (nI (pKy r)), .ref ch, .int (oI (pRn r)), .ref x]))], v0, v1, l19_5, v3, [(it12, .inr (22, [.int (nI (k + 1)), .int (nI k), .int md_2, .ref p9]))], u1_9, u0_79, w3] (20 + 40 * (3 - k) + 13 * (TA - PhS q1)) (100 + 300 * (3 - k) + 55 * (TA - PhS q1)) from ?_)
              refine g_if_ne (tgt := 133) (q := 115) B dX1_climbs_112 rfl (by decide) (bo_ne) (fun c112 => ?_) (fun c112 => ?_)
              · skip
                exact absurd c112 c69
              · skip
                refine g_aload_n (q := 116) B dX1_climbs_115 rfl rfl (rv_r _) ?_
                refine g_getN (q := 119) B (ci := 2) (k := 1) (j := 5) in_X4 rfl dX1_climbs_116 rfl rfl (Nat.le_of_ble_eq_true rfl) q1905 rfl rfl ?_
                refine g_iload (q := 121) B dX1_climbs_119 rfl rfl ?_
                refine g_callS (q := 124) (is := []) (kc2 := 20 + 40 * (3 - k) + 13 * (TA - PhS q1)) (ks2 := 100 + 300 * (3 - k) + 55 * (TA - PhS q1)) B [.int (nI (nab l (k + 1)))] (ct_J26_valueOf_k g J (k := (nab l (k + 1)))  (by omega)) dX1_climbs_121 rfl q685 q686 q111 q687 rfl rfl moJ26_valueOf rfl rfl (by decide) (by decide) (Nat.le_of_ble_eq_true rfl) (by omega) (by omega) (fun _ _ hx => noX_x hx) (fun v121 L1 hp121 => ?_)
                obtain ⟨rfl, rfl⟩ := hp121
                refine (show Go g κ 124 [some (.ref x), some (.ref a), some (.ref t), some (.int (nI l)), some (.int (nI fm)), some (.int (nI sec)), some (.int (nI i1)), some (.int (nI 1)), some (.ref it12), some (.int (nI (nab l (k + 1)))), some (.int (nI 1))] [.ref (kI g (nab l (k + 1))), .ref nd] [[(x, .inr (0, [.ref b, .ref lp, .ref lk, .ref lr, .ref lt, .ref ls, .ref lm, .ref so, .int (nI bxs)]))], [(a, .inr (2, [.int (nI (pNo r)), .ref ev, .ref pl, .int (oI (pEp r)), .int (nI (pLf r)), .ref nd, .int (nI (pOn r)), .int (nI (pKy r)), .ref ch, .int (oI (pRn r)), .ref x]))], v0, v1, l19_5, v3, [(it12, .inr (22, [.int (nI (k + 1)), .int (nI k), .int md_2, .ref p9]))], u1_9, u0_79, w3] (20 + 40 * (3 - k) + 13 * (TA - PhS q1)) (100 + 300 * (3 - k) + 55 * (TA - PhS q1)) from ?_)
                refine g_iload (q := 126) B dX1_climbs_124 rfl rfl ?_
                refine g_callS (q := 129) (is := []) (kc2 := (20 + 40 * (3 - k) + 13 * (TA - PhS q1)) - 1) (ks2 := (100 + 300 * (3 - k) + 55 * (TA - PhS q1)) - 1) B [.int (nI i1)] (ct_J26_valueOf g J (v := nI i1)  ) dX1_climbs_126 rfl q685 q686 q111 q687 rfl rfl moJ26_valueOf rfl rfl (by decide) (by decide) (Nat.le_of_ble_eq_true rfl) (by omega) (by omega) (fun _ _ hx => noX_x hx) (fun v126 L1 hp126 => ?_)
                obtain ⟨a126, u0_126, rfl, rfl, hu0_126⟩ := hp126
                refine (show Go g κ 129 [some (.ref x), some (.ref a), some (.ref t), some (.int (nI l)), some (.int (nI fm)), some (.int (nI sec)), some (.int (nI i1)), some (.int (nI 1)), some (.ref it12), some (.int (nI (nab l (k + 1)))), some (.int (nI 1))] [.ref a126, .ref (kI g (nab l (k + 1))), .ref nd] [[(x, .inr (0, [.ref b, .ref lp, .ref lk, .ref lr, .ref lt, .ref ls, .ref lm, .ref so, .int (nI bxs)]))], [(a, .inr (2, [.int (nI (pNo r)), .ref ev, .ref pl, .int (oI (pEp r)), .int (nI (pLf r)), .ref nd, .int (nI (pOn r)), .int (nI (pKy r)), .ref ch, .int (oI (pRn r)), .ref x]))], v0, v1, l19_5, v3, [(it12, .inr (22, [.int (nI (k + 1)), .int (nI k), .int md_2, .ref p9]))], u1_9, u0_79, w3, u0_126] ((20 + 40 * (3 - k) + 13 * (TA - PhS q1)) - 1) ((100 + 300 * (3 - k) + 55 * (TA - PhS q1)) - 1) from ?_)
                refine g_callV (q := 132) (is := [4, 9]) (kc2 := (20 + 40 * (3 - k) + 13 * (TA - PhS q1)) - 2) (ks2 := (100 + 300 * (3 - k) + 55 * (TA - PhS q1)) - 7) B [.ref (kI g (nab l (k + 1))), .ref a126] (ct_NmP_put g J (t := nd) (F := S.2.2.2) (n := nn1) (k := nab l (k + 1)) (a := a126) (r := i1) hl19_5 hu0_126 (by omega)) dX1_climbs_129 rfl (rc_in B (ci := 27) rfl (k := 4) rfl (MoP.hm hl19_5)) rfl q2084 q2085 q2086 q91 q2087 rfl rfl moJ10_put rfl rfl (by decide) (by decide) (Nat.le_of_ble_eq_true rfl) (by omega) (by omega) (fun _ _ hx => noX_x hx) (fun v129 L1 hp129 => ?_)
                obtain ⟨o129, u0_129, rfl, rfl, hu0_129⟩ := hp129
                refine (show Go g κ 132 [some (.ref x), some (.ref a), some (.ref t), some (.int (nI l)), some (.int (nI fm)), some (.int (nI sec)), some (.int (nI i1)), some (.int (nI 1)), some (.ref it12), some (.int (nI (nab l (k + 1)))), some (.int (nI 1))] [va_rf o129] [[(x, .inr (0, [.ref b, .ref lp, .ref lk, .ref lr, .ref lt, .ref ls, .ref lm, .ref so, .int (nI bxs)]))], [(a, .inr (2, [.int (nI (pNo r)), .ref ev, .ref pl, .int (oI (pEp r)), .int (nI (pLf r)), .ref nd, .int (nI (pOn r)), .int (nI (pKy r)), .ref ch, .int (oI (pRn r)), .ref x]))], v0, v1, v3, [(it12, .inr (22, [.int (nI (k + 1)), .int (nI k), .int md_2, .ref p9]))], u1_9, u0_79, w3, u0_129] ((20 + 40 * (3 - k) + 13 * (TA - PhS q1)) - 2) ((100 + 300 * (3 - k) + 55 * (TA - PhS q1)) - 7) from ?_)
                refine g_pop (q := 133) B dX1_climbs_132 rfl (rv_c (rv_o _)) ?_
                refine g_goto (tgt := 19) B dX1_climbs_133 (by decide) ?_
                rw [if_pos ⟨rfl, c112⟩] at hC
                have hr_35 : BookP g b ((clm1 T l fm S k).1) bx z u0_79 := by rw [hC]; exact hu0_79
                have hr_36 : MoP g (BxE g) nd ((clm1 T l fm S k).2.2.2) (nn1 + (if S.2.2.2 (nab l (k + 1)) = none then 1 else 0)) u0_129 := by rw [hC]; exact hu0_129
                refine g_lvs (lv2 := [some (.ref x), some (.ref a), some (.ref t), some (.int (nI l)), some (.int (nI fm)), some (.int (nI sec)), some (.int (nI ((clm1 T l fm S k).2.1))), some (.int (nI (if (clm1 T l fm S k).2.2.1 = true then 1 else 0))), some (.ref it12), some (.int (nI (nab l (k + 1)))), some (.int (nI 1))]) (st2 := []) (by rw [hC]; rfl) rfl ?_
                have hy1 : PhS (clm1 T l fm S k).1 ≤ PhS (clmK T l fm ((ss, sec, false, pNd r) : CmS) T.1).1 := hSn.1
                have hy2 : PhS (clm1 T l fm S k).1 = PhS q1 := by rw [hC]
                refine (show Go g κ 19 [some (.ref x), some (.ref a), some (.ref t), some (.int (nI l)), some (.int (nI fm)), some (.int (nI sec)), some (.int (nI ((clm1 T l fm S k).2.1))), some (.int (nI (if (clm1 T l fm S k).2.2.1 = true then 1 else 0))), some (.ref it12), some (.int (nI (nab l (k + 1)))), some (.int (nI 1))] [] [[(x, .inr (0, [.ref b, .ref lp, .ref lk, .ref lr, .ref lt, .ref ls, .ref lm, .ref so, .int (nI bxs)]))], [(a, .inr (2, [.int (nI (pNo r)), .ref ev, .ref pl, .int (oI (pEp r)), .int (nI (pLf r)), .ref nd, .int (nI (pOn r)), .int (nI (pKy r)), .ref ch, .int (oI (pRn r)), .ref x]))], v0, v1, v3, [(it12, .inr (22, [.int (nI (k + 1)), .int (nI k), .int md_2, .ref p9]))], u1_9, u0_79, w3, u0_129] ((20 + 40 * (3 - k) + 13 * (TA - PhS q1)) - 2) ((100 + 300 * (3 - k) + 55 * (TA - PhS q1)) - 7) from ?_)
                refine g_fg 9 rfl ?_
                refine g_fg 10 rfl ?_
                refine g_pk [0, 6, 0, 0, 0, 4, 0, 2, 0, 0] rfl rfl ?_
                refine (show Go g κ 19 [some (.ref x), some (.ref a), some (.ref t), some (.int (nI l)), some (.int (nI fm)), some (.int (nI sec)), some (.int (nI ((clm1 T l fm S k).2.1))), some (.int (nI (if (clm1 T l fm S k).2.2.1 = true then 1 else 0))), some (.ref it12), none, none] [] [[(x, .inr (0, [.ref b, .ref lp, .ref lk, .ref lr, .ref lt, .ref ls, .ref lm, .ref so, .int (nI bxs)]))], u0_79, [(a, .inr (2, [.int (nI (pNo r)), .ref ev, .ref pl, .int (oI (pEp r)), .int (nI (pLf r)), .ref nd, .int (nI (pOn r)), .int (nI (pKy r)), .ref ch, .int (oI (pRn r)), .ref x]))], v0, v1, u0_129, v3, w3, [(it12, .inr (22, [.int (nI (k + 1)), .int (nI k), .int md_2, .ref p9]))], u1_9] ((20 + 40 * (3 - k) + 13 * (TA - PhS q1)) - 2) ((100 + 300 * (3 - k) + 55 * (TA - PhS q1)) - 7) from ?_)
                refine g_room (kc2 := 40 * (4 - (k + 1)) + 13 * (TA - PhS (clm1 T l fm S k).1)) (ks2 := 300 * (4 - (k + 1)) + 55 * (TA - PhS (clm1 T l fm S k).1)) (by omega) (by omega) ?_
                exact ih19 _ (by omega) (k + 1) (nI k) (clm1 T l fm S k) (nn1 + (if S.2.2.2 (nab l (k + 1)) = none then 1 else 0)) u0_79 u0_129 hr_35 hr_36 (by first | assumption | omega | rfl) (by rw [hS]; rfl) (by rw [hC]; first | exact hNb | exact fup_bd hNb (by first | exact hi1 | exact hi0)) rfl
  have hq42 : PhS ((ss, sec, false, pNd r) : CmS).1 = PhS ss := rfl
  refine g_room (kc2 := 40 * (4 - 0) + 13 * (TA - PhS ((ss, sec, false, pNd r) : CmS).1)) (ks2 := 300 * (4 - 0) + 55 * (TA - PhS ((ss, sec, false, pNd r) : CmS).1)) (by omega) (by omega) ?_
  exact lp19 _ 0 (-1) ((ss, sec, false, pNd r) : CmS) nn w1 v2 hw1 hv2 (Nat.zero_le _) (rfl) (hp6) rfl
