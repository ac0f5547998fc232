set_option maxRecDepth 100000
theorem moJ2_remove : Mo yJ2_remove 1 := by
  refine ⟨by decide, by decide, by decide +kernel⟩
theorem ct_J19_remove (g : Gv) (J : Jd g) {p : Nat} {xs : List Nat} {md : Int32} {cap : Nat} {it : Nat} {k : Nat} {c : Nat} {x : Nat} {w1 : va_W} {we : va_W} (hw1 : ListP g p xs md cap w1) (hi : xs[k]? = some x) (he : EltP g xs we) : Ct g yJ19_remove (wsW_ yJ19_remove cJ19_remove 2 none [(19, 55, 58, 51)]) 4 0 0 [.ref it] [[(it, .inr (22, [.int (nI c), .int (nI k), .int md, .ref p]))], w1, we] (fun (rv_ : Option Value) (rL_ : List va_W) => ∃ (md2 : Int32) (u1 : va_W), rv_ = none ∧ rL_ = [[(it, .inr (22, [.int (nI k), .int (-1), .int md2, .ref p]))], u1, we] ∧ ListP g p (xs.eraseIdx k) md2 cap u1) noX := by
  refine Ct.ofW "java/util/ArrayList$Itr" [some (.ref it), none] rfl (by decide) rfl (Nat.le_of_ble_eq_true rfl) rfl ?_
  intro κ B E tb
  have hlt := get_lt2 hi
  have hlen := ListP.len hw1
  refine g_aload_n (q := 1) B dJ19_remove_0 rfl rfl (rv_r _) ?_
  refine g_get (q := 4) B (ci := 22) (k := 0) (j := 1) in_J19 rfl dJ19_remove_1 rfl rfl (Nat.le_of_ble_eq_true rfl) q815 rfl rfl ?_
  refine g_if_ge (tgt := 15) (q := 7) B dJ19_remove_4 rfl (by decide) (iff_true_intro (nI_pos' (by omega))) (fun _ => ?_) (fun z => absurd trivial z)
  refine g_aload_n (q := 16) B dJ19_remove_15 rfl rfl (rv_r _) ?_
  refine g_callV (q := 19) (is := [0, 0]) (kc2 := 0) (ks2 := 0) B [] (ct_J19_checkForComodification g J (p := p) (xs := xs) (md := md) (cap := cap) (it := it) (c := c) (lr := nI k) hw1 ) dJ19_remove_16 rfl (rc_at B (ci := 22) rfl (k := 0) rfl) rfl q972 q973 q974 q104 q975 rfl rfl moJ19_checkForComodification rfl rfl (by decide) (by decide) (Nat.le_of_ble_eq_true rfl) (Nat.le_of_ble_eq_true rfl) (Nat.le_of_ble_eq_true rfl) (fun _ _ hx => noX_x hx) (fun v16 L1 hp16 => ?_)
  obtain ⟨rfl, rfl⟩ := hp16
  refine (show Go g κ 19 [some (.ref it), none] [] [we, [(it, .inr (22, [.int (nI c), .int (nI k), .int md, .ref p]))], w1] 0 0 from ?_)
  refine g_aload_n (q := 20) B dJ19_remove_19 rfl rfl (rv_r _) ?_
  refine g_get (q := 23) B (ci := 22) (k := 1) (j := 3) in_J19 rfl dJ19_remove_20 rfl rfl (Nat.le_of_ble_eq_true rfl) q817 rfl rfl ?_
  refine g_aload_n (q := 24) B dJ19_remove_23 rfl rfl (rv_r _) ?_
  refine g_get (q := 27) B (ci := 22) (k := 1) (j := 1) in_J19 rfl dJ19_remove_24 rfl rfl (Nat.le_of_ble_eq_true rfl) q815 rfl rfl ?_
  refine g_callV (q := 30) (is := [2, 0]) (kc2 := 0) (ks2 := 0) B [.int (nI k)] (ct_J2_remove g J (p := p) (xs := xs) (md := md) (cap := cap) (i := k) (x := x) (we := we) hw1 (hi) (he)) dJ19_remove_27 rfl (rc_in B (ci := 21) rfl (k := 2) rfl (ListP.hm hw1)) rfl q2252 q2253 q2254 q81 q2255 rfl rfl moJ2_remove rfl rfl (by decide) (by decide) (Nat.le_of_ble_eq_true rfl) (Nat.le_of_ble_eq_true rfl) (Nat.le_of_ble_eq_true rfl) (fun _ _ hx => noX_x hx) (fun v27 L1 hp27 => ?_)
  obtain ⟨md227, u0_27, rfl, rfl, hu0_27⟩ := hp27
  refine (show Go g κ 30 [some (.ref it), none] [.ref x] [[(it, .inr (22, [.int (nI c), .int (nI k), .int md, .ref p]))], u0_27, we] 0 0 from ?_)
  refine g_pop (q := 31) B dJ19_remove_30 rfl rfl ?_
  refine g_aload_n (q := 32) B dJ19_remove_31 rfl rfl (rv_r _) ?_
  refine g_aload_n (q := 33) B dJ19_remove_32 rfl rfl (rv_r _) ?_
  refine g_get (q := 36) B (ci := 22) (k := 0) (j := 1) in_J19 rfl dJ19_remove_33 rfl rfl (Nat.le_of_ble_eq_true rfl) q815 rfl rfl ?_
  refine g_put (q := 39) (L2 := [[(it, .inr (22, [.int (nI k), .int (nI k), .int md, .ref p]))], u0_27, we]) B (ci := 22) (k := 0) (j := 0) in_J19 tyJ19 tyJ19_ok nmJ19 rfl dJ19_remove_36 rfl rfl (Nat.le_of_ble_eq_true rfl) q814 rfl rfl rfl rfl (Nat.le_of_ble_eq_true rfl) rfl ?_
  refine g_aload_n (q := 40) B dJ19_remove_39 rfl rfl (rv_r _) ?_
  refine g_iconst (v := -1) (q := 41) B dJ19_remove_40 rfl (by decide) ?_
  refine g_put (q := 44) (L2 := [[(it, .inr (22, [.int (nI k), .int (-1), .int md, .ref p]))], u0_27, we]) B (ci := 22) (k := 0) (j := 1) in_J19 tyJ19 tyJ19_ok nmJ19 rfl dJ19_remove_41 rfl rfl (Nat.le_of_ble_eq_true rfl) q815 rfl rfl rfl rfl (Nat.le_of_ble_eq_true rfl) rfl ?_
  refine g_aload_n (q := 45) B dJ19_remove_44 rfl rfl (rv_r _) ?_
  refine g_aload_n (q := 46) B dJ19_remove_45 rfl rfl (rv_r _) ?_
  have hlen_q := ListP.len hu0_27
  obtain ⟨arr_q, hpk_q, hpa_q⟩ := ListP.cell hu0_27
  refine g_get (q := 49) B (ci := 22) (k := 0) (j := 3) in_J19 rfl dJ19_remove_46 rfl rfl (Nat.le_of_ble_eq_true rfl) q817 rfl rfl ?_
  refine g_getSM (q := 52) B (ci := 21) (k := 1) (j := 0) in_J2 rfl dJ19_remove_49 rfl rfl (hpk_q) (Nat.le_of_ble_eq_true rfl) q184 q185 rfl ?_
  refine g_put (q := 55) (L2 := [[(it, .inr (22, [.int (nI k), .int (-1), .int md227, .ref p]))], u0_27, we]) B (ci := 22) (k := 0) (j := 2) in_J19 tyJ19 tyJ19_ok nmJ19 rfl dJ19_remove_52 rfl rfl (Nat.le_of_ble_eq_true rfl) q816 rfl rfl rfl rfl (Nat.le_of_ble_eq_true rfl) rfl ?_
  refine g_goto (tgt := 67) B dJ19_remove_55 (by decide) ?_
  exact g_vret B E dJ19_remove_67 (⟨md227, u0_27, rfl, rfl, hu0_27⟩)
theorem moX2_box : Mo yX2_box 2 := by
  refine ⟨by decide, by decide, by decide +kernel⟩
theorem ct_X1_boxes_2 (g : Gv) (J : Jd g) {x : Nat} {lk : Nat} {b : Nat} {lp : Nat} {lr : Nat} {lt : Nat} {ls : Nat} {lm : Nat} {so : Nat} {bxs : Nat} {ss : List Sec} {bx : List (Nat × Nat)} {z : Int32} {h : Nat} {c : Nat} {s2 : List Sec} {i : Nat} {w1 : va_W} (hw1 : BookP g b ss bx z w1) (hl : ss.length < 999) (hh : h < ss.length) (hc : c < ss.length) (hbl : bx.length < 2000) (hbn : bxs < 100000) (hf : frm ss (h, none, 1) = (s2, i)) : Ct g yX1_boxes_2 (ws_ yX1_boxes_2 cX1_boxes_2 3 none) 13 (24 + 13 * (PhS s2 - PhS ss)) (172 + 55 * (PhS s2 - PhS ss) + 8 * (capF (bx.length + 1) - capF bx.length)) [.ref x, .int (nI h), .int (nI c)] [[(x, .inr (0, [.ref b, .ref lp, .ref lk, .ref lr, .ref lt, .ref ls, .ref lm, .ref so, .int (nI bxs)]))], w1] (fun (rv_ : Option Value) (rL_ : List va_W) => ∃ (u1 : va_W), rv_ = none ∧ rL_ = [[(x, .inr (0, [.ref b, .ref lp, .ref lk, .ref lr, .ref lt, .ref ls, .ref lm, .ref so, .int (nI (bxs + 1))]))], u1] ∧ BookP g b s2 (bx ++ [(i, c)]) z u1 ∧ (PhS ss ≤ PhS s2 ∧ ss.length ≤ s2.length ∧ s2.length ≤ ss.length + 1 ∧ i < s2.length)) noX := by
  refine Ct.of "Keygrove" [some (.ref x), some (.int (nI h)), some (.int (nI c))] rfl (by decide) rfl (Nat.le_of_ble_eq_true rfl) rfl ?_
  intro κ B E tb
  refine g_aload_n (q := 1) B dX1_boxes_2_0 rfl rfl (rv_r _) ?_
  refine g_get (q := 4) B (ci := 0) (k := 0) (j := 0) in_X1 rfl dX1_boxes_2_1 rfl rfl (Nat.le_of_ble_eq_true rfl) q277 rfl rfl ?_
  refine g_aload_n (q := 5) B dX1_boxes_2_4 rfl rfl (rv_r _) ?_
  refine g_get (q := 8) B (ci := 0) (k := 0) (j := 0) in_X1 rfl dX1_boxes_2_5 rfl rfl (Nat.le_of_ble_eq_true rfl) q277 rfl rfl ?_
  refine g_iload_n (q := 9) B dX1_boxes_2_8 rfl rfl ?_
  refine g_iconst (v := nI 1) (q := 10) B dX1_boxes_2_9 rfl (by decide) ?_
  refine g_callV (q := 13) (is := [1]) (kc2 := 4) (ks2 := 2 + 8 * (capF (bx.length + 1) - capF bx.length)) B [.int (nI h), .int (nI 1)] (ct_X2_from_p g J (b := b) (ss := ss) (bx := bx) (z := z) (one := h) (l := 1) (s2 := s2) (i := i) hw1 (by first | assumption | omega | rfl) (by first | assumption | omega | rfl) (Or.inl (by decide)) (hf)) dX1_boxes_2_10 rfl (rc_in B (ci := 1) rfl (k := 1) rfl (BookP.hm hw1)) rfl q1229 q1230 q1231 q78 q1232 rfl rfl moX2_from rfl rfl (by decide) (by decide) (Nat.le_of_ble_eq_true rfl) (by omega) (by omega) (fun _ _ hx => noX_x hx) (fun v10 L1 hp10 => ?_)
  obtain ⟨u0_10, rfl, rfl, hu0_10, hph_10⟩ := hp10
  refine (show Go g κ 13 [some (.ref x), some (.int (nI h)), some (.int (nI c))] [.int (nI i), .ref b] [[(x, .inr (0, [.ref b, .ref lp, .ref lk, .ref lr, .ref lt, .ref ls, .ref lm, .ref so, .int (nI bxs)]))], u0_10] 4 (2 + 8 * (capF (bx.length + 1) - capF bx.length)) from ?_)
  refine g_iload_n (q := 14) B dX1_boxes_2_13 rfl rfl ?_
  refine g_callV (q := 17) (is := [1]) (kc2 := 0) (ks2 := 0) B [.int (nI i), .int (nI c)] (ct_X2_box g J (b := b) (ss := s2) (bx := bx) (z := z) (o := i) (c := c) hu0_10 (by omega) (by omega) (by first | assumption | omega | rfl)) dX1_boxes_2_14 rfl (rc_in B (ci := 1) rfl (k := 1) rfl (BookP.hm hu0_10)) rfl q2583 q2584 q2585 q78 q2586 rfl rfl moX2_box rfl rfl (by decide) (by decide) (Nat.le_of_ble_eq_true rfl) (Nat.le_of_ble_eq_true rfl) (by omega) (fun _ _ hx => noX_x hx) (fun v14 L1 hp14 => ?_)
  obtain ⟨u0_14, rfl, rfl, hu0_14⟩ := hp14
  refine (show Go g κ 17 [some (.ref x), some (.int (nI h)), some (.int (nI c))] [] [[(x, .inr (0, [.ref b, .ref lp, .ref lk, .ref lr, .ref lt, .ref ls, .ref lm, .ref so, .int (nI bxs)]))], u0_14] 0 0 from ?_)
  refine g_aload_n (q := 18) B dX1_boxes_2_17 rfl rfl (rv_r _) ?_
  refine g_dup (q := 19) B dX1_boxes_2_18 rfl rfl ?_
  refine g_get (q := 22) B (ci := 0) (k := 0) (j := 8) in_X1 rfl dX1_boxes_2_19 rfl rfl (Nat.le_of_ble_eq_true rfl) q286 rfl rfl ?_
  refine g_iconst (v := nI 1) (q := 23) B dX1_boxes_2_22 rfl (by decide) ?_
  refine g_iadd (v := nI (bxs + 1)) (q := 24) B dX1_boxes_2_23 rfl (nI_add _ _) ?_
  refine g_put (q := 27) (L2 := [[(x, .inr (0, [.ref b, .ref lp, .ref lk, .ref lr, .ref lt, .ref ls, .ref lm, .ref so, .int (nI (bxs + 1))]))], u0_14]) B (ci := 0) (k := 0) (j := 8) in_X1 tyX1 tyX1_ok nmX1 rfl dX1_boxes_2_24 rfl rfl (Nat.le_of_ble_eq_true rfl) q286 rfl rfl rfl rfl (Nat.le_of_ble_eq_true rfl) rfl ?_
  exact g_vret B E dX1_boxes_2_27 (⟨_, rfl, rfl, hu0_14, hph_10⟩)
def mtQ (T : TrS) (o n : Nat) : Bool := (T.2.1 n).isSome && cvr n o
def mtg (T : TrS) (l o : Nat) : Option Nat := (wayD T.1 l).find? (mtQ T o)
theorem fnd_tk {α : Type} {l : List α} {f : α → Bool} {k : Nat} {r : α} (h : l[k]? = some r) : (l.take (k + 1)).find? f = ((l.take k).find? f).or (if f r = true then some r else none) := by
  rw [List.take_add_one, h, List.find?_append]
  cases hf : f r <;> simp [hf]
theorem ct_X1_meeting (g : Gv) (J : Jd g) {t : Nat} {T : TrS} {l : Nat} {o : Nat} {w0 : va_W} (hw0 : TreeP g t T w0) (hl : l < 2 ^ T.1) (ho : o < 16) : Ct g yX1_meeting (ws_ yX1_meeting cX1_meeting 6 (some .int)) 8 3 17 [.ref t, .int (nI l), .int (nI o)] [w0] (fun (rv_ : Option Value) (rL_ : List va_W) => rv_ = some (.int (oI (mtg T l o))) ∧ rL_ = [w0]) noX := by
  refine Ct.of "Keygrove" [some (.ref t), some (.int (nI l)), some (.int (nI o)), none, none, none] rfl (by decide) rfl (Nat.le_of_ble_eq_true rfl) rfl ?_
  intro κ B E tb
  have hB := TreeP.b hw0
  have hp2 := p2_4 hB.1
  have hd4 := hB.1
  have hwl := wayD_len T.1 l
  refine g_iconst (v := -1) (q := 1) B dX1_meeting_0 rfl (by decide) ?_
  refine g_istore_n (q := 2) (lv2 := [some (.ref t), some (.int (nI l)), some (.int (nI o)), some (.int (-1)), none, none]) B dX1_meeting_1 rfl (Nat.le_of_ble_eq_true rfl) rfl ?_
  refine g_aload_n (q := 3) B dX1_meeting_2 rfl rfl (rv_r _) ?_
  refine g_iload_n (q := 4) B dX1_meeting_3 rfl rfl ?_
  refine g_callV (q := 7) (is := [0]) (kc2 := 1) (ks2 := 4) B [.int (nI l)] (ct_X10_way g J (t := t) (T := T) (l := l) hw0 (by first | assumption | omega | rfl)) dX1_meeting_4 rfl (rc_in B (ci := 5) rfl (k := 0) rfl (TreeP.hm hw0)) rfl q2560 q2495 q2496 q123 q2497 rfl rfl moX10_way rfl rfl (by decide) (by decide) (Nat.le_of_ble_eq_true rfl) (Nat.le_of_ble_eq_true rfl) (Nat.le_of_ble_eq_true rfl) (fun _ _ hx => noX_x hx) (fun v4 L1 hp4 => ?_)
  obtain ⟨p4, cap4, u1_4, rfl, rfl, hu1_4, hcp_4⟩ := hp4
  refine (show Go g κ 7 [some (.ref t), some (.int (nI l)), some (.int (nI o)), some (.int (-1)), none, none] [.ref p4] [w0, u1_4] 1 4 from ?_)
  obtain ⟨ps_1, md_1, hli_1, hln_1, hel_1⟩ := LhP.at (Sub.self hu1_4)
  refine g_callF (q := 12) (is := [1]) (kc2 := 0) (ks2 := 0) B [] (ct_J2_iterator_s g J (p := p4) (xs := ps_1) (md := md_1) (cap := cap4) (W0 := u1_4)  (hli_1)) dX1_meeting_7 rfl (ci := 21) rfl (rc_in B (ci := 21) rfl (k := 1) rfl (LhP.hm hu1_4)) q1153 q1156 q805 q81 q807 q1155 q1154 q806 q804 q318 rfl rfl mojava_util_List_iterator___Ljava_util_Iterator_ rfl rfl (by decide) (by decide) (Nat.le_of_ble_eq_true rfl) (Nat.le_of_ble_eq_true rfl) (Nat.le_of_ble_eq_true rfl) (fun _ _ hx => noX_x hx) (fun v7 L1 hp7 => ?_)
  obtain ⟨it7, rfl, rfl⟩ := hp7
  refine (show Go g κ 12 [some (.ref t), some (.int (nI l)), some (.int (nI o)), some (.int (-1)), none, none] [.ref it7] [w0, [(it7, .inr (22, [.int (nI 0), .int (-1), .int md_1, .ref p4]))], u1_4] 0 0 from ?_)
  refine g_astore (q := 14) (lv2 := [some (.ref t), some (.int (nI l)), some (.int (nI o)), some (.int (-1)), some (.ref it7), none]) B dX1_meeting_12 rfl (Nat.le_of_ble_eq_true rfl) (rv_r _) rfl ?_
  have lp14 : ∀ (n14 : Nat) (k : Nat) (lrt : Int32) (fo : Option Nat) , (k ≤ (wayD T.1 l).length) → (fo = ((wayD T.1 l).take k).find? (mtQ T o)) → (∀ n, fo = some n → n < 31) → (wayD T.1 l).length - k = n14 → Go g κ 14 [some (.ref t), some (.int (nI l)), some (.int (nI o)), some (.int (oI fo)), some (.ref it7), none] [] [w0, [(it7, .inr (22, [.int (nI k), .int lrt, .int md_1, .ref p4]))], u1_4] 0 0 := by
    intro n14
    induction n14 using Nat.strongRecOn with
    | _ n14 ih14 =>
    intro k lrt fo  hk hfo hfb hmu14
    refine g_aload (q := 16) B dX1_meeting_14 rfl rfl (rv_r _) ?_
    refine g_callF (q := 21) (is := [1, 1]) (kc2 := 0) (ks2 := 0) B [] (ct_J19_hasNext_s g J (p := p4) (xs := ps_1) (md := md_1) (cap := cap4) (it := it7) (c := k) (lr := lrt) (W1 := u1_4)  (hli_1) (by have := hln_1.1; omega)) dX1_meeting_16 rfl (ci := 22) rfl (rc_at B (ci := 22) rfl (k := 1) rfl) q1158 q940 q942 q104 q944 q938 q937 q943 q941 q939 rfl rfl mojava_util_Iterator_hasNext___Z rfl rfl (by decide) (by decide) (Nat.le_of_ble_eq_true rfl) (Nat.le_of_ble_eq_true rfl) (Nat.le_of_ble_eq_true rfl) (fun _ _ hx => noX_x hx) (fun v16 L1 hp16 => ?_)
    obtain ⟨rfl, rfl⟩ := hp16
    refine (show Go g κ 21 [some (.ref t), some (.int (nI l)), some (.int (nI o)), some (.int (oI fo)), some (.ref it7), none] [.int (nI (if ¬ k = ps_1.length then 1 else 0))] [w0, [(it7, .inr (22, [.int (nI k), .int lrt, .int md_1, .ref p4]))], u1_4] 0 0 from ?_)
    rw [hln_1.1]
    refine (show Go g κ 21 [some (.ref t), some (.int (nI l)), some (.int (nI o)), some (.int (oI fo)), some (.ref it7), none] [.int (nI (if ¬ k = (wayD T.1 l).length then 1 else 0))] [w0, [(it7, .inr (22, [.int (nI k), .int lrt, .int md_1, .ref p4]))], u1_4] 0 0 from ?_)
    refine g_if_eq (tgt := 72) (q := 24) B dX1_meeting_21 rfl (by decide) (bo_eq) (fun c21 => ?_) (fun c21 => ?_)
    · skip
      refine g_iload_n (q := 73) B dX1_meeting_72 rfl rfl ?_
      refine g_pk [0] rfl rfl ?_
      refine (show Go g κ 73 [some (.ref t), some (.int (nI l)), some (.int (nI o)), some (.int (oI fo)), some (.ref it7), none] [.int (oI fo)] [w0] 0 0 from ?_)
      exact g_iret B E dX1_meeting_73 (⟨by have h9 := hfo; rw [show k = (wayD T.1 l).length by omega, List.take_length] at h9; unfold mtg; rw [← h9], rfl⟩)
    · skip
      have c21 := Classical.not_not.mp c21
      refine g_aload (q := 26) B dX1_meeting_24 rfl rfl (rv_r _) ?_
      obtain ⟨x26, hx26⟩ := get_ex (xs := ps_1) (i := k) (by have := get_lt2 (show (wayD T.1 l)[k]? = some (nab l (k + 1)) from (wayD_get (by omega))); have := hln_1.1; omega)
      have hb_2 := Sub.box (hel_1 _ _ _ hx26 (show (wayD T.1 l)[k]? = some (nab l (k + 1)) from (wayD_get (by omega))))
      refine g_callF (q := 31) (is := [1, 1]) (kc2 := 0) (ks2 := 0) B [] (ct_J19_next_s g J (p := p4) (xs := ps_1) (md := md_1) (cap := cap4) (it := it7) (c := k) (lr := lrt) (x := x26) (W1 := u1_4)  (hli_1) (hx26)) dX1_meeting_26 rfl (ci := 22) rfl (rc_at B (ci := 22) rfl (k := 1) rfl) q1160 q967 q969 q104 q971 q966 q965 q970 q968 q939 rfl rfl mojava_util_Iterator_next___Ljava_lang_Object_ rfl rfl (by decide) (by decide) (Nat.le_of_ble_eq_true rfl) (Nat.le_of_ble_eq_true rfl) (Nat.le_of_ble_eq_true rfl) (fun _ _ hx => noX_x hx) (fun v26 L1 hp26 => ?_)
      obtain ⟨rfl, rfl⟩ := hp26
      refine (show Go g κ 31 [some (.ref t), some (.int (nI l)), some (.int (nI o)), some (.int (oI fo)), some (.ref it7), none] [.ref x26] [w0, [(it7, .inr (22, [.int (nI (k + 1)), .int (nI k), .int md_1, .ref p4]))], u1_4] 0 0 from ?_)
      refine g_castRS (ci := 35) (q := 34) B rfl (rc_bxat B J (k := 2) rfl hb_2) dX1_meeting_31 rfl q1829 ?_
      refine g_callV (q := 37) (is := [2]) (kc2 := 0) (ks2 := 0) B [] (ct_J26_intValue_b g J (a := x26) (v := nI (nab l (k + 1))) (wb := u1_4)  (hb_2)) dX1_meeting_34 rfl (rc_bxat B J (k := 2) rfl hb_2) rfl q1830 q1052 q1053 q111 q1054 rfl rfl moJ26_intValue rfl rfl (by decide) (by decide) (Nat.le_of_ble_eq_true rfl) (Nat.le_of_ble_eq_true rfl) (Nat.le_of_ble_eq_true rfl) (fun _ _ hx => noX_x hx) (fun v34 L1 hp34 => ?_)
      obtain ⟨rfl, rfl⟩ := hp34
      refine (show Go g κ 37 [some (.ref t), some (.int (nI l)), some (.int (nI o)), some (.int (oI fo)), some (.ref it7), none] [.int (nI (nab l (k + 1)))] [w0, [(it7, .inr (22, [.int (nI (k + 1)), .int (nI k), .int md_1, .ref p4]))], u1_4] 0 0 from ?_)
      refine g_istore (q := 39) (lv2 := [some (.ref t), some (.int (nI l)), some (.int (nI o)), some (.int (oI fo)), some (.ref it7), some (.int (nI (nab l (k + 1))))]) B dX1_meeting_37 rfl (Nat.le_of_ble_eq_true rfl) rfl ?_
      have hnc : nab l (k + 1) < 31 := nab_b (k + 1) (by omega) l (by omega)
      refine g_iload_n (q := 40) B dX1_meeting_39 rfl rfl ?_
      refine g_iconst (v := -1) (q := 41) B dX1_meeting_40 rfl (by decide) ?_
      refine g_icmp_ne (tgt := 67) (q := 44) B dX1_meeting_41 rfl (by decide) (oI_nn ((fun n h => by have := hfb n h; omega))) (fun c41 => ?_) (fun c41 => ?_)
      · skip
        obtain ⟨v41, ev41⟩ := Option.ne_none_iff_exists'.mp c41
        refine g_lvs (lv2 := [some (.ref t), some (.int (nI l)), some (.int (nI o)), some (.int (nI v41)), some (.ref it7), some (.int (nI (nab l (k + 1))))]) (st2 := []) (by rw [(show oI fo = nI v41 from by rw [ev41]; rfl)]) (by first | rfl | rw [(show oI fo = nI v41 from by rw [ev41]; rfl)]) ?_
        refine g_iload_n (q := 68) B dX1_meeting_67 rfl rfl ?_
        refine g_istore_n (q := 69) (lv2 := [some (.ref t), some (.int (nI l)), some (.int (nI o)), some (.int (nI v41)), some (.ref it7), some (.int (nI (nab l (k + 1))))]) B dX1_meeting_68 rfl (Nat.le_of_ble_eq_true rfl) rfl ?_
        refine g_goto (tgt := 14) B dX1_meeting_69 (by decide) ?_
        refine g_fg 5 rfl ?_
        exact ih14 _ (by omega) (k + 1) (nI k) (some v41) (by first | assumption | omega | rfl) (by rw [fnd_tk (r := nab l (k + 1)) (wayD_get (by omega)), ← hfo]; clear hfo hfb ih14; simp_all [mtQ]) (fun n h => by first | exact hfb n h | (cases h; omega) | (simp_all; done) | (rw [Option.some.injEq] at h; subst h; first | exact hfb _ ev41 | omega)) rfl
      · skip
        have c41 := Classical.not_not.mp c41
        refine g_lvs (lv2 := [some (.ref t), some (.int (nI l)), some (.int (nI o)), some (.int (-1)), some (.ref it7), some (.int (nI (nab l (k + 1))))]) (st2 := []) (by rw [(show oI fo = -1 from by rw [c41]; rfl)]) (by first | rfl | rw [(show oI fo = -1 from by rw [c41]; rfl)]) ?_
        refine g_aload_n (q := 45) B dX1_meeting_44 rfl rfl (rv_r _) ?_
        refine g_iload (q := 47) B dX1_meeting_45 rfl rfl ?_
        refine g_callV (q := 50) (is := [0]) (kc2 := 0) (ks2 := 0) B [.int (nI (nab l (k + 1)))] (ct_X10_isBlank g J (t := t) (T := T) (n := (nab l (k + 1))) hw0 (by first | assumption | omega | rfl)) dX1_meeting_47 rfl (rc_in B (ci := 5) rfl (k := 0) rfl (TreeP.hm hw0)) rfl q1144 q1145 q1146 q123 q1147 rfl rfl moX10_isBlank rfl rfl (by decide) (by decide) (Nat.le_of_ble_eq_true rfl) (Nat.le_of_ble_eq_true rfl) (Nat.le_of_ble_eq_true rfl) (fun _ _ hx => noX_x hx) (fun v47 L1 hp47 => ?_)
        obtain ⟨rfl, rfl⟩ := hp47
        refine (show Go g κ 50 [some (.ref t), some (.int (nI l)), some (.int (nI o)), some (.int (-1)), some (.ref it7), some (.int (nI (nab l (k + 1))))] [.int (nI (if T.2.1 (nab l (k + 1)) = none then 1 else 0))] [[(it7, .inr (22, [.int (nI (k + 1)), .int (nI k), .int md_1, .ref p4]))], u1_4, w0] 0 0 from ?_)
        refine g_if_ne (tgt := 67) (q := 53) B dX1_meeting_50 rfl (by decide) (bo_ne) (fun c50 => ?_) (fun c50 => ?_)
        · skip
          refine g_iload_n (q := 68) B dX1_meeting_67 rfl rfl ?_
          refine g_istore_n (q := 69) (lv2 := [some (.ref t), some (.int (nI l)), some (.int (nI o)), some (.int (-1)), some (.ref it7), some (.int (nI (nab l (k + 1))))]) B dX1_meeting_68 rfl (Nat.le_of_ble_eq_true rfl) rfl ?_
          refine g_goto (tgt := 14) B dX1_meeting_69 (by decide) ?_
          refine g_fg 5 rfl ?_
          refine g_pk [2, 0, 0] rfl rfl ?_
          refine (show Go g κ 14 [some (.ref t), some (.int (nI l)), some (.int (nI o)), some (.int (-1)), some (.ref it7), none] [] [w0, [(it7, .inr (22, [.int (nI (k + 1)), .int (nI k), .int md_1, .ref p4]))], u1_4] 0 0 from ?_)
          exact ih14 _ (by omega) (k + 1) (nI k) none (by first | assumption | omega | rfl) (by rw [fnd_tk (r := nab l (k + 1)) (wayD_get (by omega)), ← hfo]; clear hfo hfb ih14; simp_all [mtQ]) (fun n h => by first | exact hfb n h | (cases h; omega) | (simp_all; done) | (rw [Option.some.injEq] at h; subst h; first | exact hfb _ ev41 | omega)) rfl
        · skip
          refine g_iload (q := 55) B dX1_meeting_53 rfl rfl ?_
          refine g_iload_n (q := 56) B dX1_meeting_55 rfl rfl ?_
          refine g_callS (q := 59) (is := []) (kc2 := 0) (ks2 := 0) B [.int (nI (nab l (k + 1))), .int (nI o)] (ct_X10_covers g J (n := (nab l (k + 1))) (l := o)  (by first | assumption | omega | rfl) (by first | assumption | omega | rfl)) dX1_meeting_56 rfl q1793 q1794 q123 q1795 rfl rfl moX10_covers rfl rfl (by decide) (by decide) (Nat.le_of_ble_eq_true rfl) (Nat.le_of_ble_eq_true rfl) (Nat.le_of_ble_eq_true rfl) (fun _ _ hx => noX_x hx) (fun v56 L1 hp56 => ?_)
          obtain ⟨rfl, rfl⟩ := hp56
          refine (show Go g κ 59 [some (.ref t), some (.int (nI l)), some (.int (nI o)), some (.int (-1)), some (.ref it7), some (.int (nI (nab l (k + 1))))] [.int (nI (if cvr (nab l (k + 1)) o = true then 1 else 0))] [[(it7, .inr (22, [.int (nI (k + 1)), .int (nI k), .int md_1, .ref p4]))], u1_4, w0] 0 0 from ?_)
          refine g_if_eq (tgt := 67) (q := 62) B dX1_meeting_59 rfl (by decide) (bo_eq) (fun c59 => ?_) (fun c59 => ?_)
          · skip
            refine g_iload_n (q := 68) B dX1_meeting_67 rfl rfl ?_
            refine g_istore_n (q := 69) (lv2 := [some (.ref t), some (.int (nI l)), some (.int (nI o)), some (.int (-1)), some (.ref it7), some (.int (nI (nab l (k + 1))))]) B dX1_meeting_68 rfl (Nat.le_of_ble_eq_true rfl) rfl ?_
            refine g_goto (tgt := 14) B dX1_meeting_69 (by decide) ?_
            refine g_fg 5 rfl ?_
            refine g_pk [2, 0, 0] rfl rfl ?_
            refine (show Go g κ 14 [some (.ref t), some (.int (nI l)), some (.int (nI o)), some (.int (-1)), some (.ref it7), none] [] [w0, [(it7, .inr (22, [.int (nI (k + 1)), .int (nI k), .int md_1, .ref p4]))], u1_4] 0 0 from ?_)
            exact ih14 _ (by omega) (k + 1) (nI k) none (by first | assumption | omega | rfl) (by rw [fnd_tk (r := nab l (k + 1)) (wayD_get (by omega)), ← hfo]; clear hfo hfb ih14; simp_all [mtQ]) (fun n h => by first | exact hfb n h | (cases h; omega) | (simp_all; done) | (rw [Option.some.injEq] at h; subst h; first | exact hfb _ ev41 | omega)) rfl
          · skip
            have c59 := Classical.not_not.mp c59
            refine g_iload (q := 64) B dX1_meeting_62 rfl rfl ?_
            refine g_goto (tgt := 68) B dX1_meeting_64 (by decide) ?_
            refine g_istore_n (q := 69) (lv2 := [some (.ref t), some (.int (nI l)), some (.int (nI o)), some (.int (nI (nab l (k + 1)))), some (.ref it7), some (.int (nI (nab l (k + 1))))]) B dX1_meeting_68 rfl (Nat.le_of_ble_eq_true rfl) rfl ?_
            refine g_goto (tgt := 14) B dX1_meeting_69 (by decide) ?_
            refine g_fg 5 rfl ?_
            refine g_pk [2, 0, 0] rfl rfl ?_
            refine (show Go g κ 14 [some (.ref t), some (.int (nI l)), some (.int (nI o)), some (.int (nI (nab l (k + 1)))), some (.ref it7), none] [] [w0, [(it7, .inr (22, [.int (nI (k + 1)), .int (nI k), .int md_1, .ref p4]))], u1_4] 0 0 from ?_)
            exact ih14 _ (by omega) (k + 1) (nI k) (some (nab l (k + 1))) (by first | assumption | omega | rfl) (by rw [fnd_tk (r := nab l (k + 1)) (wayD_get (by omega)), ← hfo]; clear hfo hfb ih14; simp_all [mtQ]) (fun n h => by first | exact hfb n h | (cases h; omega) | (simp_all; done) | (rw [Option.some.injEq] at h; subst h; first | exact hfb _ ev41 | omega)) rfl
  exact lp14 _ 0 (-1) none (Nat.zero_le _) (rfl) (fun n h => by cases h) rfl
