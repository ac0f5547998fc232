set_option maxRecDepth 100000
theorem bo_n1 {P : Prop} {h : Decidable P} : nI (@ite Nat P h 1 0) ≠ nI 1 ↔ ¬ P := by
  by_cases hp : P
  · rw [if_pos hp]; exact ⟨fun z => absurd rfl z, fun z => absurd hp z⟩
  · rw [if_neg hp]; exact ⟨fun _ => hp, fun _ => by decide⟩
theorem bo_n0 {P : Prop} {h : Decidable P} : nI (@ite Nat P h 1 0) ≠ nI 0 ↔ P := by
  by_cases hp : P
  · rw [if_pos hp]; exact ⟨fun _ => hp, fun _ => by decide⟩
  · rw [if_neg hp]; exact ⟨fun z => absurd rfl z, fun z => absurd z hp⟩
def ownB (T : TrS) (r : PeS) (n : Nat) : Bool := cvr n (pLf r) && (T.2.1 n).isSome && !hsB (T.2.2.1 n) (pLf r)
/-- the person holds of the node what it is to hold -/
def hjC (T : TrS) (r : PeS) (n : Nat) : Bool := ((pNd r n).isSome == ownB T r n) && (!ownB T r n || pNd r n == T.2.1 n)
def hjB (T : TrS) (r : PeS) : Bool := (List.range (2 * 2 ^ T.1 - 1)).all (hjC T r)
theorem all_rs (f : Nat → Bool) (k : Nat) : (List.range (k + 1)).all f = ((List.range k).all f && f k) := by rw [List.range_succ]; simp
theorem moX10_covers : Mo yX10_covers 2 := by
  refine ⟨by decide, by decide, by decide +kernel⟩
theorem moJ10_containsKey : Mo yJ10_containsKey 1 := by
  refine ⟨by decide, by decide, by decide +kernel⟩
theorem ct_X1_holdsJust (g : Gv) (J : Jd g) {x : Nat} {lk : Nat} {b : Nat} {lp : Nat} {lr : Nat} {lt : Nat} {ls : Nat} {lm : Nat} {so : Nat} {bxs : Nat} {ps : List Nat} {Ps : List PeS} {pcap : Nat} {pks : List Nat} {pmd : Int32} {Ts : List TrS} {tcap : Nat} {i : Nat} {a : Nat} {r : PeS} {T : TrS} {w1 : va_W} {w2 : va_W} (hw1 : PersL g lp ps Ps pcap x pks pmd w1) (hw2 : LhP g (TreeP g) lt Ts tcap w2) (ha : ps[i]? = some a) (hr : Ps[i]? = some r) (hT : Ts[Ts.length - 1]? = some T) : Ct g yX1_holdsJust (ws_ yX1_holdsJust cX1_holdsJust 6 (some .boolean)) 7 0 0 [.ref x, .ref a] [[(x, .inr (0, [.ref b, .ref lp, .ref lk, .ref lr, .ref lt, .ref ls, .ref lm, .ref so, .int (nI bxs)]))], w1, w2] (fun (rv_ : Option Value) (rL_ : List va_W) => rv_ = some (.int (nI (if hjB T r = true then 1 else 0))) ∧ rL_ = [[(x, .inr (0, [.ref b, .ref lp, .ref lk, .ref lr, .ref lt, .ref ls, .ref lm, .ref so, .int (nI bxs)]))], w1, w2]) noX := by
  refine Ct.of "Keygrove" [some (.ref x), some (.ref a), none, none, none, none] rfl (by decide) rfl (Nat.le_of_ble_eq_true rfl) rfl ?_
  intro κ B E tb
  obtain ⟨hli_1, hln_1, hel_1⟩ := PersL.at (Sub.self hw1)
  have hE_2 := hel_1 _ _ _ ha hr
  obtain ⟨-, -, -, -, -, -, -, -, -, -, hPB, -⟩ := PersP.at (hE_2)
  have hlf := hPB.2.1
  refine g_iconst (v := nI 1) (q := 1) B dX1_holdsJust_0 rfl (by decide) ?_
  refine g_istore_n (q := 2) (lv2 := [some (.ref x), some (.ref a), some (.int (nI 1)), none, none, none]) B dX1_holdsJust_1 rfl (Nat.le_of_ble_eq_true rfl) rfl ?_
  refine g_aload_n (q := 3) B dX1_holdsJust_2 rfl rfl (rv_r _) ?_
  refine g_callV (q := 6) (is := [0, 1]) (kc2 := 0) (ks2 := 0) B [] (ct_X1_tree g J (x := x) (lk := lk) (b := b) (lp := lp) (lr := lr) (lt := lt) (ls := ls) (lm := lm) (so := so) (bxs := bxs) (Ts := Ts) (tcap := tcap) (T := T) hw2 (by first | assumption | omega | rfl)) dX1_holdsJust_3 rfl (rc_at B (ci := 0) rfl (k := 0) rfl) rfl q1133 q1135 qs9 q77 q1136 rfl rfl moX1_tree rfl rfl (by decide) (by decide) (Nat.le_of_ble_eq_true rfl) (Nat.le_of_ble_eq_true rfl) (Nat.le_of_ble_eq_true rfl) (fun _ _ hx => noX_x hx) (fun v3 L1 hp3 => ?_)
  obtain ⟨t3, rfl, rfl, hE_3⟩ := hp3
  refine (show Go g κ 6 [some (.ref x), some (.ref a), some (.int (nI 1)), none, none, none] [.ref t3] [w1, [(x, .inr (0, [.ref b, .ref lp, .ref lk, .ref lr, .ref lt, .ref ls, .ref lm, .ref so, .int (nI bxs)]))], w2] 0 0 from ?_)
  have hTB := TreeP.b2 hE_3
  have hp2 := p2_4 hTB.1
  refine g_astore_n (q := 7) (lv2 := [some (.ref x), some (.ref a), some (.int (nI 1)), some (.ref t3), none, none]) B dX1_holdsJust_6 rfl (Nat.le_of_ble_eq_true rfl) (rv_r _) rfl ?_
  refine g_iconst (v := nI 0) (q := 8) B dX1_holdsJust_7 rfl (by decide) ?_
  refine g_istore (q := 10) (lv2 := [some (.ref x), some (.ref a), some (.int (nI 1)), some (.ref t3), some (.int (nI 0)), none]) B dX1_holdsJust_8 rfl (Nat.le_of_ble_eq_true rfl) rfl ?_
  have lp10 : ∀ (n10 : Nat) (k : Nat) (is : Bool) , (k ≤ 2 * 2 ^ T.1 - 1) → (is = (List.range k).all (hjC T r)) → 2 * 2 ^ T.1 - 1 - k = n10 → Go g κ 10 [some (.ref x), some (.ref a), some (.int (nI (if is = true then 1 else 0))), some (.ref t3), some (.int (nI k)), none] [] [w1, [(x, .inr (0, [.ref b, .ref lp, .ref lk, .ref lr, .ref lt, .ref ls, .ref lm, .ref so, .int (nI bxs)]))], w2] 0 0 := by
    intro n10
    induction n10 using Nat.strongRecOn with
    | _ n10 ih10 =>
    intro k is  hk his hmu10
    refine g_iload (q := 12) B dX1_holdsJust_10 rfl rfl ?_
    refine g_aload_n (q := 13) B dX1_holdsJust_12 rfl rfl (rv_r _) ?_
    refine g_callV (q := 16) (is := [2]) (kc2 := 0) (ks2 := 0) B [] (ct_X10_nodes_s g J (t := t3) (T := T) (W0 := w2)  (hE_3)) dX1_holdsJust_13 rfl (rc_in B (ci := 5) rfl (k := 2) rfl (Sub.hm (hE_3) fun _ z => TreeP.hm z)) rfl q1140 q1141 q1142 q123 q1143 rfl rfl moX10_nodes rfl rfl (by decide) (by decide) (Nat.le_of_ble_eq_true rfl) (Nat.le_of_ble_eq_true rfl) (Nat.le_of_ble_eq_true rfl) (fun _ _ hx => noX_x hx) (fun v13 L1 hp13 => ?_)
    obtain ⟨rfl, rfl⟩ := hp13
    refine (show Go g κ 16 [some (.ref x), some (.ref a), some (.int (nI (if is = true then 1 else 0))), some (.ref t3), some (.int (nI k)), none] [.int (nI (2 * 2 ^ T.1 - 1)), .int (nI k)] [w1, [(x, .inr (0, [.ref b, .ref lp, .ref lk, .ref lr, .ref lt, .ref ls, .ref lm, .ref so, .int (nI bxs)]))], w2] 0 0 from ?_)
    refine g_icmp_ge (tgt := 130) (q := 19) B dX1_holdsJust_16 rfl (by decide) (nI_leI (by omega) (by omega)) (fun c16 => ?_) (fun c16 => ?_)
    · skip
      refine g_iload_n (q := 131) B dX1_holdsJust_130 rfl rfl ?_
      refine g_pk [1, 0, 0] rfl rfl ?_
      refine (show Go g κ 131 [some (.ref x), some (.ref a), some (.int (nI (if is = true then 1 else 0))), some (.ref t3), some (.int (nI k)), none] [.int (nI (if is = true then 1 else 0))] [[(x, .inr (0, [.ref b, .ref lp, .ref lk, .ref lr, .ref lt, .ref ls, .ref lm, .ref so, .int (nI bxs)]))], w1, w2] 0 0 from ?_)
      exact g_zret B E dX1_holdsJust_131 (by split <;> decide) (⟨by unfold hjB; rw [his, show k = 2 * 2 ^ T.1 - 1 by omega], rfl⟩)
    · skip
      refine g_iload (q := 21) B dX1_holdsJust_19 rfl rfl ?_
      refine g_aload_n (q := 22) B dX1_holdsJust_21 rfl rfl (rv_r _) ?_
      obtain ⟨ev_3, pl_3, nd_3, ch_3, ecap_3, pcap_3, nn_3, nc_3, plc_3, md_3, hP_3, hpl_3, hec_3, hpc_3, hc_3_0, hs_3_0, hs_3_1, hs_3_2, hs_3_3⟩ := PersP.at (hE_2)
      refine g_getNM (q := 25) B (ci := 2) (k := 0) (j := 4) in_X4 rfl dX1_holdsJust_22 rfl rfl (hc_3_0) (Nat.le_of_ble_eq_true rfl) q1903 rfl rfl ?_
      refine g_callS (q := 28) (is := []) (kc2 := 0) (ks2 := 0) B [.int (nI k), .int (nI (pLf r))] (ct_X10_covers g J (n := k) (l := pLf r)  (by first | assumption | omega | rfl) (by first | assumption | omega | rfl)) dX1_holdsJust_25 rfl q1793 q1794 q123 q1795 rfl rfl moX10_covers rfl rfl (by decide) (by decide) (Nat.le_of_ble_eq_true rfl) (Nat.le_of_ble_eq_true rfl) (Nat.le_of_ble_eq_true rfl) (fun _ _ hx => noX_x hx) (fun v25 L1 hp25 => ?_)
      obtain ⟨rfl, rfl⟩ := hp25
      refine (show Go g κ 28 [some (.ref x), some (.ref a), some (.int (nI (if is = true then 1 else 0))), some (.ref t3), some (.int (nI k)), none] [.int (nI (if cvr k (pLf r) = true then 1 else 0))] [w1, [(x, .inr (0, [.ref b, .ref lp, .ref lk, .ref lr, .ref lt, .ref ls, .ref lm, .ref so, .int (nI bxs)]))], w2] 0 0 from ?_)
      refine g_if_eq (tgt := 61) (q := 31) B dX1_holdsJust_28 rfl (by decide) (bo_eq) (fun c28 => ?_) (fun c28 => ?_)
      · skip
        refine g_iconst (v := nI 0) (q := 62) B dX1_holdsJust_61 rfl (by decide) ?_
        have hown : ownB T r k = false := by unfold ownB; rw [show cvr k (pLf r) = false by simpa using c28]; rfl
        refine g_istore (q := 64) (lv2 := [some (.ref x), some (.ref a), some (.int (nI (if is = true then 1 else 0))), some (.ref t3), some (.int (nI k)), some (.int (nI 0))]) B dX1_holdsJust_62 rfl (Nat.le_of_ble_eq_true rfl) rfl ?_
        refine g_iload_n (q := 65) B dX1_holdsJust_64 rfl rfl ?_
        refine g_if_eq (tgt := 122) (q := 68) B dX1_holdsJust_65 rfl (by decide) (bo_eq) (fun c65 => ?_) (fun c65 => ?_)
        · skip
          refine g_iconst (v := nI 0) (q := 123) B dX1_holdsJust_122 rfl (by decide) ?_
          refine g_istore_n (q := 124) (lv2 := [some (.ref x), some (.ref a), some (.int (nI 0)), some (.ref t3), some (.int (nI k)), some (.int (nI 0))]) B dX1_holdsJust_123 rfl (Nat.le_of_ble_eq_true rfl) rfl ?_
          refine g_iinc (v := nI (k + 1)) (q := 127) (lv2 := [some (.ref x), some (.ref a), some (.int (nI 0)), some (.ref t3), some (.int (nI (k + 1))), some (.int (nI 0))]) B dX1_holdsJust_124 rfl rfl (nI_add _ 1) (Nat.le_of_ble_eq_true rfl) rfl ?_
          refine g_goto (tgt := 10) B dX1_holdsJust_127 (by decide) ?_
          refine g_fg 5 rfl ?_
          exact ih10 _ (by omega) (k + 1) false (by omega) (by rw [all_rs, ← his, show is = false by simpa using c65]; rfl) rfl
        · skip
          have c65 := Classical.not_not.mp c65
          refine g_aload_n (q := 69) B dX1_holdsJust_68 rfl rfl (rv_r _) ?_
          refine g_getNM (q := 72) B (ci := 2) (k := 0) (j := 5) in_X4 rfl dX1_holdsJust_69 rfl rfl (hc_3_0) (Nat.le_of_ble_eq_true rfl) q1905 rfl rfl ?_
          refine g_iload (q := 74) B dX1_holdsJust_72 rfl rfl ?_
          refine g_callS (q := 77) (is := []) (kc2 := 0) (ks2 := 0) B [.int (nI k)] (ct_J26_valueOf_k g J (k := k)  (by omega)) dX1_holdsJust_74 rfl q685 q686 q111 q687 rfl rfl moJ26_valueOf rfl rfl (by decide) (by decide) (Nat.le_of_ble_eq_true rfl) (Nat.le_of_ble_eq_true rfl) (Nat.le_of_ble_eq_true rfl) (fun _ _ hx => noX_x hx) (fun v74 L1 hp74 => ?_)
          obtain ⟨rfl, rfl⟩ := hp74
          refine (show Go g κ 77 [some (.ref x), some (.ref a), some (.int (nI (if is = true then 1 else 0))), some (.ref t3), some (.int (nI k)), some (.int (nI 0))] [.ref (kI g k), .ref nd_3] [w1, [(x, .inr (0, [.ref b, .ref lp, .ref lk, .ref lr, .ref lt, .ref ls, .ref lm, .ref so, .int (nI bxs)]))], w2] 0 0 from ?_)
          refine g_callV (q := 80) (is := [0]) (kc2 := 0) (ks2 := 0) B [.ref (kI g k)] (ct_NmP_has g J (t := nd_3) (F := (pNd r)) (n := nn_3) (k := k) (W0 := w1)  (hs_3_2) (by omega)) dX1_holdsJust_77 rfl (rc_in B (ci := 27) rfl (k := 0) rfl (Sub.hm (hs_3_2) fun _ z => MoP.hm z)) rfl q1803 q1804 q1805 q91 q1806 rfl rfl moJ10_containsKey rfl rfl (by decide) (by decide) (Nat.le_of_ble_eq_true rfl) (Nat.le_of_ble_eq_true rfl) (Nat.le_of_ble_eq_true rfl) (fun _ _ hx => noX_x hx) (fun v77 L1 hp77 => ?_)
          obtain ⟨rfl, rfl⟩ := hp77
          refine (show Go g κ 80 [some (.ref x), some (.ref a), some (.int (nI (if is = true then 1 else 0))), some (.ref t3), some (.int (nI k)), some (.int (nI 0))] [.int (nI (if ((pNd r) k).isSome = true then 1 else 0))] [[(x, .inr (0, [.ref b, .ref lp, .ref lk, .ref lr, .ref lt, .ref ls, .ref lm, .ref so, .int (nI bxs)]))], w2, w1] 0 0 from ?_)
          refine g_iload (q := 82) B dX1_holdsJust_80 rfl rfl ?_
          refine g_icmp_ne (tgt := 122) (q := 85) B dX1_holdsJust_82 rfl (by decide) (bo_n0) (fun c82 => ?_) (fun c82 => ?_)
          · skip
            refine g_iconst (v := nI 0) (q := 123) B dX1_holdsJust_122 rfl (by decide) ?_
            refine g_istore_n (q := 124) (lv2 := [some (.ref x), some (.ref a), some (.int (nI 0)), some (.ref t3), some (.int (nI k)), some (.int (nI 0))]) B dX1_holdsJust_123 rfl (Nat.le_of_ble_eq_true rfl) rfl ?_
            refine g_iinc (v := nI (k + 1)) (q := 127) (lv2 := [some (.ref x), some (.ref a), some (.int (nI 0)), some (.ref t3), some (.int (nI (k + 1))), some (.int (nI 0))]) B dX1_holdsJust_124 rfl rfl (nI_add _ 1) (Nat.le_of_ble_eq_true rfl) rfl ?_
            refine g_goto (tgt := 10) B dX1_holdsJust_127 (by decide) ?_
            refine g_fg 5 rfl ?_
            refine g_pk [2, 0, 0] rfl rfl ?_
            refine (show Go g κ 10 [some (.ref x), some (.ref a), some (.int (nI 0)), some (.ref t3), some (.int (nI (k + 1))), none] [] [w1, [(x, .inr (0, [.ref b, .ref lp, .ref lk, .ref lr, .ref lt, .ref ls, .ref lm, .ref so, .int (nI bxs)]))], w2] 0 0 from ?_)
            exact ih10 _ (by omega) (k + 1) false (by omega) (by rw [all_rs, ← his, show is = true from c65]; unfold hjC; rw [hown, show (pNd r k).isSome = true from c82]; rfl) rfl
          · skip
            refine g_iload (q := 87) B dX1_holdsJust_85 rfl rfl ?_
            refine g_if_eq (tgt := 118) (q := 90) B dX1_holdsJust_87 rfl (by decide) (iff_true_intro (by decide)) (fun _ => ?_) (fun z => absurd trivial z)
            refine g_iconst (v := nI 1) (q := 119) B dX1_holdsJust_118 rfl (by decide) ?_
            refine g_goto (tgt := 123) B dX1_holdsJust_119 (by decide) ?_
            refine g_istore_n (q := 124) (lv2 := [some (.ref x), some (.ref a), some (.int (nI 1)), some (.ref t3), some (.int (nI k)), some (.int (nI 0))]) B dX1_holdsJust_123 rfl (Nat.le_of_ble_eq_true rfl) rfl ?_
            refine g_iinc (v := nI (k + 1)) (q := 127) (lv2 := [some (.ref x), some (.ref a), some (.int (nI 1)), some (.ref t3), some (.int (nI (k + 1))), some (.int (nI 0))]) B dX1_holdsJust_124 rfl rfl (nI_add _ 1) (Nat.le_of_ble_eq_true rfl) rfl ?_
            refine g_goto (tgt := 10) B dX1_holdsJust_127 (by decide) ?_
            refine g_fg 5 rfl ?_
            refine g_pk [2, 0, 0] rfl rfl ?_
            refine (show Go g κ 10 [some (.ref x), some (.ref a), some (.int (nI 1)), some (.ref t3), some (.int (nI (k + 1))), none] [] [w1, [(x, .inr (0, [.ref b, .ref lp, .ref lk, .ref lr, .ref lt, .ref ls, .ref lm, .ref so, .int (nI bxs)]))], w2] 0 0 from ?_)
            exact ih10 _ (by omega) (k + 1) true (by omega) (by rw [all_rs, ← his, show is = true from c65]; unfold hjC; rw [hown, show (pNd r k).isSome = false by simpa using c82]; rfl) rfl
      · skip
        have c28 := Classical.not_not.mp c28
        refine g_aload_n (q := 32) B dX1_holdsJust_31 rfl rfl (rv_r _) ?_
        refine g_iload (q := 34) B dX1_holdsJust_32 rfl rfl ?_
        refine g_callV (q := 37) (is := [2]) (kc2 := 0) (ks2 := 0) B [.int (nI k)] (ct_X10_isBlank_s g J (t := t3) (T := T) (n := k) (W0 := w2)  (hE_3) (by first | assumption | omega | rfl)) dX1_holdsJust_34 rfl (rc_in B (ci := 5) rfl (k := 2) rfl (Sub.hm (hE_3) fun _ z => TreeP.hm z)) rfl q1144 q1145 q1146 q123 q1147 rfl rfl moX10_isBlank rfl rfl (by decide) (by decide) (Nat.le_of_ble_eq_true rfl) (Nat.le_of_ble_eq_true rfl) (Nat.le_of_ble_eq_true rfl) (fun _ _ hx => noX_x hx) (fun v34 L1 hp34 => ?_)
        obtain ⟨rfl, rfl⟩ := hp34
        refine (show Go g κ 37 [some (.ref x), some (.ref a), some (.int (nI (if is = true then 1 else 0))), some (.ref t3), some (.int (nI k)), none] [.int (nI (if T.2.1 k = none then 1 else 0))] [w1, [(x, .inr (0, [.ref b, .ref lp, .ref lk, .ref lr, .ref lt, .ref ls, .ref lm, .ref so, .int (nI bxs)]))], w2] 0 0 from ?_)
        refine g_if_ne (tgt := 61) (q := 40) B dX1_holdsJust_37 rfl (by decide) (bo_ne) (fun c37 => ?_) (fun c37 => ?_)
        · skip
          refine g_iconst (v := nI 0) (q := 62) B dX1_holdsJust_61 rfl (by decide) ?_
          have hown : ownB T r k = false := by unfold ownB; rw [c37]; simp
          refine g_istore (q := 64) (lv2 := [some (.ref x), some (.ref a), some (.int (nI (if is = true then 1 else 0))), some (.ref t3), some (.int (nI k)), some (.int (nI 0))]) B dX1_holdsJust_62 rfl (Nat.le_of_ble_eq_true rfl) rfl ?_
          refine g_iload_n (q := 65) B dX1_holdsJust_64 rfl rfl ?_
          refine g_if_eq (tgt := 122) (q := 68) B dX1_holdsJust_65 rfl (by decide) (bo_eq) (fun c65 => ?_) (fun c65 => ?_)
          · skip
            refine g_iconst (v := nI 0) (q := 123) B dX1_holdsJust_122 rfl (by decide) ?_
            refine g_istore_n (q := 124) (lv2 := [some (.ref x), some (.ref a), some (.int (nI 0)), some (.ref t3), some (.int (nI k)), some (.int (nI 0))]) B dX1_holdsJust_123 rfl (Nat.le_of_ble_eq_true rfl) rfl ?_
            refine g_iinc (v := nI (k + 1)) (q := 127) (lv2 := [some (.ref x), some (.ref a), some (.int (nI 0)), some (.ref t3), some (.int (nI (k + 1))), some (.int (nI 0))]) B dX1_holdsJust_124 rfl rfl (nI_add _ 1) (Nat.le_of_ble_eq_true rfl) rfl ?_
            refine g_goto (tgt := 10) B dX1_holdsJust_127 (by decide) ?_
            refine g_fg 5 rfl ?_
            exact ih10 _ (by omega) (k + 1) false (by omega) (by rw [all_rs, ← his, show is = false by simpa using c65]; rfl) rfl
          · skip
            have c65 := Classical.not_not.mp c65
            refine g_aload_n (q := 69) B dX1_holdsJust_68 rfl rfl (rv_r _) ?_
            refine g_getNM (q := 72) B (ci := 2) (k := 0) (j := 5) in_X4 rfl dX1_holdsJust_69 rfl rfl (hc_3_0) (Nat.le_of_ble_eq_true rfl) q1905 rfl rfl ?_
            refine g_iload (q := 74) B dX1_holdsJust_72 rfl rfl ?_
            refine g_callS (q := 77) (is := []) (kc2 := 0) (ks2 := 0) B [.int (nI k)] (ct_J26_valueOf_k g J (k := k)  (by omega)) dX1_holdsJust_74 rfl q685 q686 q111 q687 rfl rfl moJ26_valueOf rfl rfl (by decide) (by decide) (Nat.le_of_ble_eq_true rfl) (Nat.le_of_ble_eq_true rfl) (Nat.le_of_ble_eq_true rfl) (fun _ _ hx => noX_x hx) (fun v74 L1 hp74 => ?_)
            obtain ⟨rfl, rfl⟩ := hp74
            refine (show Go g κ 77 [some (.ref x), some (.ref a), some (.int (nI (if is = true then 1 else 0))), some (.ref t3), some (.int (nI k)), some (.int (nI 0))] [.ref (kI g k), .ref nd_3] [w1, [(x, .inr (0, [.ref b, .ref lp, .ref lk, .ref lr, .ref lt, .ref ls, .ref lm, .ref so, .int (nI bxs)]))], w2] 0 0 from ?_)
            refine g_callV (q := 80) (is := [0]) (kc2 := 0) (ks2 := 0) B [.ref (kI g k)] (ct_NmP_has g J (t := nd_3) (F := (pNd r)) (n := nn_3) (k := k) (W0 := w1)  (hs_3_2) (by omega)) dX1_holdsJust_77 rfl (rc_in B (ci := 27) rfl (k := 0) rfl (Sub.hm (hs_3_2) fun _ z => MoP.hm z)) rfl q1803 q1804 q1805 q91 q1806 rfl rfl moJ10_containsKey rfl rfl (by decide) (by decide) (Nat.le_of_ble_eq_true rfl) (Nat.le_of_ble_eq_true rfl) (Nat.le_of_ble_eq_true rfl) (fun _ _ hx => noX_x hx) (fun v77 L1 hp77 => ?_)
            obtain ⟨rfl, rfl⟩ := hp77
            refine (show Go g κ 80 [some (.ref x), some (.ref a), some (.int (nI (if is = true then 1 else 0))), some (.ref t3), some (.int (nI k)), some (.int (nI 0))] [.int (nI (if ((pNd r) k).isSome = true then 1 else 0))] [[(x, .inr (0, [.ref b, .ref lp, .ref lk, .ref lr, .ref lt, .ref ls, .ref lm, .ref so, .int (nI bxs)]))], w2, w1] 0 0 from ?_)
            refine g_iload (q := 82) B dX1_holdsJust_80 rfl rfl ?_
            refine g_icmp_ne (tgt := 122) (q := 85) B dX1_holdsJust_82 rfl (by decide) (bo_n0) (fun c82 => ?_) (fun c82 => ?_)
            · skip
              refine g_iconst (v := nI 0) (q := 123) B dX1_holdsJust_122 rfl (by decide) ?_
              refine g_istore_n (q := 124) (lv2 := [some (.ref x), some (.ref a), some (.int (nI 0)), some (.ref t3), some (.int (nI k)), some (.int (nI 0))]) B dX1_holdsJust_123 rfl (Nat.le_of_ble_eq_true rfl) rfl ?_
              refine g_iinc (v := nI (k + 1)) (q := 127) (lv2 := [some (.ref x), some (.ref a), some (.int (nI 0)), some (.ref t3), some (.int (nI (k + 1))), some (.int (nI 0))]) B dX1_holdsJust_124 rfl rfl (nI_add _ 1) (Nat.le_of_ble_eq_true rfl) rfl ?_
              refine g_goto (tgt := 10) B dX1_holdsJust_127 (by decide) ?_
              refine g_fg 5 rfl ?_
              refine g_pk [2, 0, 0] rfl rfl ?_
              refine (show Go g κ 10 [some (.ref x), some (.ref a), some (.int (nI 0)), some (.ref t3), some (.int (nI (k + 1))), none] [] [w1, [(x, .inr (0, [.ref b, .ref lp, .ref lk, .ref lr, .ref lt, .ref ls, .ref lm, .ref so, .int (nI bxs)]))], w2] 0 0 from ?_)
              exact ih10 _ (by omega) (k + 1) false (by omega) (by rw [all_rs, ← his, show is = true from c65]; unfold hjC; rw [hown, show (pNd r k).isSome = true from c82]; rfl) rfl
            · skip
              refine g_iload (q := 87) B dX1_holdsJust_85 rfl rfl ?_
              refine g_if_eq (tgt := 118) (q := 90) B dX1_holdsJust_87 rfl (by decide) (iff_true_intro (by decide)) (fun _ => ?_) (fun z => absurd trivial z)
              refine g_iconst (v := nI 1) (q := 119) B dX1_holdsJust_118 rfl (by decide) ?_
              refine g_goto (tgt := 123) B dX1_holdsJust_119 (by decide) ?_
              refine g_istore_n (q := 124) (lv2 := [some (.ref x), some (.ref a), some (.int (nI 1)), some (.ref t3), some (.int (nI k)), some (.int (nI 0))]) B dX1_holdsJust_123 rfl (Nat.le_of_ble_eq_true rfl) rfl ?_
              refine g_iinc (v := nI (k + 1)) (q := 127) (lv2 := [some (.ref x), some (.ref a), some (.int (nI 1)), some (.ref t3), some (.int (nI (k + 1))), some (.int (nI 0))]) B dX1_holdsJust_124 rfl rfl (nI_add _ 1) (Nat.le_of_ble_eq_true rfl) rfl ?_
              refine g_goto (tgt := 10) B dX1_holdsJust_127 (by decide) ?_
              refine g_fg 5 rfl ?_
              refine g_pk [2, 0, 0] rfl rfl ?_
              refine (show Go g κ 10 [some (.ref x), some (.ref a), some (.int (nI 1)), some (.ref t3), some (.int (nI (k + 1))), none] [] [w1, [(x, .inr (0, [.ref b, .ref lp, .ref lk, .ref lr, .ref lt, .ref ls, .ref lm, .ref so, .int (nI bxs)]))], w2] 0 0 from ?_)
              exact ih10 _ (by omega) (k + 1) true (by omega) (by rw [all_rs, ← his, show is = true from c65]; unfold hjC; rw [hown, show (pNd r k).isSome = false by simpa using c82]; rfl) rfl
        · skip
          refine g_aload_n (q := 41) B dX1_holdsJust_40 rfl rfl (rv_r _) ?_
          obtain ⟨as_4, al_4, ap_4, fs_4, fl_4, fp_4, hB_4, hfs_4, hfl_4, hfp_4, hc_4_0, hc_4_1, hc_4_2, hc_4_3⟩ := TreeP.at (hE_3)
          refine g_getNM (q := 44) B (ci := 5) (k := 2) (j := 2) in_X10 rfl dX1_holdsJust_41 rfl rfl (hc_4_0) (Nat.le_of_ble_eq_true rfl) q2042 rfl rfl ?_
          refine g_iload (q := 46) B dX1_holdsJust_44 rfl rfl ?_
          refine g_ialdM (v := nI (T.2.2.1 k)) (q := 47) B (k := 2) dX1_holdsJust_46 rfl rfl (hc_4_2) (vp_in_nI (by omega) (by omega)) (by rw [nI_clamp (by omega)]; exact hfl_4 _ (by omega)) ?_
          refine g_aload_n (q := 48) B dX1_holdsJust_47 rfl rfl (rv_r _) ?_
          refine g_getNM (q := 51) B (ci := 2) (k := 0) (j := 4) in_X4 rfl dX1_holdsJust_48 rfl rfl (hc_3_0) (Nat.le_of_ble_eq_true rfl) q1903 rfl rfl ?_
          have hls := hTB.2.2.1 k
          refine g_callS (q := 54) (is := []) (kc2 := 0) (ks2 := 0) B [.int (nI (T.2.2.1 k)), .int (nI (pLf r))] (ct_X1_has g J (s := T.2.2.1 k) (l := pLf r)  (by first | assumption | omega | rfl) (by first | assumption | omega | rfl)) dX1_holdsJust_51 rfl q1800 q1801 q77 q1802 rfl rfl moX1_has rfl rfl (by decide) (by decide) (Nat.le_of_ble_eq_true rfl) (Nat.le_of_ble_eq_true rfl) (Nat.le_of_ble_eq_true rfl) (fun _ _ hx => noX_x hx) (fun v51 L1 hp51 => ?_)
          obtain ⟨rfl, rfl⟩ := hp51
          refine (show Go g κ 54 [some (.ref x), some (.ref a), some (.int (nI (if is = true then 1 else 0))), some (.ref t3), some (.int (nI k)), none] [.int (nI (if hsB (T.2.2.1 k) (pLf r) = true then 1 else 0))] [w1, [(x, .inr (0, [.ref b, .ref lp, .ref lk, .ref lr, .ref lt, .ref ls, .ref lm, .ref so, .int (nI bxs)]))], w2] 0 0 from ?_)
          refine g_if_ne (tgt := 61) (q := 57) B dX1_holdsJust_54 rfl (by decide) (bo_ne) (fun c54 => ?_) (fun c54 => ?_)
          · skip
            refine g_iconst (v := nI 0) (q := 62) B dX1_holdsJust_61 rfl (by decide) ?_
            have hown : ownB T r k = false := by unfold ownB; rw [c54]; simp
            refine g_istore (q := 64) (lv2 := [some (.ref x), some (.ref a), some (.int (nI (if is = true then 1 else 0))), some (.ref t3), some (.int (nI k)), some (.int (nI 0))]) B dX1_holdsJust_62 rfl (Nat.le_of_ble_eq_true rfl) rfl ?_
            refine g_iload_n (q := 65) B dX1_holdsJust_64 rfl rfl ?_
            refine g_if_eq (tgt := 122) (q := 68) B dX1_holdsJust_65 rfl (by decide) (bo_eq) (fun c65 => ?_) (fun c65 => ?_)
            · skip
              refine g_iconst (v := nI 0) (q := 123) B dX1_holdsJust_122 rfl (by decide) ?_
              refine g_istore_n (q := 124) (lv2 := [some (.ref x), some (.ref a), some (.int (nI 0)), some (.ref t3), some (.int (nI k)), some (.int (nI 0))]) B dX1_holdsJust_123 rfl (Nat.le_of_ble_eq_true rfl) rfl ?_
              refine g_iinc (v := nI (k + 1)) (q := 127) (lv2 := [some (.ref x), some (.ref a), some (.int (nI 0)), some (.ref t3), some (.int (nI (k + 1))), some (.int (nI 0))]) B dX1_holdsJust_124 rfl rfl (nI_add _ 1) (Nat.le_of_ble_eq_true rfl) rfl ?_
              refine g_goto (tgt := 10) B dX1_holdsJust_127 (by decide) ?_
              refine g_fg 5 rfl ?_
              exact ih10 _ (by omega) (k + 1) false (by omega) (by rw [all_rs, ← his, show is = false by simpa using c65]; rfl) rfl
            · skip
              have c65 := Classical.not_not.mp c65
              refine g_aload_n (q := 69) B dX1_holdsJust_68 rfl rfl (rv_r _) ?_
              refine g_getNM (q := 72) B (ci := 2) (k := 0) (j := 5) in_X4 rfl dX1_holdsJust_69 rfl rfl (hc_3_0) (Nat.le_of_ble_eq_true rfl) q1905 rfl rfl ?_
              refine g_iload (q := 74) B dX1_holdsJust_72 rfl rfl ?_
              refine g_callS (q := 77) (is := []) (kc2 := 0) (ks2 := 0) B [.int (nI k)] (ct_J26_valueOf_k g J (k := k)  (by omega)) dX1_holdsJust_74 rfl q685 q686 q111 q687 rfl rfl moJ26_valueOf rfl rfl (by decide) (by decide) (Nat.le_of_ble_eq_true rfl) (Nat.le_of_ble_eq_true rfl) (Nat.le_of_ble_eq_true rfl) (fun _ _ hx => noX_x hx) (fun v74 L1 hp74 => ?_)
              obtain ⟨rfl, rfl⟩ := hp74
              refine (show Go g κ 77 [some (.ref x), some (.ref a), some (.int (nI (if is = true then 1 else 0))), some (.ref t3), some (.int (nI k)), some (.int (nI 0))] [.ref (kI g k), .ref nd_3] [w1, [(x, .inr (0, [.ref b, .ref lp, .ref lk, .ref lr, .ref lt, .ref ls, .ref lm, .ref so, .int (nI bxs)]))], w2] 0 0 from ?_)
              refine g_callV (q := 80) (is := [0]) (kc2 := 0) (ks2 := 0) B [.ref (kI g k)] (ct_NmP_has g J (t := nd_3) (F := (pNd r)) (n := nn_3) (k := k) (W0 := w1)  (hs_3_2) (by omega)) dX1_holdsJust_77 rfl (rc_in B (ci := 27) rfl (k := 0) rfl (Sub.hm (hs_3_2) fun _ z => MoP.hm z)) rfl q1803 q1804 q1805 q91 q1806 rfl rfl moJ10_containsKey rfl rfl (by decide) (by decide) (Nat.le_of_ble_eq_true rfl) (Nat.le_of_ble_eq_true rfl) (Nat.le_of_ble_eq_true rfl) (fun _ _ hx => noX_x hx) (fun v77 L1 hp77 => ?_)
              obtain ⟨rfl, rfl⟩ := hp77
              refine (show Go g κ 80 [some (.ref x), some (.ref a), some (.int (nI (if is = true then 1 else 0))), some (.ref t3), some (.int (nI k)), some (.int (nI 0))] [.int (nI (if ((pNd r) k).isSome = true then 1 else 0))] [[(x, .inr (0, [.ref b, .ref lp, .ref lk, .ref lr, .ref lt, .ref ls, .ref lm, .ref so, .int (nI bxs)]))], w2, w1] 0 0 from ?_)
              refine g_iload (q := 82) B dX1_holdsJust_80 rfl rfl ?_
              refine g_icmp_ne (tgt := 122) (q := 85) B dX1_holdsJust_82 rfl (by decide) (bo_n0) (fun c82 => ?_) (fun c82 => ?_)
              · skip
                refine g_iconst (v := nI 0) (q := 123) B dX1_holdsJust_122 rfl (by decide) ?_
                refine g_istore_n (q := 124) (lv2 := [some (.ref x), some (.ref a), some (.int (nI 0)), some (.ref t3), some (.int (nI k)), some (.int (nI 0))]) B dX1_holdsJust_123 rfl (Nat.le_of_ble_eq_true rfl) rfl ?_
                refine g_iinc (v := nI (k + 1)) (q := 127) (lv2 := [some (.ref x), some (.ref a), some (.int (nI 0)), some (.ref t3), some (.int (nI (k + 1))), some (.int (nI 0))]) B dX1_holdsJust_124 rfl rfl (nI_add _ 1) (Nat.le_of_ble_eq_true rfl) rfl ?_
                refine g_goto (tgt := 10) B dX1_holdsJust_127 (by decide) ?_
                refine g_fg 5 rfl ?_
                refine g_pk [2, 0, 0] rfl rfl ?_
                refine (show Go g κ 10 [some (.ref x), some (.ref a), some (.int (nI 0)), some (.ref t3), some (.int (nI (k + 1))), none] [] [w1, [(x, .inr (0, [.ref b, .ref lp, .ref lk, .ref lr, .ref lt, .ref ls, .ref lm, .ref so, .int (nI bxs)]))], w2] 0 0 from ?_)
                exact ih10 _ (by omega) (k + 1) false (by omega) (by rw [all_rs, ← his, show is = true from c65]; unfold hjC; rw [hown, show (pNd r k).isSome = true from c82]; rfl) rfl
              · skip
                refine g_iload (q := 87) B dX1_holdsJust_85 rfl rfl ?_
                refine g_if_eq (tgt := 118) (q := 90) B dX1_holdsJust_87 rfl (by decide) (iff_true_intro (by decide)) (fun _ => ?_) (fun z => absurd trivial z)
                refine g_iconst (v := nI 1) (q := 119) B dX1_holdsJust_118 rfl (by decide) ?_
                refine g_goto (tgt := 123) B dX1_holdsJust_119 (by decide) ?_
                refine g_istore_n (q := 124) (lv2 := [some (.ref x), some (.ref a), some (.int (nI 1)), some (.ref t3), some (.int (nI k)), some (.int (nI 0))]) B dX1_holdsJust_123 rfl (Nat.le_of_ble_eq_true rfl) rfl ?_
                refine g_iinc (v := nI (k + 1)) (q := 127) (lv2 := [some (.ref x), some (.ref a), some (.int (nI 1)), some (.ref t3), some (.int (nI (k + 1))), some (.int (nI 0))]) B dX1_holdsJust_124 rfl rfl (nI_add _ 1) (Nat.le_of_ble_eq_true rfl) rfl ?_
                refine g_goto (tgt := 10) B dX1_holdsJust_127 (by decide) ?_
                refine g_fg 5 rfl ?_
                refine g_pk [2, 0, 0] rfl rfl ?_
                refine (show Go g κ 10 [some (.ref x), some (.ref a), some (.int (nI 1)), some (.ref t3), some (.int (nI (k + 1))), none] [] [w1, [(x, .inr (0, [.ref b, .ref lp, .ref lk, .ref lr, .ref lt, .ref ls, .ref lm, .ref so, .int (nI bxs)]))], w2] 0 0 from ?_)
                exact ih10 _ (by omega) (k + 1) true (by omega) (by rw [all_rs, ← his, show is = true from c65]; unfold hjC; rw [hown, show (pNd r k).isSome = false by simpa using c82]; rfl) rfl
          · skip
            refine g_iconst (v := nI 1) (q := 58) B dX1_holdsJust_57 rfl (by decide) ?_
            refine g_goto (tgt := 62) B dX1_holdsJust_58 (by decide) ?_
            have hown : ownB T r k = true := by unfold ownB; rw [c28, Option.isSome_iff_ne_none.mpr c37, show hsB (T.2.2.1 k) (pLf r) = false by simpa using c54]; rfl
            refine g_istore (q := 64) (lv2 := [some (.ref x), some (.ref a), some (.int (nI (if is = true then 1 else 0))), some (.ref t3), some (.int (nI k)), some (.int (nI 1))]) B dX1_holdsJust_62 rfl (Nat.le_of_ble_eq_true rfl) rfl ?_
            refine g_iload_n (q := 65) B dX1_holdsJust_64 rfl rfl ?_
            refine g_if_eq (tgt := 122) (q := 68) B dX1_holdsJust_65 rfl (by decide) (bo_eq) (fun c65 => ?_) (fun c65 => ?_)
            · skip
              refine g_iconst (v := nI 0) (q := 123) B dX1_holdsJust_122 rfl (by decide) ?_
              refine g_istore_n (q := 124) (lv2 := [some (.ref x), some (.ref a), some (.int (nI 0)), some (.ref t3), some (.int (nI k)), some (.int (nI 1))]) B dX1_holdsJust_123 rfl (Nat.le_of_ble_eq_true rfl) rfl ?_
              refine g_iinc (v := nI (k + 1)) (q := 127) (lv2 := [some (.ref x), some (.ref a), some (.int (nI 0)), some (.ref t3), some (.int (nI (k + 1))), some (.int (nI 1))]) B dX1_holdsJust_124 rfl rfl (nI_add _ 1) (Nat.le_of_ble_eq_true rfl) rfl ?_
              refine g_goto (tgt := 10) B dX1_holdsJust_127 (by decide) ?_
              refine g_fg 5 rfl ?_
              exact ih10 _ (by omega) (k + 1) false (by omega) (by rw [all_rs, ← his, show is = false by simpa using c65]; rfl) rfl
            · skip
              have c65 := Classical.not_not.mp c65
              refine g_aload_n (q := 69) B dX1_holdsJust_68 rfl rfl (rv_r _) ?_
              refine g_getNM (q := 72) B (ci := 2) (k := 0) (j := 5) in_X4 rfl dX1_holdsJust_69 rfl rfl (hc_3_0) (Nat.le_of_ble_eq_true rfl) q1905 rfl rfl ?_
              refine g_iload (q := 74) B dX1_holdsJust_72 rfl rfl ?_
              refine g_callS (q := 77) (is := []) (kc2 := 0) (ks2 := 0) B [.int (nI k)] (ct_J26_valueOf_k g J (k := k)  (by omega)) dX1_holdsJust_74 rfl q685 q686 q111 q687 rfl rfl moJ26_valueOf rfl rfl (by decide) (by decide) (Nat.le_of_ble_eq_true rfl) (Nat.le_of_ble_eq_true rfl) (Nat.le_of_ble_eq_true rfl) (fun _ _ hx => noX_x hx) (fun v74 L1 hp74 => ?_)
              obtain ⟨rfl, rfl⟩ := hp74
              refine (show Go g κ 77 [some (.ref x), some (.ref a), some (.int (nI (if is = true then 1 else 0))), some (.ref t3), some (.int (nI k)), some (.int (nI 1))] [.ref (kI g k), .ref nd_3] [w1, [(x, .inr (0, [.ref b, .ref lp, .ref lk, .ref lr, .ref lt, .ref ls, .ref lm, .ref so, .int (nI bxs)]))], w2] 0 0 from ?_)
              refine g_callV (q := 80) (is := [0]) (kc2 := 0) (ks2 := 0) B [.ref (kI g k)] (ct_NmP_has g J (t := nd_3) (F := (pNd r)) (n := nn_3) (k := k) (W0 := w1)  (hs_3_2) (by omega)) dX1_holdsJust_77 rfl (rc_in B (ci := 27) rfl (k := 0) rfl (Sub.hm (hs_3_2) fun _ z => MoP.hm z)) rfl q1803 q1804 q1805 q91 q1806 rfl rfl moJ10_containsKey rfl rfl (by decide) (by decide) (Nat.le_of_ble_eq_true rfl) (Nat.le_of_ble_eq_true rfl) (Nat.le_of_ble_eq_true rfl) (fun _ _ hx => noX_x hx) (fun v77 L1 hp77 => ?_)
              obtain ⟨rfl, rfl⟩ := hp77
              refine (show Go g κ 80 [some (.ref x), some (.ref a), some (.int (nI (if is = true then 1 else 0))), some (.ref t3), some (.int (nI k)), some (.int (nI 1))] [.int (nI (if ((pNd r) k).isSome = true then 1 else 0))] [[(x, .inr (0, [.ref b, .ref lp, .ref lk, .ref lr, .ref lt, .ref ls, .ref lm, .ref so, .int (nI bxs)]))], w2, w1] 0 0 from ?_)
              refine g_iload (q := 82) B dX1_holdsJust_80 rfl rfl ?_
              refine g_icmp_ne (tgt := 122) (q := 85) B dX1_holdsJust_82 rfl (by decide) (bo_n1) (fun c82 => ?_) (fun c82 => ?_)
              · skip
                refine g_iconst (v := nI 0) (q := 123) B dX1_holdsJust_122 rfl (by decide) ?_
                refine g_istore_n (q := 124) (lv2 := [some (.ref x), some (.ref a), some (.int (nI 0)), some (.ref t3), some (.int (nI k)), some (.int (nI 1))]) B dX1_holdsJust_123 rfl (Nat.le_of_ble_eq_true rfl) rfl ?_
                refine g_iinc (v := nI (k + 1)) (q := 127) (lv2 := [some (.ref x), some (.ref a), some (.int (nI 0)), some (.ref t3), some (.int (nI (k + 1))), some (.int (nI 1))]) B dX1_holdsJust_124 rfl rfl (nI_add _ 1) (Nat.le_of_ble_eq_true rfl) rfl ?_
                refine g_goto (tgt := 10) B dX1_holdsJust_127 (by decide) ?_
                refine g_fg 5 rfl ?_
                refine g_pk [2, 0, 0] rfl rfl ?_
                refine (show Go g κ 10 [some (.ref x), some (.ref a), some (.int (nI 0)), some (.ref t3), some (.int (nI (k + 1))), none] [] [w1, [(x, .inr (0, [.ref b, .ref lp, .ref lk, .ref lr, .ref lt, .ref ls, .ref lm, .ref so, .int (nI bxs)]))], w2] 0 0 from ?_)
                exact ih10 _ (by omega) (k + 1) false (by omega) (by rw [all_rs, ← his, show is = true from c65]; unfold hjC; rw [hown, show (pNd r k).isSome = false by simpa using c82]; rfl) rfl
              · skip
                refine g_iload (q := 87) B dX1_holdsJust_85 rfl rfl ?_
                refine g_if_eq (tgt := 118) (q := 90) B dX1_holdsJust_87 rfl (by decide) (iff_false_intro (by decide)) (fun z => z.elim) (fun _ => ?_)
                obtain ⟨rr, hrr⟩ := Option.isSome_iff_exists.mp (Classical.not_not.mp c82)
                have hrrb := hPB.2.2.2.2.2.2.1 _ _ hrr
                refine g_aload_n (q := 91) B dX1_holdsJust_90 rfl rfl (rv_r _) ?_
                refine g_getNM (q := 94) B (ci := 2) (k := 2) (j := 5) in_X4 rfl dX1_holdsJust_91 rfl rfl (hc_3_0) (Nat.le_of_ble_eq_true rfl) q1905 rfl rfl ?_
                refine g_iload (q := 96) B dX1_holdsJust_94 rfl rfl ?_
                refine g_callS (q := 99) (is := []) (kc2 := 0) (ks2 := 0) B [.int (nI k)] (ct_J26_valueOf_k g J (k := k)  (by omega)) dX1_holdsJust_96 rfl q685 q686 q111 q687 rfl rfl moJ26_valueOf rfl rfl (by decide) (by decide) (Nat.le_of_ble_eq_true rfl) (Nat.le_of_ble_eq_true rfl) (Nat.le_of_ble_eq_true rfl) (fun _ _ hx => noX_x hx) (fun v96 L1 hp96 => ?_)
                obtain ⟨rfl, rfl⟩ := hp96
                refine (show Go g κ 99 [some (.ref x), some (.ref a), some (.int (nI (if is = true then 1 else 0))), some (.ref t3), some (.int (nI k)), some (.int (nI 1))] [.ref (kI g k), .ref nd_3] [[(x, .inr (0, [.ref b, .ref lp, .ref lk, .ref lr, .ref lt, .ref ls, .ref lm, .ref so, .int (nI bxs)]))], w2, w1] 0 0 from ?_)
                refine g_callV (q := 102) (is := [2]) (kc2 := 0) (ks2 := 0) B [.ref (kI g k)] (ct_NmP_getS g J (t := nd_3) (F := (pNd r)) (n := nn_3) (k := k) (r := rr) (W0 := w1)  (hs_3_2) (hrr) (by omega)) dX1_holdsJust_99 rfl (rc_in B (ci := 27) rfl (k := 2) rfl (Sub.hm (hs_3_2) fun _ z => MoP.hm z)) rfl q1825 q1826 q1827 q91 q1828 rfl rfl moJ10_get rfl rfl (by decide) (by decide) (Nat.le_of_ble_eq_true rfl) (Nat.le_of_ble_eq_true rfl) (Nat.le_of_ble_eq_true rfl) (fun _ _ hx => noX_x hx) (fun v99 L1 hp99 => ?_)
                obtain ⟨a99, rfl, rfl, hE_99⟩ := hp99
                refine (show Go g κ 102 [some (.ref x), some (.ref a), some (.int (nI (if is = true then 1 else 0))), some (.ref t3), some (.int (nI k)), some (.int (nI 1))] [.ref a99] [[(x, .inr (0, [.ref b, .ref lp, .ref lk, .ref lr, .ref lt, .ref ls, .ref lm, .ref so, .int (nI bxs)]))], w2, w1] 0 0 from ?_)
                have hbb := Sub.box hE_99
                refine g_castRS (ci := 35) (q := 105) B rfl (rc_bxat B J (k := 2) rfl hbb) dX1_holdsJust_102 rfl q1829 ?_
                refine g_callV (q := 108) (is := [2]) (kc2 := 0) (ks2 := 0) B [] (ct_J26_intValue_b g J (a := a99) (v := nI rr) (wb := w1)  (hbb)) dX1_holdsJust_105 rfl (rc_bxat B J (k := 2) rfl hbb) rfl q1830 q1052 q1053 q111 q1054 rfl rfl moJ26_intValue rfl rfl (by decide) (by decide) (Nat.le_of_ble_eq_true rfl) (Nat.le_of_ble_eq_true rfl) (Nat.le_of_ble_eq_true rfl) (fun _ _ hx => noX_x hx) (fun v105 L1 hp105 => ?_)
                obtain ⟨rfl, rfl⟩ := hp105
                refine (show Go g κ 108 [some (.ref x), some (.ref a), some (.int (nI (if is = true then 1 else 0))), some (.ref t3), some (.int (nI k)), some (.int (nI 1))] [.int (nI rr)] [[(x, .inr (0, [.ref b, .ref lp, .ref lk, .ref lr, .ref lt, .ref ls, .ref lm, .ref so, .int (nI bxs)]))], w2, w1] 0 0 from ?_)
                refine g_aload_n (q := 109) B dX1_holdsJust_108 rfl rfl (rv_r _) ?_
                refine g_getNM (q := 112) B (ci := 5) (k := 1) (j := 1) in_X10 rfl dX1_holdsJust_109 rfl rfl (hc_4_0) (Nat.le_of_ble_eq_true rfl) q2040 rfl rfl ?_
                refine g_iload (q := 114) B dX1_holdsJust_112 rfl rfl ?_
                refine g_ialdM (v := oI (T.2.1 k)) (q := 115) B (k := 1) dX1_holdsJust_114 rfl rfl (hc_4_1) (vp_in_nI (by omega) (by omega)) (by rw [nI_clamp (by omega)]; exact hfs_4 _ (by omega)) ?_
                refine g_icmp_ne (tgt := 122) (q := 118) B dX1_holdsJust_115 rfl (by decide) (oI_ne2 ((fun n h => by have := hB_4.2.1 _ _ h; omega)) (by omega)) (fun c115 => ?_) (fun c115 => ?_)
                · skip
                  refine g_iconst (v := nI 0) (q := 123) B dX1_holdsJust_122 rfl (by decide) ?_
                  refine g_istore_n (q := 124) (lv2 := [some (.ref x), some (.ref a), some (.int (nI 0)), some (.ref t3), some (.int (nI k)), some (.int (nI 1))]) B dX1_holdsJust_123 rfl (Nat.le_of_ble_eq_true rfl) rfl ?_
                  refine g_iinc (v := nI (k + 1)) (q := 127) (lv2 := [some (.ref x), some (.ref a), some (.int (nI 0)), some (.ref t3), some (.int (nI (k + 1))), some (.int (nI 1))]) B dX1_holdsJust_124 rfl rfl (nI_add _ 1) (Nat.le_of_ble_eq_true rfl) rfl ?_
                  refine g_goto (tgt := 10) B dX1_holdsJust_127 (by decide) ?_
                  refine g_fg 5 rfl ?_
                  refine g_pk [2, 0, 0] rfl rfl ?_
                  refine (show Go g κ 10 [some (.ref x), some (.ref a), some (.int (nI 0)), some (.ref t3), some (.int (nI (k + 1))), none] [] [w1, [(x, .inr (0, [.ref b, .ref lp, .ref lk, .ref lr, .ref lt, .ref ls, .ref lm, .ref so, .int (nI bxs)]))], w2] 0 0 from ?_)
                  exact ih10 _ (by omega) (k + 1) false (by omega) (by rw [all_rs, ← his, show is = true from c65]; unfold hjC; rw [hown, hrr]; simp; exact fun z => c115 z.symm) rfl
                · skip
                  have c115 := Classical.not_not.mp c115
                  refine g_iconst (v := nI 1) (q := 119) B dX1_holdsJust_118 rfl (by decide) ?_
                  refine g_goto (tgt := 123) B dX1_holdsJust_119 (by decide) ?_
                  refine g_istore_n (q := 124) (lv2 := [some (.ref x), some (.ref a), some (.int (nI 1)), some (.ref t3), some (.int (nI k)), some (.int (nI 1))]) B dX1_holdsJust_123 rfl (Nat.le_of_ble_eq_true rfl) rfl ?_
                  refine g_iinc (v := nI (k + 1)) (q := 127) (lv2 := [some (.ref x), some (.ref a), some (.int (nI 1)), some (.ref t3), some (.int (nI (k + 1))), some (.int (nI 1))]) B dX1_holdsJust_124 rfl rfl (nI_add _ 1) (Nat.le_of_ble_eq_true rfl) rfl ?_
                  refine g_goto (tgt := 10) B dX1_holdsJust_127 (by decide) ?_
                  refine g_fg 5 rfl ?_
                  refine g_pk [2, 0, 0] rfl rfl ?_
                  refine (show Go g κ 10 [some (.ref x), some (.ref a), some (.int (nI 1)), some (.ref t3), some (.int (nI (k + 1))), none] [] [w1, [(x, .inr (0, [.ref b, .ref lp, .ref lk, .ref lr, .ref lt, .ref ls, .ref lm, .ref so, .int (nI bxs)]))], w2] 0 0 from ?_)
                  exact ih10 _ (by omega) (k + 1) true (by omega) (by rw [all_rs, ← his, show is = true from c65]; unfold hjC; rw [hown, hrr, c115]; simp) rfl
  exact lp10 _ 0 true (Nat.zero_le _) (rfl) rfl
/-- what isRight asks of an epoch: E, N: what is found from all that was held, and is held -/
def epR (C : KsS) (r : PeS) (E N : Nat → Bool) (e : Nat) : Prop := ∀ (s : StS) (ky : Nat) (T : TrS), (zSt C)[e]? = some s → fnd (zSs C) (s.2.2.1, none, 6) = some ky → (zTs C)[e]? = some T → ((E ky = true ↔ ¬ lof T (pNo r) = none) ∧ (pEp r = none ∨ (∃ m, pEp r = some m ∧ m ≤ e) ∨ ¬ N ky = true))
/-- what isRight answers -/
def rgtP (C : KsS) (r : PeS) (E N : Nat → Bool) : Prop := (∀ e, e < (zTs C).length → epR C r E N e) ∧ (∀ (m : Nat) (s : StS) (ky : Nat), pEp r = some m → (zSt C)[m]? = some s → fnd (zSs C) (s.2.2.1, none, 6) = some ky → pKy r = ky) ∧ (isF (zTs C).length (pEp r) = true → ∀ T, (zTs C)[(zTs C).length - 1]? = some T → hjB T r = true)
theorem ep_s {C : KsS} {r : PeS} {E N : Nat → Bool} {k : Nat} {is : Bool} (h : is = true ↔ ∀ e, e < k → epR C r E N e) {b : Bool} (hb : b = true ↔ is = true ∧ epR C r E N k) : b = true ↔ ∀ e, e < k + 1 → epR C r E N e := by
  rw [hb, h]
  constructor
  · rintro ⟨h1, h2⟩ e he
    rcases Nat.lt_or_ge e k with z | z
    · exact h1 e z
    · rw [show e = k by omega]; exact h2
  · exact fun z => ⟨fun e he => z e (by omega), z k (by omega)⟩
theorem epR_of {C : KsS} {r : PeS} {E N : Nat → Bool} {k : Nat} {s : StS} {ky : Nat} {T : TrS} (h1 : (zSt C)[k]? = some s) (h2 : fnd (zSs C) (s.2.2.1, none, 6) = some ky) (h3 : (zTs C)[k]? = some T) : epR C r E N k ↔ ((E ky = true ↔ ¬ lof T (pNo r) = none) ∧ (pEp r = none ∨ (∃ m, pEp r = some m ∧ m ≤ k) ∨ ¬ N ky = true)) := by
  constructor
  · exact fun z => z s ky T h1 h2 h3
  · intro z s' ky' T' h1' h2' h3'
    rw [h1] at h1'; cases h1'
    rw [h2] at h2'; cases h2'
    rw [h3] at h3'; cases h3'
    exact z
