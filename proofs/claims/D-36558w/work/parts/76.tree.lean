set_option maxRecDepth 100000
def TreeP (g : Gv) (t : Nat) (T : TrS) (w : va_W) : Prop := ∃ (as : Nat) (al : Nat) (ap : Nat) (fs : Nat → Int32) (fl : Nat → Int32) (fp : Nat → Int32), (TrB T) ∧ (∀ i, i < 31 → fs i = oI (T.2.1 i)) ∧ (∀ i, i < 31 → fl i = nI (T.2.2.1 i)) ∧ (∀ i, i < 16 → fp i = oI (T.2.2.2 i)) ∧ w = ([[(t, .inr (5, [.int (nI (2 ^ T.1)), .ref as, .ref al, .ref ap]))], [(as, .inl (g.2.1 0, 31, .inl fs))], [(al, .inl (g.2.1 0, 31, .inl fl))], [(ap, .inl (g.2.1 0, 16, .inl fp))]] : List va_W).flatten
theorem TreeP.hm {g : Gv} {t : Nat} {T : TrS} {w : va_W} (h : TreeP g t T w) : ∃ fs, (t, .inr (5, fs)) ∈ w := by
  obtain ⟨as, al, ap, fs, fl, fp, hB, hfs, hfl, hfp, rfl⟩ := h
  exact ⟨_, List.mem_cons_self⟩
theorem TreeP.vd {g : Gv} {t : Nat} {T : TrS} {w : va_W} (h : TreeP g t T w) : Vd g t w := by
  obtain ⟨fs, h⟩ := TreeP.hm h
  exact Or.inl ⟨5, fs, by decide, h⟩
theorem TreeP.at {g : Gv} {t : Nat} {T : TrS} {W : va_W} (h : Sub (TreeP g t T) W) : ∃ (as : Nat) (al : Nat) (ap : Nat) (fs : Nat → Int32) (fl : Nat → Int32) (fp : Nat → Int32), (TrB T) ∧ (∀ i, i < 31 → fs i = oI (T.2.1 i)) ∧ (∀ i, i < 31 → fl i = nI (T.2.2.1 i)) ∧ (∀ i, i < 16 → fp i = oI (T.2.2.2 i)) ∧ (t, .inr (5, [.int (nI (2 ^ T.1)), .ref as, .ref al, .ref ap])) ∈ W ∧ (as, .inl (g.2.1 0, 31, .inl fs)) ∈ W ∧ (al, .inl (g.2.1 0, 31, .inl fl)) ∈ W ∧ (ap, .inl (g.2.1 0, 16, .inl fp)) ∈ W := by
  obtain ⟨w, R, hp, h⟩ := h
  obtain ⟨as, al, ap, fs, fl, fp, hB, hfs, hfl, hfp, rfl⟩ := h
  exact ⟨as, al, ap, fs, fl, fp, hB, hfs, hfl, hfp, sub_c hp 0 rfl, sub_c hp 1 rfl, sub_c hp 2 rfl, sub_c hp 3 rfl⟩
theorem TreeP.b {g : Gv} {t : Nat} {T : TrS} {w : va_W} (h : TreeP g t T w) : TrB T := by
  obtain ⟨as, al, ap, fs, fl, fp, hB, -⟩ := h
  exact hB
theorem ct_X1_has (g : Gv) (J : Jd g) {s : Nat} {l : Nat} (hs : s < 65536) (hl : l < 16) : Ct g yX1_has (ws_ yX1_has cX1_has 2 (some .boolean)) 0 0 0 [.int (nI s), .int (nI l)] [] (fun (rv_ : Option Value) (rL_ : List va_W) => rv_ = some (.int (nI (if hsB s l = true then 1 else 0))) ∧ rL_ = []) noX := by
  refine Ct.of "Keygrove" [some (.int (nI s)), some (.int (nI l))] rfl (by decide) rfl (Nat.le_of_ble_eq_true rfl) rfl ?_
  intro κ B E tb
  refine g_iload_n (q := 1) B dX1_has_0 rfl rfl ?_
  refine g_iload_n (q := 2) B dX1_has_1 rfl rfl ?_
  refine g_ishr (v := nI (s / 2 ^ l)) (q := 3) B dX1_has_2 rfl (shr_J (by omega) (by omega)) ?_
  refine g_iconst (v := nI 1) (q := 4) B dX1_has_3 rfl (by decide) ?_
  refine g_iand (v := nI (s / 2 ^ l % 2)) (q := 5) B dX1_has_4 rfl (nI_an1 _) ?_
  refine g_iconst (v := nI 1) (q := 6) B dX1_has_5 rfl (by decide) ?_
  refine g_icmp_ne (tgt := 13) (q := 9) B dX1_has_6 rfl (by decide) (hsB_I hs) (fun c6 => ?_) (fun c6 => ?_)
  · skip
    refine g_iconst (v := nI 0) (q := 14) B dX1_has_13 rfl (by decide) ?_
    exact g_zret B E dX1_has_14 (by decide) (⟨bo0 (by first | assumption | omega | (simp_all; done)), rfl⟩)
  · skip
    refine g_iconst (v := nI 1) (q := 10) B dX1_has_9 rfl (by decide) ?_
    refine g_goto (tgt := 14) B dX1_has_10 (by decide) ?_
    exact g_zret B E dX1_has_14 (by decide) (⟨bo1 (by first | assumption | omega | (simp_all; done)), rfl⟩)
theorem ct_X10_init (g : Gv) (J : Jd g) {t : Nat} : Ct g yX10_init (ws_ yX10_init cX10_init 2 none) 1 3 78 [.ref t] [[(t, .inr (5, [.int (nI 0), .null, .null, .null]))]] (fun (rv_ : Option Value) (rL_ : List va_W) => ∃ (u0 : va_W), rv_ = none ∧ rL_ = [u0] ∧ TreeP g t ((0, fun _ => none, fun _ => 0, fun _ => none) : TrS) u0) noX := by
  refine Ct.ofI "Keygrove$Tree" [some (.ref t), none] rfl (by decide) rfl (Nat.le_of_ble_eq_true rfl) rfl rfl ?_
  intro κ B E tb ini
  refine g_aload_n (q := 1) B dX10_init_0 rfl rfl (rv_r _) ?_
  refine g_objInit (q := 4) B q2034 q157 q158 dX10_init_1 rfl rfl (Nat.le_of_ble_eq_true rfl) ?_
  refine g_aload_n (q := 5) B dX10_init_4 rfl rfl (rv_r _) ?_
  refine g_iconst (v := nI 1) (q := 6) B dX10_init_5 rfl (by decide) ?_
  refine g_put (q := 9) (L2 := [[(t, .inr (5, [.int (nI 1), .null, .null, .null]))]]) B (ci := 5) (k := 0) (j := 0) in_X10 tyX10 tyX10_ok nmX10 rfl dX10_init_6 rfl rfl (Nat.le_of_ble_eq_true rfl) q2035 rfl rfl rfl rfl (Nat.le_of_ble_eq_true rfl) rfl ?_
  refine g_aload_n (q := 10) B dX10_init_9 rfl rfl (rv_r _) ?_
  refine g_bipush (v := nI 31) (q := 12) B dX10_init_10 rfl (by decide) ?_
  refine g_newa (atype := .int) (q := 14) (kc2 := 2) (ks2 := 47) (t := 0) (a0 := (31, .inl (fun _ => 0))) B q2055 rfl rfl dX10_init_12 rfl na_int (by decide) rfl (by decide) (Nat.le_of_ble_eq_true rfl) (Nat.le_of_ble_eq_true rfl) (fun n12 => ?_)
  refine (show Go g κ 14 [some (.ref t), none] [.ref n12, .ref t] [[(t, .inr (5, [.int (nI 1), .null, .null, .null]))], [(n12, .inl (g.2.1 0, 31, .inl (fun _ => 0)))]] 2 47 from ?_)
  refine g_putF (q := 17) (L2 := [[(t, .inr (5, [.int (nI 1), .ref n12, .null, .null]))], [(n12, .inl (g.2.1 0, 31, .inl (fun _ => 0)))]]) B (ci := 5) (k := 0) (j := 1) in_X10 tyX10 tyX10_ok nmX10 rfl dX10_init_14 rfl rfl (Nat.le_of_ble_eq_true rfl) q2038 rfl rfl (ini) rfl rfl rfl (Nat.le_of_ble_eq_true rfl) rfl ?_
  refine g_aload_n (q := 18) B dX10_init_17 rfl rfl (rv_r _) ?_
  refine g_bipush (v := nI 31) (q := 20) B dX10_init_18 rfl (by decide) ?_
  refine g_newa (atype := .int) (q := 22) (kc2 := 1) (ks2 := 16) (t := 0) (a0 := (31, .inl (fun _ => 0))) B q2055 rfl rfl dX10_init_20 rfl na_int (by decide) rfl (by decide) (Nat.le_of_ble_eq_true rfl) (Nat.le_of_ble_eq_true rfl) (fun n20 => ?_)
  refine (show Go g κ 22 [some (.ref t), none] [.ref n20, .ref t] [[(t, .inr (5, [.int (nI 1), .ref n12, .null, .null]))], [(n12, .inl (g.2.1 0, 31, .inl (fun _ => 0)))], [(n20, .inl (g.2.1 0, 31, .inl (fun _ => 0)))]] 1 16 from ?_)
  refine g_putF (q := 25) (L2 := [[(t, .inr (5, [.int (nI 1), .ref n12, .ref n20, .null]))], [(n12, .inl (g.2.1 0, 31, .inl (fun _ => 0)))], [(n20, .inl (g.2.1 0, 31, .inl (fun _ => 0)))]]) B (ci := 5) (k := 0) (j := 2) in_X10 tyX10 tyX10_ok nmX10 rfl dX10_init_22 rfl rfl (Nat.le_of_ble_eq_true rfl) q2041 rfl rfl (ini) rfl rfl rfl (Nat.le_of_ble_eq_true rfl) rfl ?_
  refine g_aload_n (q := 26) B dX10_init_25 rfl rfl (rv_r _) ?_
  refine g_bipush (v := nI 16) (q := 28) B dX10_init_26 rfl (by decide) ?_
  refine g_newa (atype := .int) (q := 30) (kc2 := 0) (ks2 := 0) (t := 0) (a0 := (16, .inl (fun _ => 0))) B q2055 rfl rfl dX10_init_28 rfl na_int (by decide) rfl (by decide) (Nat.le_of_ble_eq_true rfl) (Nat.le_of_ble_eq_true rfl) (fun n28 => ?_)
  refine (show Go g κ 30 [some (.ref t), none] [.ref n28, .ref t] [[(t, .inr (5, [.int (nI 1), .ref n12, .ref n20, .null]))], [(n12, .inl (g.2.1 0, 31, .inl (fun _ => 0)))], [(n20, .inl (g.2.1 0, 31, .inl (fun _ => 0)))], [(n28, .inl (g.2.1 0, 16, .inl (fun _ => 0)))]] 0 0 from ?_)
  refine g_putF (q := 33) (L2 := [[(t, .inr (5, [.int (nI 1), .ref n12, .ref n20, .ref n28]))], [(n12, .inl (g.2.1 0, 31, .inl (fun _ => 0)))], [(n20, .inl (g.2.1 0, 31, .inl (fun _ => 0)))], [(n28, .inl (g.2.1 0, 16, .inl (fun _ => 0)))]]) B (ci := 5) (k := 0) (j := 3) in_X10 tyX10 tyX10_ok nmX10 rfl dX10_init_30 rfl rfl (Nat.le_of_ble_eq_true rfl) q2043 rfl rfl (ini) rfl rfl rfl (Nat.le_of_ble_eq_true rfl) rfl ?_
  refine g_iconst (v := nI 0) (q := 34) B dX10_init_33 rfl (by decide) ?_
  refine g_istore_n (q := 35) (lv2 := [some (.ref t), some (.int (nI 0))]) B dX10_init_34 rfl (Nat.le_of_ble_eq_true rfl) rfl ?_
  have lp35 : ∀ (n35 : Nat) (k : Nat) (f1 : Nat → Int32) , (k ≤ 31) → (∀ i, i < k → f1 i = -1) → 31 - k = n35 → Go g κ 35 [some (.ref t), some (.int (nI k))] [] [[(t, .inr (5, [.int (nI 1), .ref n12, .ref n20, .ref n28]))], [(n12, .inl (g.2.1 0, 31, .inl f1))], [(n20, .inl (g.2.1 0, 31, .inl (fun _ => 0)))], [(n28, .inl (g.2.1 0, 16, .inl (fun _ => 0)))]] 0 0 := by
    intro n35
    induction n35 using Nat.strongRecOn with
    | _ n35 ih35 =>
    intro k f1  hk hf hmu35
    refine g_iload_n (q := 36) B dX10_init_35 rfl rfl ?_
    refine g_aload_n (q := 37) B dX10_init_36 rfl rfl (rv_r _) ?_
    refine g_get (q := 40) B (ci := 5) (k := 0) (j := 1) in_X10 rfl dX10_init_37 rfl rfl (Nat.le_of_ble_eq_true rfl) q2038 rfl rfl ?_
    refine g_alen (v := nI 31) (q := 41) B (k := 1) (t := 0) dX10_init_40 rfl rfl rfl rfl ?_
    refine g_icmp_ge (tgt := 57) (q := 44) B dX10_init_41 rfl (by decide) (nI_leI (by omega) (by omega)) (fun c41 => ?_) (fun c41 => ?_)
    · skip
      have hf1 : ∀ i, i < 31 → f1 i = -1 := fun i hi => hf i (by omega)
      refine g_iconst (v := nI 0) (q := 58) B dX10_init_57 rfl (by decide) ?_
      refine g_istore_n (q := 59) (lv2 := [some (.ref t), some (.int (nI 0))]) B dX10_init_58 rfl (Nat.le_of_ble_eq_true rfl) rfl ?_
      have lp59 : ∀ (n59 : Nat) (k : Nat) (f2 : Nat → Int32) , (k ≤ 16) → (∀ i, i < k → f2 i = -1) → 16 - k = n59 → Go g κ 59 [some (.ref t), some (.int (nI k))] [] [[(t, .inr (5, [.int (nI 1), .ref n12, .ref n20, .ref n28]))], [(n12, .inl (g.2.1 0, 31, .inl f1))], [(n20, .inl (g.2.1 0, 31, .inl (fun _ => 0)))], [(n28, .inl (g.2.1 0, 16, .inl f2))]] 0 0 := by
        intro n59
        induction n59 using Nat.strongRecOn with
        | _ n59 ih59 =>
        intro k f2  hk hf hmu59
        refine g_iload_n (q := 60) B dX10_init_59 rfl rfl ?_
        refine g_bipush (v := nI 16) (q := 62) B dX10_init_60 rfl (by decide) ?_
        refine g_icmp_ge (tgt := 78) (q := 65) B dX10_init_62 rfl (by decide) (nI_leI (by omega) (by omega)) (fun c62 => ?_) (fun c62 => ?_)
        · skip
          obtain ⟨wc_1, ewc_1⟩ : ∃ w : va_W, w = ([[(t, .inr (5, [.int (nI 1), .ref n12, .ref n20, .ref n28]))], [(n12, .inl (g.2.1 0, 31, .inl f1))], [(n20, .inl (g.2.1 0, 31, .inl (fun _ => 0)))], [(n28, .inl (g.2.1 0, 16, .inl f2))]] : List va_W).flatten := ⟨_, rfl⟩
          have hwc_1 : TreeP g t ((0, fun _ => none, fun _ => 0, fun _ => none) : TrS) wc_1 := by
            rw [ewc_1]
            exact ⟨n12, n20, n28, f1, (fun _ => 0), f2, (⟨by decide, (fun i n h => by cases h), (fun i => (show 0 < 65536 by decide)), (fun i n h => by cases h)⟩), (fun i hi => hf1 i hi), (fun i _ => rfl), (fun i hi => hf i (by omega)), rfl⟩
          refine g_close (w := wc_1) [0, 0, 0, 0] rfl ewc_1 rfl ?_
          refine (show Go g κ 78 [some (.ref t), some (.int (nI k))] [] [wc_1] 0 0 from ?_)
          exact g_vret B E dX10_init_78 (⟨wc_1, rfl, rfl, hwc_1⟩)
        · skip
          refine g_aload_n (q := 66) B dX10_init_65 rfl rfl (rv_r _) ?_
          refine g_get (q := 69) B (ci := 5) (k := 0) (j := 3) in_X10 rfl dX10_init_66 rfl rfl (Nat.le_of_ble_eq_true rfl) q2043 rfl rfl ?_
          refine g_iload_n (q := 70) B dX10_init_69 rfl rfl ?_
          refine g_iconst (v := -1) (q := 71) B dX10_init_70 rfl (by decide) ?_
          refine g_iast (q := 72) (L2 := [[(t, .inr (5, [.int (nI 1), .ref n12, .ref n20, .ref n28]))], [(n12, .inl (g.2.1 0, 31, .inl f1))], [(n20, .inl (g.2.1 0, 31, .inl (fun _ => 0)))], [(n28, .inl (g.2.1 0, 16, .inl (upd f2 k (-1))))]]) B (k := 3) dX10_init_71 rfl rfl (vp_in_nI (by omega) (by omega)) (by rw [nI_clamp (by omega)] <;> rfl) ?_
          have hn : ∀ i, i < k + 1 → (upd f2 k (-1)) i = -1 := by
            intro i hi
            unfold upd
            split
            · rfl
            · exact hf i (by omega)
          generalize upd f2 k (-1) = f9 at hn ⊢
          refine (show Go g κ 72 [some (.ref t), some (.int (nI k))] [] [[(t, .inr (5, [.int (nI 1), .ref n12, .ref n20, .ref n28]))], [(n12, .inl (g.2.1 0, 31, .inl f1))], [(n20, .inl (g.2.1 0, 31, .inl (fun _ => 0)))], [(n28, .inl (g.2.1 0, 16, .inl f9))]] 0 0 from ?_)
          refine g_iinc (v := nI (k + 1)) (q := 75) (lv2 := [some (.ref t), some (.int (nI (k + 1)))]) B dX10_init_72 rfl rfl (nI_add _ 1) (Nat.le_of_ble_eq_true rfl) rfl ?_
          refine g_goto (tgt := 59) B dX10_init_75 (by decide) ?_
          exact ih59 _ (by omega) (k + 1) f9 (by omega) (hn) rfl
      exact lp59 _ 0 (fun _ => 0) (Nat.zero_le _) (fun i h => absurd h (Nat.not_lt_zero i)) rfl
    · skip
      refine g_aload_n (q := 45) B dX10_init_44 rfl rfl (rv_r _) ?_
      refine g_get (q := 48) B (ci := 5) (k := 0) (j := 1) in_X10 rfl dX10_init_45 rfl rfl (Nat.le_of_ble_eq_true rfl) q2038 rfl rfl ?_
      refine g_iload_n (q := 49) B dX10_init_48 rfl rfl ?_
      refine g_iconst (v := -1) (q := 50) B dX10_init_49 rfl (by decide) ?_
      refine g_iast (q := 51) (L2 := [[(t, .inr (5, [.int (nI 1), .ref n12, .ref n20, .ref n28]))], [(n12, .inl (g.2.1 0, 31, .inl (upd f1 k (-1))))], [(n20, .inl (g.2.1 0, 31, .inl (fun _ => 0)))], [(n28, .inl (g.2.1 0, 16, .inl (fun _ => 0)))]]) B (k := 1) dX10_init_50 rfl rfl (vp_in_nI (by omega) (by omega)) (by rw [nI_clamp (by omega)] <;> rfl) ?_
      have hn : ∀ i, i < k + 1 → (upd f1 k (-1)) i = -1 := by
        intro i hi
        unfold upd
        split
        · rfl
        · exact hf i (by omega)
      generalize upd f1 k (-1) = f9 at hn ⊢
      refine (show Go g κ 51 [some (.ref t), some (.int (nI k))] [] [[(t, .inr (5, [.int (nI 1), .ref n12, .ref n20, .ref n28]))], [(n12, .inl (g.2.1 0, 31, .inl f9))], [(n20, .inl (g.2.1 0, 31, .inl (fun _ => 0)))], [(n28, .inl (g.2.1 0, 16, .inl (fun _ => 0)))]] 0 0 from ?_)
      refine g_iinc (v := nI (k + 1)) (q := 54) (lv2 := [some (.ref t), some (.int (nI (k + 1)))]) B dX10_init_51 rfl rfl (nI_add _ 1) (Nat.le_of_ble_eq_true rfl) rfl ?_
      refine g_goto (tgt := 35) B dX10_init_54 (by decide) ?_
      exact ih35 _ (by omega) (k + 1) f9 (by omega) (hn) rfl
  exact lp35 _ 0 (fun _ => 0) (Nat.zero_le _) (fun i h => absurd h (Nat.not_lt_zero i)) rfl
theorem nwX10 : ∀ j, j < 4 → defaultValue (tyX10 j) = vp_V [.int (nI 0), .null, .null, .null] j := by
  intro j hj
  match j, hj with
  | 0, _ => rfl
  | 1, _ => rfl
  | 2, _ => rfl
  | 3, _ => rfl
  | n + 4, hj => exact absurd hj (by omega)
theorem moX10_init : Mo yX10_init 0 := by
  refine ⟨by decide, by decide, by decide +kernel⟩
theorem ct_X10_copy (g : Gv) (J : Jd g) {t : Nat} {T : TrS} {w0 : va_W} (hw0 : TreeP g t T w0) : Ct g yX10_copy (ws_ yX10_copy cX10_copy 3 (some (.object "Keygrove$Tree"))) 2 4 82 [.ref t] [w0] (fun (rv_ : Option Value) (rL_ : List va_W) => ∃ (r : Nat) (u1 : va_W), rv_ = some (.ref r) ∧ rL_ = [w0, u1] ∧ TreeP g r T u1) noX := by
  refine Ct.of "Keygrove$Tree" [some (.ref t), none, none] rfl (by decide) rfl (Nat.le_of_ble_eq_true rfl) rfl ?_
  intro κ B E tb
  have hB := TreeP.b hw0
  have hp2 := p2_4 hB.1
  have hd4 := hB.1
  refine g_new (q := 3) (kc2 := 3) (ks2 := 78) (fs := [.int (nI 0), .null, .null, .null]) B (ci := 5) in_X10 tyX10_ok rfl dX10_copy_0 rfl q2484 q2030 q123 (nwX10) (Nat.le_of_ble_eq_true rfl) (Nat.le_of_ble_eq_true rfl) (fun n0 => ?_)
  refine (show Go g κ 3 [some (.ref t), none, none] [.ref n0] [w0, [(n0, .inr (5, [.int (nI 0), .null, .null, .null]))]] 3 78 from ?_)
  refine g_dup (q := 4) B dX10_copy_3 rfl rfl ?_
  refine g_callI (q := 7) (is := [1]) (kc2 := 0) (ks2 := 0) B [] (ct_X10_init g J (t := n0)  ) dX10_copy_4 rfl rfl q2485 q2032 q123 q2033 rfl rfl moX10_init rfl rfl (by decide) (by decide) (Nat.le_of_ble_eq_true rfl) (Nat.le_of_ble_eq_true rfl) (Nat.le_of_ble_eq_true rfl) (fun _ _ hx => noX_x hx) (fun v4 L1 hp4 => ?_)
  obtain ⟨u0_4, rfl, rfl, hu0_4⟩ := hp4
  refine (show Go g κ 7 [some (.ref t), none, none] [.ref n0] [w0, u0_4] 0 0 from ?_)
  refine g_astore_n (q := 8) (lv2 := [some (.ref t), some (.ref n0), none]) B dX10_copy_7 rfl (Nat.le_of_ble_eq_true rfl) (rv_r _) rfl ?_
  obtain ⟨as_m, al_m, ap_m, fs_m, fl_m, fp_m, hB_m, hfs_m, hfl_m, hfp_m, rfl⟩ := hu0_4
  refine g_open 1 rfl rfl rfl ?_
  refine (show Go g κ 8 [some (.ref t), some (.ref n0), none] [] [w0, [(n0, .inr (5, [.int (nI (2 ^ ((0, fun _ => none, fun _ => 0, fun _ => none) : TrS).1)), .ref as_m, .ref al_m, .ref ap_m]))], [(as_m, .inl (g.2.1 0, 31, .inl fs_m))], [(al_m, .inl (g.2.1 0, 31, .inl fl_m))], [(ap_m, .inl (g.2.1 0, 16, .inl fp_m))]] 0 0 from ?_)
  refine g_aload_n (q := 9) B dX10_copy_8 rfl rfl (rv_r _) ?_
  refine g_aload_n (q := 10) B dX10_copy_9 rfl rfl (rv_r _) ?_
  obtain ⟨as_1, al_1, ap_1, fs_1, fl_1, fp_1, hB_1, hfs_1, hfl_1, hfp_1, hc_1_0, hc_1_1, hc_1_2, hc_1_3⟩ := TreeP.at (Sub.self hw0)
  refine g_getM (q := 13) B (ci := 5) (k := 0) (j := 0) in_X10 rfl dX10_copy_10 rfl rfl (hc_1_0) (Nat.le_of_ble_eq_true rfl) q2035 rfl rfl ?_
  refine g_put (q := 16) (L2 := [w0, [(n0, .inr (5, [.int (nI (2 ^ T.1)), .ref as_m, .ref al_m, .ref ap_m]))], [(as_m, .inl (g.2.1 0, 31, .inl fs_m))], [(al_m, .inl (g.2.1 0, 31, .inl fl_m))], [(ap_m, .inl (g.2.1 0, 16, .inl fp_m))]]) B (ci := 5) (k := 1) (j := 0) in_X10 tyX10 tyX10_ok nmX10 rfl dX10_copy_13 rfl rfl (Nat.le_of_ble_eq_true rfl) q2035 rfl rfl rfl rfl (Nat.le_of_ble_eq_true rfl) rfl ?_
  refine g_iconst (v := nI 0) (q := 17) B dX10_copy_16 rfl (by decide) ?_
  refine g_istore_n (q := 18) (lv2 := [some (.ref t), some (.ref n0), some (.int (nI 0))]) B dX10_copy_17 rfl (Nat.le_of_ble_eq_true rfl) rfl ?_
  have lp18 : ∀ (n18 : Nat) (k : Nat) (e1 : Nat → Int32) (e2 : Nat → Int32) , (k ≤ 31) → (∀ i, i < k → e1 i = oI (T.2.1 i)) → (∀ i, i < k → e2 i = nI (T.2.2.1 i)) → 31 - k = n18 → Go g κ 18 [some (.ref t), some (.ref n0), some (.int (nI k))] [] [w0, [(n0, .inr (5, [.int (nI (2 ^ T.1)), .ref as_m, .ref al_m, .ref ap_m]))], [(as_m, .inl (g.2.1 0, 31, .inl e1))], [(al_m, .inl (g.2.1 0, 31, .inl e2))], [(ap_m, .inl (g.2.1 0, 16, .inl fp_m))]] 0 0 := by
    intro n18
    induction n18 using Nat.strongRecOn with
    | _ n18 ih18 =>
    intro k e1 e2  hk he1 he2 hmu18
    refine g_iload_n (q := 19) B dX10_copy_18 rfl rfl ?_
    refine g_aload_n (q := 20) B dX10_copy_19 rfl rfl (rv_r _) ?_
    refine g_getM (q := 23) B (ci := 5) (k := 0) (j := 1) in_X10 rfl dX10_copy_20 rfl rfl (hc_1_0) (Nat.le_of_ble_eq_true rfl) q2038 rfl rfl ?_
    refine g_alenM (v := nI 31) (q := 24) B (k := 0) (t := 0) dX10_copy_23 rfl rfl (hc_1_1) rfl rfl ?_
    refine g_icmp_ge (tgt := 57) (q := 27) B dX10_copy_24 rfl (by decide) (nI_leI (by omega) (by omega)) (fun c24 => ?_) (fun c24 => ?_)
    · skip
      have hE1 : ∀ i, i < 31 → e1 i = oI (T.2.1 i) := fun i hi => he1 i (by omega)
      have hE2 : ∀ i, i < 31 → e2 i = nI (T.2.2.1 i) := fun i hi => he2 i (by omega)
      refine g_iconst (v := nI 0) (q := 58) B dX10_copy_57 rfl (by decide) ?_
      refine g_istore_n (q := 59) (lv2 := [some (.ref t), some (.ref n0), some (.int (nI 0))]) B dX10_copy_58 rfl (Nat.le_of_ble_eq_true rfl) rfl ?_
      have lp59 : ∀ (n59 : Nat) (k : Nat) (e3 : Nat → Int32) , (k ≤ 16) → (∀ i, i < k → e3 i = oI (T.2.2.2 i)) → 16 - k = n59 → Go g κ 59 [some (.ref t), some (.ref n0), some (.int (nI k))] [] [w0, [(n0, .inr (5, [.int (nI (2 ^ T.1)), .ref as_m, .ref al_m, .ref ap_m]))], [(as_m, .inl (g.2.1 0, 31, .inl e1))], [(al_m, .inl (g.2.1 0, 31, .inl e2))], [(ap_m, .inl (g.2.1 0, 16, .inl e3))]] 0 0 := by
        intro n59
        induction n59 using Nat.strongRecOn with
        | _ n59 ih59 =>
        intro k e3  hk he3 hmu59
        refine g_iload_n (q := 60) B dX10_copy_59 rfl rfl ?_
        refine g_bipush (v := nI 16) (q := 62) B dX10_copy_60 rfl (by decide) ?_
        refine g_icmp_ge (tgt := 83) (q := 65) B dX10_copy_62 rfl (by decide) (nI_leI (by omega) (by omega)) (fun c62 => ?_) (fun c62 => ?_)
        · skip
          refine g_aload_n (q := 84) B dX10_copy_83 rfl rfl (rv_r _) ?_
          obtain ⟨wc_2, ewc_2⟩ : ∃ w : va_W, w = ([[(n0, .inr (5, [.int (nI (2 ^ T.1)), .ref as_m, .ref al_m, .ref ap_m]))], [(as_m, .inl (g.2.1 0, 31, .inl e1))], [(al_m, .inl (g.2.1 0, 31, .inl e2))], [(ap_m, .inl (g.2.1 0, 16, .inl e3))]] : List va_W).flatten := ⟨_, rfl⟩
          have hwc_2 : TreeP g n0 T wc_2 := by
            rw [ewc_2]
            exact ⟨as_m, al_m, ap_m, e1, e2, e3, hB, hE1, hE2, (fun i hi => he3 i (by omega)), rfl⟩
          refine g_close (w := wc_2) [1, 1, 1, 1] rfl ewc_2 rfl ?_
          refine (show Go g κ 84 [some (.ref t), some (.ref n0), some (.int (nI k))] [.ref n0] [w0, wc_2] 0 0 from ?_)
          exact g_aret B E dX10_copy_84 (by first | exact Or.inl ⟨_, rfl⟩ | exact Or.inr ⟨_, rfl⟩) (rv_r _) (⟨n0, wc_2, rfl, rfl, hwc_2⟩)
        · skip
          refine g_aload_n (q := 66) B dX10_copy_65 rfl rfl (rv_r _) ?_
          refine g_get (q := 69) B (ci := 5) (k := 1) (j := 3) in_X10 rfl dX10_copy_66 rfl rfl (Nat.le_of_ble_eq_true rfl) q2043 rfl rfl ?_
          refine g_iload_n (q := 70) B dX10_copy_69 rfl rfl ?_
          refine g_aload_n (q := 71) B dX10_copy_70 rfl rfl (rv_r _) ?_
          refine g_getM (q := 74) B (ci := 5) (k := 0) (j := 3) in_X10 rfl dX10_copy_71 rfl rfl (hc_1_0) (Nat.le_of_ble_eq_true rfl) q2043 rfl rfl ?_
          refine g_iload_n (q := 75) B dX10_copy_74 rfl rfl ?_
          refine g_ialdM (v := oI (T.2.2.2 k)) (q := 76) B (k := 0) dX10_copy_75 rfl rfl (hc_1_3) (vp_in_nI (by omega) (by omega)) (by rw [nI_clamp (by omega)]; exact hfp_1 _ (by omega)) ?_
          refine g_iast (q := 77) (L2 := [w0, [(n0, .inr (5, [.int (nI (2 ^ T.1)), .ref as_m, .ref al_m, .ref ap_m]))], [(as_m, .inl (g.2.1 0, 31, .inl e1))], [(al_m, .inl (g.2.1 0, 31, .inl e2))], [(ap_m, .inl (g.2.1 0, 16, .inl (upd e3 k (oI (T.2.2.2 k)))))]]) B (k := 4) dX10_copy_76 rfl rfl (vp_in_nI (by omega) (by omega)) (by rw [nI_clamp (by omega)] <;> rfl) ?_
          have hn76 : ∀ i, i < k + 1 → (upd e3 k (oI (T.2.2.2 k))) i = oI (T.2.2.2 i) := by
            intro i hi
            unfold upd
            split
            · rename_i e; rw [e]
            · exact he3 i (by omega)
          generalize upd e3 k (oI (T.2.2.2 k)) = f76 at hn76 ⊢
          refine (show Go g κ 77 [some (.ref t), some (.ref n0), some (.int (nI k))] [] [w0, [(n0, .inr (5, [.int (nI (2 ^ T.1)), .ref as_m, .ref al_m, .ref ap_m]))], [(as_m, .inl (g.2.1 0, 31, .inl e1))], [(al_m, .inl (g.2.1 0, 31, .inl e2))], [(ap_m, .inl (g.2.1 0, 16, .inl f76))]] 0 0 from ?_)
          refine g_iinc (v := nI (k + 1)) (q := 80) (lv2 := [some (.ref t), some (.ref n0), some (.int (nI (k + 1)))]) B dX10_copy_77 rfl rfl (nI_add _ 1) (Nat.le_of_ble_eq_true rfl) rfl ?_
          refine g_goto (tgt := 59) B dX10_copy_80 (by decide) ?_
          exact ih59 _ (by omega) (k + 1) f76 (by omega) (hn76) rfl
      exact lp59 _ 0 fp_m (Nat.zero_le _) (fun i h => absurd h (Nat.not_lt_zero i)) rfl
    · skip
      refine g_aload_n (q := 28) B dX10_copy_27 rfl rfl (rv_r _) ?_
      refine g_get (q := 31) B (ci := 5) (k := 1) (j := 1) in_X10 rfl dX10_copy_28 rfl rfl (Nat.le_of_ble_eq_true rfl) q2038 rfl rfl ?_
      refine g_iload_n (q := 32) B dX10_copy_31 rfl rfl ?_
      refine g_aload_n (q := 33) B dX10_copy_32 rfl rfl (rv_r _) ?_
      refine g_getM (q := 36) B (ci := 5) (k := 0) (j := 1) in_X10 rfl dX10_copy_33 rfl rfl (hc_1_0) (Nat.le_of_ble_eq_true rfl) q2038 rfl rfl ?_
      refine g_iload_n (q := 37) B dX10_copy_36 rfl rfl ?_
      refine g_ialdM (v := oI (T.2.1 k)) (q := 38) B (k := 0) dX10_copy_37 rfl rfl (hc_1_1) (vp_in_nI (by omega) (by omega)) (by rw [nI_clamp (by omega)]; exact hfs_1 _ (by omega)) ?_
      refine g_iast (q := 39) (L2 := [w0, [(n0, .inr (5, [.int (nI (2 ^ T.1)), .ref as_m, .ref al_m, .ref ap_m]))], [(as_m, .inl (g.2.1 0, 31, .inl (upd e1 k (oI (T.2.1 k)))))], [(al_m, .inl (g.2.1 0, 31, .inl e2))], [(ap_m, .inl (g.2.1 0, 16, .inl fp_m))]]) B (k := 2) dX10_copy_38 rfl rfl (vp_in_nI (by omega) (by omega)) (by rw [nI_clamp (by omega)] <;> rfl) ?_
      have hn38 : ∀ i, i < k + 1 → (upd e1 k (oI (T.2.1 k))) i = oI (T.2.1 i) := by
        intro i hi
        unfold upd
        split
        · rename_i e; rw [e]
        · exact he1 i (by omega)
      generalize upd e1 k (oI (T.2.1 k)) = f38 at hn38 ⊢
      refine (show Go g κ 39 [some (.ref t), some (.ref n0), some (.int (nI k))] [] [w0, [(n0, .inr (5, [.int (nI (2 ^ T.1)), .ref as_m, .ref al_m, .ref ap_m]))], [(as_m, .inl (g.2.1 0, 31, .inl f38))], [(al_m, .inl (g.2.1 0, 31, .inl e2))], [(ap_m, .inl (g.2.1 0, 16, .inl fp_m))]] 0 0 from ?_)
      refine g_aload_n (q := 40) B dX10_copy_39 rfl rfl (rv_r _) ?_
      refine g_get (q := 43) B (ci := 5) (k := 1) (j := 2) in_X10 rfl dX10_copy_40 rfl rfl (Nat.le_of_ble_eq_true rfl) q2041 rfl rfl ?_
      refine g_iload_n (q := 44) B dX10_copy_43 rfl rfl ?_
      refine g_aload_n (q := 45) B dX10_copy_44 rfl rfl (rv_r _) ?_
      refine g_getM (q := 48) B (ci := 5) (k := 0) (j := 2) in_X10 rfl dX10_copy_45 rfl rfl (hc_1_0) (Nat.le_of_ble_eq_true rfl) q2041 rfl rfl ?_
      refine g_iload_n (q := 49) B dX10_copy_48 rfl rfl ?_
      refine g_ialdM (v := nI (T.2.2.1 k)) (q := 50) B (k := 0) dX10_copy_49 rfl rfl (hc_1_2) (vp_in_nI (by omega) (by omega)) (by rw [nI_clamp (by omega)]; exact hfl_1 _ (by omega)) ?_
      refine g_iast (q := 51) (L2 := [w0, [(n0, .inr (5, [.int (nI (2 ^ T.1)), .ref as_m, .ref al_m, .ref ap_m]))], [(as_m, .inl (g.2.1 0, 31, .inl f38))], [(al_m, .inl (g.2.1 0, 31, .inl (upd e2 k (nI (T.2.2.1 k)))))], [(ap_m, .inl (g.2.1 0, 16, .inl fp_m))]]) B (k := 3) dX10_copy_50 rfl rfl (vp_in_nI (by omega) (by omega)) (by rw [nI_clamp (by omega)] <;> rfl) ?_
      have hn50 : ∀ i, i < k + 1 → (upd e2 k (nI (T.2.2.1 k))) i = nI (T.2.2.1 i) := by
        intro i hi
        unfold upd
        split
        · rename_i e; rw [e]
        · exact he2 i (by omega)
      generalize upd e2 k (nI (T.2.2.1 k)) = f50 at hn50 ⊢
      refine (show Go g κ 51 [some (.ref t), some (.ref n0), some (.int (nI k))] [] [w0, [(n0, .inr (5, [.int (nI (2 ^ T.1)), .ref as_m, .ref al_m, .ref ap_m]))], [(as_m, .inl (g.2.1 0, 31, .inl f38))], [(al_m, .inl (g.2.1 0, 31, .inl f50))], [(ap_m, .inl (g.2.1 0, 16, .inl fp_m))]] 0 0 from ?_)
      refine g_iinc (v := nI (k + 1)) (q := 54) (lv2 := [some (.ref t), some (.ref n0), some (.int (nI (k + 1)))]) B dX10_copy_51 rfl rfl (nI_add _ 1) (Nat.le_of_ble_eq_true rfl) rfl ?_
      refine g_goto (tgt := 18) B dX10_copy_54 (by decide) ?_
      exact ih18 _ (by omega) (k + 1) f38 f50 (by omega) (hn38) (hn50) rfl
  exact lp18 _ 0 fs_m fl_m (Nat.zero_le _) (fun i h => absurd h (Nat.not_lt_zero i)) (fun i h => absurd h (Nat.not_lt_zero i)) rfl
theorem ct_X10_nodes (g : Gv) (J : Jd g) {t : Nat} {T : TrS} {w0 : va_W} (hw0 : TreeP g t T w0) : Ct g yX10_nodes (ws_ yX10_nodes cX10_nodes 1 (some .int)) 0 0 0 [.ref t] [w0] (fun (rv_ : Option Value) (rL_ : List va_W) => rv_ = some (.int (nI (2 * 2 ^ T.1 - 1))) ∧ rL_ = [w0]) noX := by
  refine Ct.of "Keygrove$Tree" [some (.ref t)] rfl (by decide) rfl (Nat.le_of_ble_eq_true rfl) rfl ?_
  intro κ B E tb
  have hB := TreeP.b hw0
  have hp2 := p2_4 hB.1
  have hd4 := hB.1
  refine g_iconst (v := nI 2) (q := 1) B dX10_nodes_0 rfl (by decide) ?_
  refine g_aload_n (q := 2) B dX10_nodes_1 rfl rfl (rv_r _) ?_
  obtain ⟨as_1, al_1, ap_1, fs_1, fl_1, fp_1, hB_1, hfs_1, hfl_1, hfp_1, hc_1_0, hc_1_1, hc_1_2, hc_1_3⟩ := TreeP.at (Sub.self hw0)
  refine g_getM (q := 5) B (ci := 5) (k := 0) (j := 0) in_X10 rfl dX10_nodes_2 rfl rfl (hc_1_0) (Nat.le_of_ble_eq_true rfl) q2035 rfl rfl ?_
  refine g_imul (v := nI (2 * (2 ^ T.1))) (q := 6) B dX10_nodes_5 rfl (pk_mul _ _) ?_
  refine g_iconst (v := nI 1) (q := 7) B dX10_nodes_6 rfl (by decide) ?_
  refine g_isub (v := nI ((2 * (2 ^ T.1)) - 1)) (q := 8) B dX10_nodes_7 rfl (pk_sub (by omega)) ?_
  exact g_iret B E dX10_nodes_8 (⟨rfl, rfl⟩)
theorem ct_X10_root (g : Gv) (J : Jd g) {t : Nat} {T : TrS} {w0 : va_W} (hw0 : TreeP g t T w0) : Ct g yX10_root (ws_ yX10_root cX10_root 1 (some .int)) 0 0 0 [.ref t] [w0] (fun (rv_ : Option Value) (rL_ : List va_W) => rv_ = some (.int (nI (2 ^ T.1 - 1))) ∧ rL_ = [w0]) noX := by
  refine Ct.of "Keygrove$Tree" [some (.ref t)] rfl (by decide) rfl (Nat.le_of_ble_eq_true rfl) rfl ?_
  intro κ B E tb
  have hB := TreeP.b hw0
  have hp2 := p2_4 hB.1
  have hd4 := hB.1
  refine g_aload_n (q := 1) B dX10_root_0 rfl rfl (rv_r _) ?_
  obtain ⟨as_1, al_1, ap_1, fs_1, fl_1, fp_1, hB_1, hfs_1, hfl_1, hfp_1, hc_1_0, hc_1_1, hc_1_2, hc_1_3⟩ := TreeP.at (Sub.self hw0)
  refine g_getM (q := 4) B (ci := 5) (k := 0) (j := 0) in_X10 rfl dX10_root_1 rfl rfl (hc_1_0) (Nat.le_of_ble_eq_true rfl) q2035 rfl rfl ?_
  refine g_iconst (v := nI 1) (q := 5) B dX10_root_4 rfl (by decide) ?_
  refine g_isub (v := nI ((2 ^ T.1) - 1)) (q := 6) B dX10_root_5 rfl (pk_sub (by omega)) ?_
  exact g_iret B E dX10_root_6 (⟨rfl, rfl⟩)
theorem ct_X10_isBlank (g : Gv) (J : Jd g) {t : Nat} {T : TrS} {n : Nat} {w0 : va_W} (hw0 : TreeP g t T w0) (hn : n < 31) : Ct g yX10_isBlank (ws_ yX10_isBlank cX10_isBlank 2 (some .boolean)) 0 0 0 [.ref t, .int (nI n)] [w0] (fun (rv_ : Option Value) (rL_ : List va_W) => rv_ = some (.int (nI (if T.2.1 n = none then 1 else 0))) ∧ rL_ = [w0]) noX := by
  refine Ct.of "Keygrove$Tree" [some (.ref t), some (.int (nI n))] rfl (by decide) rfl (Nat.le_of_ble_eq_true rfl) rfl ?_
  intro κ B E tb
  refine g_aload_n (q := 1) B dX10_isBlank_0 rfl rfl (rv_r _) ?_
  obtain ⟨as_1, al_1, ap_1, fs_1, fl_1, fp_1, hB_1, hfs_1, hfl_1, hfp_1, hc_1_0, hc_1_1, hc_1_2, hc_1_3⟩ := TreeP.at (Sub.self hw0)
  refine g_getM (q := 4) B (ci := 5) (k := 0) (j := 1) in_X10 rfl dX10_isBlank_1 rfl rfl (hc_1_0) (Nat.le_of_ble_eq_true rfl) q2038 rfl rfl ?_
  refine g_iload_n (q := 5) B dX10_isBlank_4 rfl rfl ?_
  refine g_ialdM (v := oI (T.2.1 n)) (q := 6) B (k := 0) dX10_isBlank_5 rfl rfl (hc_1_1) (vp_in_nI (by omega) (by omega)) (by rw [nI_clamp (by omega)]; exact hfs_1 _ (by omega)) ?_
  refine g_iconst (v := -1) (q := 7) B dX10_isBlank_6 rfl (by decide) ?_
  refine g_icmp_ne (tgt := 14) (q := 10) B dX10_isBlank_7 rfl (by decide) (oI_nn ((fun n h => by have := hB_1.2.1 _ _ h; omega))) (fun c7 => ?_) (fun c7 => ?_)
  · skip
    obtain ⟨v7, ev7⟩ := Option.ne_none_iff_exists'.mp c7
    refine g_iconst (v := nI 0) (q := 15) B dX10_isBlank_14 rfl (by decide) ?_
    exact g_zret B E dX10_isBlank_15 (by decide) (⟨bo0 (by first | assumption | omega | (simp_all; done)), rfl⟩)
  · skip
    have c7 := Classical.not_not.mp c7
    refine g_iconst (v := nI 1) (q := 11) B dX10_isBlank_10 rfl (by decide) ?_
    refine g_goto (tgt := 15) B dX10_isBlank_11 (by decide) ?_
    exact g_zret B E dX10_isBlank_15 (by decide) (⟨bo1 (by first | assumption | omega | (simp_all; done)), rfl⟩)
theorem ct_X10_leafOf (g : Gv) (J : Jd g) {t : Nat} {T : TrS} {p : Nat} {w0 : va_W} (hw0 : TreeP g t T w0) (hp : p < 2 ^ 31) : Ct g yX10_leafOf (ws_ yX10_leafOf cX10_leafOf 3 (some .int)) 0 0 0 [.ref t, .int (nI p)] [w0] (fun (rv_ : Option Value) (rL_ : List va_W) => rv_ = some (.int (oI (lof T p))) ∧ rL_ = [w0]) noX := by
  refine Ct.of "Keygrove$Tree" [some (.ref t), some (.int (nI p)), none] rfl (by decide) rfl (Nat.le_of_ble_eq_true rfl) rfl ?_
  intro κ B E tb
  have hB := TreeP.b hw0
  have hp2 := p2_4 hB.1
  have hd4 := hB.1
  refine g_iconst (v := nI 0) (q := 1) B dX10_leafOf_0 rfl (by decide) ?_
  refine g_istore_n (q := 2) (lv2 := [some (.ref t), some (.int (nI p)), some (.int (nI 0))]) B dX10_leafOf_1 rfl (Nat.le_of_ble_eq_true rfl) rfl ?_
  have lp2 : ∀ (n2 : Nat) (k : Nat) , (k ≤ 2 ^ T.1) → (∀ i, i < k → T.2.2.2 i ≠ some p) → 2 ^ T.1 - k = n2 → Go g κ 2 [some (.ref t), some (.int (nI p)), some (.int (nI k))] [] [w0] 0 0 := by
    intro n2
    induction n2 using Nat.strongRecOn with
    | _ n2 ih2 =>
    intro k  hk hnb hmu2
    refine g_iload_n (q := 3) B dX10_leafOf_2 rfl rfl ?_
    refine g_aload_n (q := 4) B dX10_leafOf_3 rfl rfl (rv_r _) ?_
    obtain ⟨as_1, al_1, ap_1, fs_1, fl_1, fp_1, hB_1, hfs_1, hfl_1, hfp_1, hc_1_0, hc_1_1, hc_1_2, hc_1_3⟩ := TreeP.at (Sub.self hw0)
    refine g_getM (q := 7) B (ci := 5) (k := 0) (j := 0) in_X10 rfl dX10_leafOf_4 rfl rfl (hc_1_0) (Nat.le_of_ble_eq_true rfl) q2035 rfl rfl ?_
    refine g_icmp_ge (tgt := 28) (q := 10) B dX10_leafOf_7 rfl (by decide) (nI_leI (by omega) (by omega)) (fun c7 => ?_) (fun c7 => ?_)
    · skip
      refine g_iconst (v := -1) (q := 29) B dX10_leafOf_28 rfl (by decide) ?_
      exact g_iret B E dX10_leafOf_29 (⟨by rw [lof_n (fun l hl => hnb l (by omega))]; rfl, rfl⟩)
    · skip
      refine g_aload_n (q := 11) B dX10_leafOf_10 rfl rfl (rv_r _) ?_
      refine g_getM (q := 14) B (ci := 5) (k := 0) (j := 3) in_X10 rfl dX10_leafOf_11 rfl rfl (hc_1_0) (Nat.le_of_ble_eq_true rfl) q2043 rfl rfl ?_
      refine g_iload_n (q := 15) B dX10_leafOf_14 rfl rfl ?_
      refine g_ialdM (v := oI (T.2.2.2 k)) (q := 16) B (k := 0) dX10_leafOf_15 rfl rfl (hc_1_3) (vp_in_nI (by omega) (by omega)) (by rw [nI_clamp (by omega)]; exact hfp_1 _ (by omega)) ?_
      refine g_iload_n (q := 17) B dX10_leafOf_16 rfl rfl ?_
      refine g_icmp_ne (tgt := 22) (q := 20) B dX10_leafOf_17 rfl (by decide) (oI_ne ((fun n h => by have := hB_1.2.2.2 _ _ h; omega)) (by omega)) (fun c17 => ?_) (fun c17 => ?_)
      · skip
        refine g_iinc (v := nI (k + 1)) (q := 25) (lv2 := [some (.ref t), some (.int (nI p)), some (.int (nI (k + 1)))]) B dX10_leafOf_22 rfl rfl (nI_add _ 1) (Nat.le_of_ble_eq_true rfl) rfl ?_
        refine g_goto (tgt := 2) B dX10_leafOf_25 (by decide) ?_
        exact ih2 _ (by omega) (k + 1) (by omega) (fun i hi => by rcases Nat.lt_or_ge i k with z | z; exact hnb i z; rw [show i = k by omega]; exact c17) rfl
      · skip
        have c17 := Classical.not_not.mp c17
        refine g_iload_n (q := 21) B dX10_leafOf_20 rfl rfl ?_
        exact g_iret B E dX10_leafOf_21 (⟨by rw [lof_s (by omega) c17 hnb]; rfl, rfl⟩)
  exact lp2 _ 0 (Nat.zero_le _) (fun i h => absurd h (Nat.not_lt_zero i)) rfl
theorem nwJ2 : ∀ j, j < 3 → defaultValue (tyJ2 j) = vp_V [.int (nI 0), .null, .int (nI 0)] j := by
  intro j hj
  match j, hj with
  | 0, _ => rfl
  | 1, _ => rfl
  | 2, _ => rfl
  | n + 3, hj => exact absurd hj (by omega)
theorem moJ2_init : Mo yJ2_init 0 := by
  refine ⟨by decide, by decide, by decide +kernel⟩
theorem moX10_root : Mo yX10_root 0 := by
  refine ⟨by decide, by decide, by decide +kernel⟩
theorem moX10_above : Mo yX10_above 1 := by
  refine ⟨by decide, by decide, by decide +kernel⟩
theorem ct_X10_way (g : Gv) (J : Jd g) {t : Nat} {T : TrS} {l : Nat} {w0 : va_W} (hw0 : TreeP g t T w0) (hl : l < 2 ^ T.1) : Ct g yX10_way (ws_ yX10_way cX10_way 4 (some (.object "java/util/List"))) 7 2 13 [.ref t, .int (nI l)] [w0] (fun (rv_ : Option Value) (rL_ : List va_W) => ∃ (p : Nat) (cap : Nat) (u1 : va_W), rv_ = some (.ref p) ∧ rL_ = [w0, u1] ∧ LhP g (BxE g) p (wayD T.1 l) cap u1 ∧ (cap ≤ 10)) noX := by
  refine Ct.of "Keygrove$Tree" [some (.ref t), some (.int (nI l)), none, none] rfl (by decide) rfl (Nat.le_of_ble_eq_true rfl) rfl ?_
  intro κ B E tb
  have hB := TreeP.b hw0
  have hp2 := p2_4 hB.1
  have hd4 := hB.1
  refine g_new (q := 3) (kc2 := 1) (ks2 := 10) (fs := [.int (nI 0), .null, .int (nI 0)]) B (ci := 21) in_J2 tyJ2_ok rfl dX10_way_0 rfl q2498 q166 q81 (nwJ2) (Nat.le_of_ble_eq_true rfl) (Nat.le_of_ble_eq_true rfl) (fun n0 => ?_)
  refine (show Go g κ 3 [some (.ref t), some (.int (nI l)), none, none] [.ref n0] [w0, [(n0, .inr (21, [.int (nI 0), .null, .int (nI 0)]))]] 1 10 from ?_)
  refine g_dup (q := 4) B dX10_way_3 rfl rfl ?_
  refine g_callI (q := 7) (is := [1]) (kc2 := 1) (ks2 := 10) B [] (ct_J2_init g J (p := n0)  ) dX10_way_4 rfl rfl q2499 q168 q81 q169 rfl rfl moJ2_init rfl rfl (by decide) (by decide) (Nat.le_of_ble_eq_true rfl) (Nat.le_of_ble_eq_true rfl) (Nat.le_of_ble_eq_true rfl) (fun _ _ hx => noX_x hx) (fun v4 L1 hp4 => ?_)
  obtain ⟨u0_4, rfl, rfl, hu0_4⟩ := hp4
  refine (show Go g κ 7 [some (.ref t), some (.int (nI l)), none, none] [.ref n0] [w0, u0_4] 1 10 from ?_)
  have hr_1 : LhP g (BxE g) n0 (wayD 0 l) (10 * min 0 1) u0_4 := (hu0_4.nilH)
  refine g_astore_n (q := 8) (lv2 := [some (.ref t), some (.int (nI l)), some (.ref n0), none]) B dX10_way_7 rfl (Nat.le_of_ble_eq_true rfl) (rv_r _) rfl ?_
  refine g_iconst (v := nI 2) (q := 9) B dX10_way_8 rfl (by decide) ?_
  refine g_iload_n (q := 10) B dX10_way_9 rfl rfl ?_
  refine g_imul (v := nI (nab l 0)) (q := 11) B dX10_way_10 rfl (by rw [nab_0]; exact pk_mul _ _) ?_
  refine g_istore_n (q := 12) (lv2 := [some (.ref t), some (.int (nI l)), some (.ref n0), some (.int (nI (nab l 0)))]) B dX10_way_11 rfl (Nat.le_of_ble_eq_true rfl) rfl ?_
  have lp12 : ∀ (n12 : Nat) (k : Nat) (l12_1 : va_W), LhP g (BxE g) n0 (wayD k l) (10 * min k 1) l12_1 → (k ≤ T.1) → T.1 - k = n12 → Go g κ 12 [some (.ref t), some (.int (nI l)), some (.ref n0), some (.int (nI (nab l k)))] [] [w0, l12_1] (1 - min k 1) (10 - 10 * min k 1) := by
    intro n12
    induction n12 using Nat.strongRecOn with
    | _ n12 ih12 =>
    intro k l12_1 hl12_1 hk hmu12
    have hnk : nab l k < 31 := nab_b k (by omega) l (by omega)
    refine g_iload_n (q := 13) B dX10_way_12 rfl rfl ?_
    refine g_aload_n (q := 14) B dX10_way_13 rfl rfl (rv_r _) ?_
    refine g_callV (q := 17) (is := [0]) (kc2 := 1 - min k 1) (ks2 := 10 - 10 * min k 1) B [] (ct_X10_root g J (t := t) (T := T) hw0 ) dX10_way_14 rfl (rc_in B (ci := 5) rfl (k := 0) rfl (TreeP.hm hw0)) rfl q2500 q2501 q2502 q123 q2503 rfl rfl moX10_root rfl rfl (by decide) (by decide) (Nat.le_of_ble_eq_true rfl) (by omega) (by omega) (fun _ _ hx => noX_x hx) (fun v14 L1 hp14 => ?_)
    obtain ⟨rfl, rfl⟩ := hp14
    refine (show Go g κ 17 [some (.ref t), some (.int (nI l)), some (.ref n0), some (.int (nI (nab l k)))] [.int (nI (2 ^ T.1 - 1)), .int (nI (nab l k))] [l12_1, w0] (1 - min k 1) (10 - 10 * min k 1) from ?_)
    refine g_icmp_eq (tgt := 42) (q := 20) B dX10_way_17 rfl (by decide) ((nI_eq (by omega) (by omega)).trans (nab_r T.1 (by omega) l (by omega) hl k (by omega) hk)) (fun c17 => ?_) (fun c17 => ?_)
    · skip
      have hr_2 : LhP g (BxE g) n0 (wayD T.1 l) (10 * min k 1) l12_1 := (by rw [← c17]; exact hl12_1)
      refine g_aload_n (q := 43) B dX10_way_42 rfl rfl (rv_r _) ?_
      refine g_pk [1, 0] rfl rfl ?_
      refine (show Go g κ 43 [some (.ref t), some (.int (nI l)), some (.ref n0), some (.int (nI (nab l k)))] [.ref n0] [w0, l12_1] (1 - min k 1) (10 - 10 * min k 1) from ?_)
      exact g_aret B E dX10_way_43 (by first | exact Or.inl ⟨_, rfl⟩ | exact Or.inr ⟨_, rfl⟩) (rv_r _) (⟨n0, _, _, rfl, rfl, hr_2, by omega⟩)
    · skip
      refine g_aload_n (q := 21) B dX10_way_20 rfl rfl (rv_r _) ?_
      refine g_iload_n (q := 22) B dX10_way_21 rfl rfl ?_
      refine g_callS (q := 25) (is := []) (kc2 := 1 - min k 1) (ks2 := 10 - 10 * min k 1) B [.int (nI (nab l k))] (ct_X10_above g J (n := nab l k)  (by first | assumption | omega | rfl)) dX10_way_22 rfl q2504 q2505 q123 q2506 rfl rfl moX10_above rfl rfl (by decide) (by decide) (Nat.le_of_ble_eq_true rfl) (by omega) (by omega) (fun _ _ hx => noX_x hx) (fun v22 L1 hp22 => ?_)
      obtain ⟨rfl, rfl⟩ := hp22
      refine (show Go g κ 25 [some (.ref t), some (.int (nI l)), some (.ref n0), some (.int (nI (nab l k)))] [.int (nI (abv (nab l k))), .ref n0] [l12_1, w0] (1 - min k 1) (10 - 10 * min k 1) from ?_)
      have hnc : nab l (k + 1) < 31 := nab_b (k + 1) (by omega) l (by omega)
      rw [(show abv (nab l k) = nab l (k + 1) from abv_n l (by omega) k (by omega))]
      refine (show Go g κ 25 [some (.ref t), some (.int (nI l)), some (.ref n0), some (.int (nI (nab l k)))] [.int (nI (nab l (k + 1))), .ref n0] [l12_1, w0] (1 - min k 1) (10 - 10 * min k 1) from ?_)
      refine g_callS (q := 28) (is := []) (kc2 := 1 - min k 1) (ks2 := 10 - 10 * min k 1) B [.int (nI (nab l (k + 1)))] (ct_J26_valueOf_k g J (k := nab l (k + 1))  (by omega)) dX10_way_25 rfl q2510 q686 q111 q687 rfl rfl moJ26_valueOf rfl rfl (by decide) (by decide) (Nat.le_of_ble_eq_true rfl) (by omega) (by omega) (fun _ _ hx => noX_x hx) (fun v25 L1 hp25 => ?_)
      obtain ⟨rfl, rfl⟩ := hp25
      refine (show Go g κ 28 [some (.ref t), some (.int (nI l)), some (.ref n0), some (.int (nI (nab l k)))] [.ref (kI g (nab l (k + 1))), .ref n0] [l12_1, w0] (1 - min k 1) (10 - 10 * min k 1) from ?_)
      obtain ⟨wc_3, ewc_3⟩ : ∃ w : va_W, w = ([] : List va_W).flatten := ⟨_, rfl⟩
      have hwc_3 : BxE g (kI g (nab l (k + 1))) (nab l (k + 1)) wc_3 := by
        rw [ewc_3]
        exact kI_box g (by omega)
      refine g_close (w := wc_3) [] rfl ewc_3 rfl ?_
      refine (show Go g κ 28 [some (.ref t), some (.int (nI l)), some (.ref n0), some (.int (nI (nab l k)))] [.ref (kI g (nab l (k + 1))), .ref n0] [l12_1, w0, wc_3] (1 - min k 1) (10 - 10 * min k 1) from ?_)
      obtain ⟨ps_4, md_4, hli_4, hln_4, hel_4⟩ := LhP.at (Sub.self hl12_1)
      refine g_callF (q := 33) (is := [0, 1]) (kc2 := (1 - min k 1) - (1 - min k 1)) (ks2 := (10 - 10 * min k 1) - (10 - 10 * min k 1)) B [.ref (kI g (nab l (k + 1)))] (ct_add_IlP g J (p := n0) (rs := (wayD k l)) (cap := (10 * min k 1)) (a := (kI g (nab l (k + 1)))) (r := (nab l (k + 1))) (mc := (1 - min k 1)) (ms := (10 - 10 * min k 1)) hl12_1 hwc_3 (by omega) (by intro h; rw [wayD_len] at h; have e : k = 0 := (by omega); rw [e]; exact ⟨by decide, by decide⟩)) dX10_way_28 rfl (ci := 21) rfl (rc_in B (ci := 21) rfl (k := 0) rfl (LhP.hm hl12_1)) q2512 q709 q711 q81 q713 q708 q707 q712 q710 q318 rfl rfl mojava_util_List_add__Ljava_lang_Object__Z rfl rfl (by decide) (by decide) (Nat.le_of_ble_eq_true rfl) (by omega) (by omega) (fun _ _ hx => noX_x hx) (fun v28 L1 hp28 => ?_)
      obtain ⟨u0_28, rfl, rfl, hu0_28⟩ := hp28
      refine (show Go g κ 33 [some (.ref t), some (.int (nI l)), some (.ref n0), some (.int (nI (nab l k)))] [.int (nI 1)] [w0, u0_28] ((1 - min k 1) - (1 - min k 1)) ((10 - 10 * min k 1) - (10 - 10 * min k 1)) from ?_)
      have hr_5 : LhP g (BxE g) n0 (wayD (k + 1) l) (10 * min (k + 1) 1) u0_28 := by rw [wayD_s, ← capW k (by omega)]; have z := hu0_28; rw [wayD_len] at z; exact z
      refine g_pop (q := 34) B dX10_way_33 rfl rfl ?_
      refine g_iload_n (q := 35) B dX10_way_34 rfl rfl ?_
      refine g_callS (q := 38) (is := []) (kc2 := (1 - min k 1) - (1 - min k 1)) (ks2 := (10 - 10 * min k 1) - (10 - 10 * min k 1)) B [.int (nI (nab l k))] (ct_X10_above g J (n := nab l k)  (by first | assumption | omega | rfl)) dX10_way_35 rfl q2504 q2505 q123 q2506 rfl rfl moX10_above rfl rfl (by decide) (by decide) (Nat.le_of_ble_eq_true rfl) (by omega) (by omega) (fun _ _ hx => noX_x hx) (fun v35 L1 hp35 => ?_)
      obtain ⟨rfl, rfl⟩ := hp35
      refine (show Go g κ 38 [some (.ref t), some (.int (nI l)), some (.ref n0), some (.int (nI (nab l k)))] [.int (nI (abv (nab l k)))] [w0, u0_28] ((1 - min k 1) - (1 - min k 1)) ((10 - 10 * min k 1) - (10 - 10 * min k 1)) from ?_)
      rw [(show abv (nab l k) = nab l (k + 1) from abv_n l (by omega) k (by omega))]
      refine (show Go g κ 38 [some (.ref t), some (.int (nI l)), some (.ref n0), some (.int (nI (nab l k)))] [.int (nI (nab l (k + 1)))] [w0, u0_28] ((1 - min k 1) - (1 - min k 1)) ((10 - 10 * min k 1) - (10 - 10 * min k 1)) from ?_)
      refine g_istore_n (q := 39) (lv2 := [some (.ref t), some (.int (nI l)), some (.ref n0), some (.int (nI (nab l (k + 1))))]) B dX10_way_38 rfl (Nat.le_of_ble_eq_true rfl) rfl ?_
      refine g_goto (tgt := 12) B dX10_way_39 (by decide) ?_
      refine g_room (kc2 := 1 - min (k + 1) 1) (ks2 := 10 - 10 * min (k + 1) 1) (by omega) (by omega) ?_
      exact ih12 _ (by omega) (k + 1) u0_28 hr_5 (by first | assumption | omega | rfl) rfl
  refine g_room (kc2 := 1 - min 0 1) (ks2 := 10 - 10 * min 0 1) (by omega) (by omega) ?_
  exact lp12 _ 0 u0_4 hr_1 (Nat.zero_le _) rfl
theorem ct_X10_blanks (g : Gv) (J : Jd g) {t : Nat} {T : TrS} {n : Nat} {w0 : va_W} (hw0 : TreeP g t T w0) (hn : n < 31) : Ct g yX10_blanks (ws_ yX10_blanks cX10_blanks 2 none) 1 0 0 [.ref t, .int (nI n)] [w0] (fun (rv_ : Option Value) (rL_ : List va_W) => ∃ (u0 : va_W), rv_ = none ∧ rL_ = [u0] ∧ TreeP g t (blkN T n) u0) noX := by
  refine Ct.of "Keygrove$Tree" [some (.ref t), some (.int (nI n))] rfl (by decide) rfl (Nat.le_of_ble_eq_true rfl) rfl ?_
  intro κ B E tb
  obtain ⟨as, al, ap, fs, fl, fp, hB, hfs, hfl, hfp, rfl⟩ := hw0
  refine g_open 0 rfl rfl rfl ?_
  refine (show Go g κ 0 [some (.ref t), some (.int (nI n))] [] [[(t, .inr (5, [.int (nI (2 ^ T.1)), .ref as, .ref al, .ref ap]))], [(as, .inl (g.2.1 0, 31, .inl fs))], [(al, .inl (g.2.1 0, 31, .inl fl))], [(ap, .inl (g.2.1 0, 16, .inl fp))]] 0 0 from ?_)
  refine g_aload_n (q := 1) B dX10_blanks_0 rfl rfl (rv_r _) ?_
  refine g_get (q := 4) B (ci := 5) (k := 0) (j := 1) in_X10 rfl dX10_blanks_1 rfl rfl (Nat.le_of_ble_eq_true rfl) q2038 rfl rfl ?_
  refine g_iload_n (q := 5) B dX10_blanks_4 rfl rfl ?_
  refine g_iconst (v := -1) (q := 6) B dX10_blanks_5 rfl (by decide) ?_
  refine g_iast (q := 7) (L2 := [[(t, .inr (5, [.int (nI (2 ^ T.1)), .ref as, .ref al, .ref ap]))], [(as, .inl (g.2.1 0, 31, .inl (upd fs n (-1))))], [(al, .inl (g.2.1 0, 31, .inl fl))], [(ap, .inl (g.2.1 0, 16, .inl fp))]]) B (k := 1) dX10_blanks_6 rfl rfl (vp_in_nI (by omega) (by omega)) (by rw [nI_clamp (by omega)] <;> rfl) ?_
  obtain ⟨f6, ef6⟩ : ∃ f : Nat → Int32, f = upd fs n (-1) := ⟨_, rfl⟩
  have hf6 : ∀ i, i < 31 → f6 i = oI (fup T.2.1 n none i) := by rw [ef6]; exact upd_oI hfs _ none
  rw [← ef6]
  refine (show Go g κ 7 [some (.ref t), some (.int (nI n))] [] [[(t, .inr (5, [.int (nI (2 ^ T.1)), .ref as, .ref al, .ref ap]))], [(as, .inl (g.2.1 0, 31, .inl f6))], [(al, .inl (g.2.1 0, 31, .inl fl))], [(ap, .inl (g.2.1 0, 16, .inl fp))]] 0 0 from ?_)
  refine g_aload_n (q := 8) B dX10_blanks_7 rfl rfl (rv_r _) ?_
  refine g_get (q := 11) B (ci := 5) (k := 0) (j := 2) in_X10 rfl dX10_blanks_8 rfl rfl (Nat.le_of_ble_eq_true rfl) q2041 rfl rfl ?_
  refine g_iload_n (q := 12) B dX10_blanks_11 rfl rfl ?_
  refine g_iconst (v := nI 0) (q := 13) B dX10_blanks_12 rfl (by decide) ?_
  refine g_iast (q := 14) (L2 := [[(t, .inr (5, [.int (nI (2 ^ T.1)), .ref as, .ref al, .ref ap]))], [(as, .inl (g.2.1 0, 31, .inl f6))], [(al, .inl (g.2.1 0, 31, .inl (upd fl n (nI 0))))], [(ap, .inl (g.2.1 0, 16, .inl fp))]]) B (k := 2) dX10_blanks_13 rfl rfl (vp_in_nI (by omega) (by omega)) (by rw [nI_clamp (by omega)] <;> rfl) ?_
  obtain ⟨f13, ef13⟩ : ∃ f : Nat → Int32, f = upd fl n (nI 0) := ⟨_, rfl⟩
  have hf13 : ∀ i, i < 31 → f13 i = nI (fup T.2.2.1 n 0 i) := by rw [ef13]; exact upd_nI hfl _ 0
  rw [← ef13]
  refine (show Go g κ 14 [some (.ref t), some (.int (nI n))] [] [[(t, .inr (5, [.int (nI (2 ^ T.1)), .ref as, .ref al, .ref ap]))], [(as, .inl (g.2.1 0, 31, .inl f6))], [(al, .inl (g.2.1 0, 31, .inl f13))], [(ap, .inl (g.2.1 0, 16, .inl fp))]] 0 0 from ?_)
  obtain ⟨wc_1, ewc_1⟩ : ∃ w : va_W, w = ([[(t, .inr (5, [.int (nI (2 ^ T.1)), .ref as, .ref al, .ref ap]))], [(as, .inl (g.2.1 0, 31, .inl f6))], [(al, .inl (g.2.1 0, 31, .inl f13))], [(ap, .inl (g.2.1 0, 16, .inl fp))]] : List va_W).flatten := ⟨_, rfl⟩
  have hwc_1 : TreeP g t (blkN T n) wc_1 := by
    rw [ewc_1]
    exact ⟨as, al, ap, f6, f13, fp, (hB.blkN n), hf6, hf13, hfp, rfl⟩
  refine g_close (w := wc_1) [0, 0, 0, 0] rfl ewc_1 rfl ?_
  refine (show Go g κ 14 [some (.ref t), some (.int (nI n))] [] [wc_1] 0 0 from ?_)
  exact g_vret B E dX10_blanks_14 (⟨wc_1, rfl, rfl, hwc_1⟩)
theorem moX10_way : Mo yX10_way 1 := by
  refine ⟨by decide, by decide, by decide +kernel⟩
theorem mojava_util_List_iterator___Ljava_util_Iterator_ : Mo ⟨"java/util/List", "iterator", "()Ljava/util/Iterator;"⟩ 0 := by
  refine ⟨by decide, by decide, by decide +kernel⟩
theorem moX10_blanks : Mo yX10_blanks 1 := by
  refine ⟨by decide, by decide, by decide +kernel⟩
theorem ct_X10_blanksWay (g : Gv) (J : Jd g) {t : Nat} {T : TrS} {l : Nat} {w0 : va_W} (hw0 : TreeP g t T w0) (hl : l < 2 ^ T.1) : Ct g yX10_blanksWay (ws_ yX10_blanksWay cX10_blanksWay 4 none) 8 3 17 [.ref t, .int (nI l)] [w0] (fun (rv_ : Option Value) (rL_ : List va_W) => ∃ (u0 : va_W), rv_ = none ∧ rL_ = [u0] ∧ TreeP g t (blkF T (inW T.1 l)) u0) noX := by
  refine Ct.of "Keygrove$Tree" [some (.ref t), some (.int (nI l)), none, none] rfl (by decide) rfl (Nat.le_of_ble_eq_true rfl) rfl ?_
  intro κ B E tb
  have hB := TreeP.b hw0
  have hp2 := p2_4 hB.1
  have hd4 := hB.1
  have hwl := wayD_len T.1 l
  refine g_aload_n (q := 1) B dX10_blanksWay_0 rfl rfl (rv_r _) ?_
  refine g_iload_n (q := 2) B dX10_blanksWay_1 rfl rfl ?_
  refine g_callV (q := 5) (is := [0]) (kc2 := 1) (ks2 := 4) B [.int (nI l)] (ct_X10_way g J (t := t) (T := T) (l := l) hw0 (by first | assumption | omega | rfl)) dX10_blanksWay_2 rfl (rc_in B (ci := 5) rfl (k := 0) rfl (TreeP.hm hw0)) rfl q2494 q2495 q2496 q123 q2497 rfl rfl moX10_way rfl rfl (by decide) (by decide) (Nat.le_of_ble_eq_true rfl) (Nat.le_of_ble_eq_true rfl) (Nat.le_of_ble_eq_true rfl) (fun _ _ hx => noX_x hx) (fun v2 L1 hp2 => ?_)
  obtain ⟨p2, cap2, u1_2, rfl, rfl, hu1_2, hcp_2⟩ := hp2
  refine (show Go g κ 5 [some (.ref t), some (.int (nI l)), none, none] [.ref p2] [w0, u1_2] 1 4 from ?_)
  obtain ⟨ps_1, md_1, hli_1, hln_1, hel_1⟩ := LhP.at (Sub.self hu1_2)
  refine g_callF (q := 10) (is := [1]) (kc2 := 0) (ks2 := 0) B [] (ct_J2_iterator_s g J (p := p2) (xs := ps_1) (md := md_1) (cap := cap2) (W0 := u1_2)  (hli_1)) dX10_blanksWay_5 rfl (ci := 21) rfl (rc_in B (ci := 21) rfl (k := 1) rfl (LhP.hm hu1_2)) q2514 q1156 q805 q81 q807 q1155 q1154 q806 q804 q318 rfl rfl mojava_util_List_iterator___Ljava_util_Iterator_ rfl rfl (by decide) (by decide) (Nat.le_of_ble_eq_true rfl) (Nat.le_of_ble_eq_true rfl) (Nat.le_of_ble_eq_true rfl) (fun _ _ hx => noX_x hx) (fun v5 L1 hp5 => ?_)
  obtain ⟨it5, rfl, rfl⟩ := hp5
  refine (show Go g κ 10 [some (.ref t), some (.int (nI l)), none, none] [.ref it5] [w0, [(it5, .inr (22, [.int (nI 0), .int (-1), .int md_1, .ref p2]))], u1_2] 0 0 from ?_)
  refine g_astore_n (q := 11) (lv2 := [some (.ref t), some (.int (nI l)), some (.ref it5), none]) B dX10_blanksWay_10 rfl (Nat.le_of_ble_eq_true rfl) (rv_r _) rfl ?_
  have lp11 : ∀ (n11 : Nat) (k : Nat) (lr : Int32) (l11_0 : va_W), TreeP g t (blkF T (inW k l)) l11_0 → (k ≤ (wayD T.1 l).length) → (wayD T.1 l).length - k = n11 → Go g κ 11 [some (.ref t), some (.int (nI l)), some (.ref it5), none] [] [l11_0, [(it5, .inr (22, [.int (nI k), .int lr, .int md_1, .ref p2]))], u1_2] 0 0 := by
    intro n11
    induction n11 using Nat.strongRecOn with
    | _ n11 ih11 =>
    intro k lr l11_0 hl11_0 hk hmu11
    refine g_aload_n (q := 12) B dX10_blanksWay_11 rfl rfl (rv_r _) ?_
    refine g_callF (q := 17) (is := [1, 1]) (kc2 := 0) (ks2 := 0) B [] (ct_J19_hasNext_s g J (p := p2) (xs := ps_1) (md := md_1) (cap := cap2) (it := it5) (c := k) (lr := lr) (W1 := u1_2)  (hli_1) (by have := hln_1.1; omega)) dX10_blanksWay_12 rfl (ci := 22) rfl (rc_at B (ci := 22) rfl (k := 1) rfl) q2516 q940 q942 q104 q944 q938 q937 q943 q941 q939 rfl rfl mojava_util_Iterator_hasNext___Z rfl rfl (by decide) (by decide) (Nat.le_of_ble_eq_true rfl) (Nat.le_of_ble_eq_true rfl) (Nat.le_of_ble_eq_true rfl) (fun _ _ hx => noX_x hx) (fun v12 L1 hp12 => ?_)
    obtain ⟨rfl, rfl⟩ := hp12
    refine (show Go g κ 17 [some (.ref t), some (.int (nI l)), some (.ref it5), none] [.int (nI (if ¬ k = ps_1.length then 1 else 0))] [l11_0, [(it5, .inr (22, [.int (nI k), .int lr, .int md_1, .ref p2]))], u1_2] 0 0 from ?_)
    rw [hln_1.1]
    refine (show Go g κ 17 [some (.ref t), some (.int (nI l)), some (.ref it5), none] [.int (nI (if ¬ k = (wayD T.1 l).length then 1 else 0))] [l11_0, [(it5, .inr (22, [.int (nI k), .int lr, .int md_1, .ref p2]))], u1_2] 0 0 from ?_)
    refine g_if_eq (tgt := 41) (q := 20) B dX10_blanksWay_17 rfl (by decide) (bo_eq) (fun c17 => ?_) (fun c17 => ?_)
    · skip
      have hr_2 : TreeP g t (blkF T (inW T.1 l)) l11_0 := (show k = T.1 by omega) ▸ hl11_0
      refine g_pk [0] rfl rfl ?_
      refine (show Go g κ 41 [some (.ref t), some (.int (nI l)), some (.ref it5), none] [] [l11_0] 0 0 from ?_)
      exact g_vret B E dX10_blanksWay_41 (⟨l11_0, rfl, rfl, hr_2⟩)
    · skip
      have c17 := Classical.not_not.mp c17
      refine g_aload_n (q := 21) B dX10_blanksWay_20 rfl rfl (rv_r _) ?_
      obtain ⟨x21, hx21⟩ := get_ex (xs := ps_1) (i := k) (by have := get_lt2 (show (wayD T.1 l)[k]? = some (nab l (k + 1)) from (wayD_get (by omega))); have := hln_1.1; omega)
      have hb_3 := Sub.box (hel_1 _ _ _ hx21 (show (wayD T.1 l)[k]? = some (nab l (k + 1)) from (wayD_get (by omega))))
      refine g_callF (q := 26) (is := [1, 1]) (kc2 := 0) (ks2 := 0) B [] (ct_J19_next_s g J (p := p2) (xs := ps_1) (md := md_1) (cap := cap2) (it := it5) (c := k) (lr := lr) (x := x21) (W1 := u1_2)  (hli_1) (hx21)) dX10_blanksWay_21 rfl (ci := 22) rfl (rc_at B (ci := 22) rfl (k := 1) rfl) q2518 q967 q969 q104 q971 q966 q965 q970 q968 q939 rfl rfl mojava_util_Iterator_next___Ljava_lang_Object_ rfl rfl (by decide) (by decide) (Nat.le_of_ble_eq_true rfl) (Nat.le_of_ble_eq_true rfl) (Nat.le_of_ble_eq_true rfl) (fun _ _ hx => noX_x hx) (fun v21 L1 hp21 => ?_)
      obtain ⟨rfl, rfl⟩ := hp21
      refine (show Go g κ 26 [some (.ref t), some (.int (nI l)), some (.ref it5), none] [.ref x21] [l11_0, [(it5, .inr (22, [.int (nI (k + 1)), .int (nI k), .int md_1, .ref p2]))], u1_2] 0 0 from ?_)
      refine g_castRS (ci := 35) (q := 29) B rfl (rc_bxat B J (k := 2) rfl hb_3) dX10_blanksWay_26 rfl q2519 ?_
      refine g_callV (q := 32) (is := [2]) (kc2 := 0) (ks2 := 0) B [] (ct_J26_intValue_b g J (a := x21) (v := nI (nab l (k + 1))) (wb := u1_2)  (hb_3)) dX10_blanksWay_29 rfl (rc_bxat B J (k := 2) rfl hb_3) rfl q2520 q1052 q1053 q111 q1054 rfl rfl moJ26_intValue rfl rfl (by decide) (by decide) (Nat.le_of_ble_eq_true rfl) (Nat.le_of_ble_eq_true rfl) (Nat.le_of_ble_eq_true rfl) (fun _ _ hx => noX_x hx) (fun v29 L1 hp29 => ?_)
      obtain ⟨rfl, rfl⟩ := hp29
      refine (show Go g κ 32 [some (.ref t), some (.int (nI l)), some (.ref it5), none] [.int (nI (nab l (k + 1)))] [l11_0, [(it5, .inr (22, [.int (nI (k + 1)), .int (nI k), .int md_1, .ref p2]))], u1_2] 0 0 from ?_)
      have hnc : nab l (k + 1) < 31 := nab_b (k + 1) (by omega) l (by omega)
      refine g_istore_n (q := 33) (lv2 := [some (.ref t), some (.int (nI l)), some (.ref it5), some (.int (nI (nab l (k + 1))))]) B dX10_blanksWay_32 rfl (Nat.le_of_ble_eq_true rfl) rfl ?_
      refine g_aload_n (q := 34) B dX10_blanksWay_33 rfl rfl (rv_r _) ?_
      refine g_iload_n (q := 35) B dX10_blanksWay_34 rfl rfl ?_
      refine g_callV (q := 38) (is := [0]) (kc2 := 0) (ks2 := 0) B [.int (nI (nab l (k + 1)))] (ct_X10_blanks g J (t := t) (T := (blkF T (inW k l))) (n := (nab l (k + 1))) hl11_0 (by first | assumption | omega | rfl)) dX10_blanksWay_35 rfl (rc_in B (ci := 5) rfl (k := 0) rfl (TreeP.hm hl11_0)) rfl q2521 q2523 qs33 q123 q2524 rfl rfl moX10_blanks rfl rfl (by decide) (by decide) (Nat.le_of_ble_eq_true rfl) (Nat.le_of_ble_eq_true rfl) (Nat.le_of_ble_eq_true rfl) (fun _ _ hx => noX_x hx) (fun v35 L1 hp35 => ?_)
      obtain ⟨u0_35, rfl, rfl, hu0_35⟩ := hp35
      refine (show Go g κ 38 [some (.ref t), some (.int (nI l)), some (.ref it5), some (.int (nI (nab l (k + 1))))] [] [[(it5, .inr (22, [.int (nI (k + 1)), .int (nI k), .int md_1, .ref p2]))], u1_2, u0_35] 0 0 from ?_)
      refine g_goto (tgt := 11) B dX10_blanksWay_38 (by decide) ?_
      have hr_4 : TreeP g t (blkF T (inW (k + 1) l)) u0_35 := by rw [← blkF_s T (inW_s k l)]; exact hu0_35
      refine g_fg 3 rfl ?_
      refine g_pk [2, 0, 0] rfl rfl ?_
      refine (show Go g κ 11 [some (.ref t), some (.int (nI l)), some (.ref it5), none] [] [u0_35, [(it5, .inr (22, [.int (nI (k + 1)), .int (nI k), .int md_1, .ref p2]))], u1_2] 0 0 from ?_)
      exact ih11 _ (by omega) (k + 1) (nI k) u0_35 hr_4 (by first | assumption | omega | rfl) rfl
  have hr_5 : TreeP g t (blkF T (inW 0 l)) w0 := by rw [blkF_0 T (inW_0 l)]; exact hw0
  exact lp11 _ 0 (-1) w0 hr_5 (Nat.zero_le _) rfl
theorem moX10_blanksWay : Mo yX10_blanksWay 1 := by
  refine ⟨by decide, by decide, by decide +kernel⟩
theorem ct_X10_removes (g : Gv) (J : Jd g) {t : Nat} {T : TrS} {l : Nat} {w0 : va_W} (hw0 : TreeP g t T w0) (hl : l < 2 ^ T.1) : Ct g yX10_removes (ws_ yX10_removes cX10_removes 2 none) 9 3 17 [.ref t, .int (nI l)] [w0] (fun (rv_ : Option Value) (rL_ : List va_W) => ∃ (u0 : va_W), rv_ = none ∧ rL_ = [u0] ∧ TreeP g t (remT T l) u0) noX := by
  refine Ct.of "Keygrove$Tree" [some (.ref t), some (.int (nI l))] rfl (by decide) rfl (Nat.le_of_ble_eq_true rfl) rfl ?_
  intro κ B E tb
  have hB := TreeP.b hw0
  have hp2 := p2_4 hB.1
  have hd4 := hB.1
  refine g_aload_n (q := 1) B dX10_removes_0 rfl rfl (rv_r _) ?_
  refine g_iconst (v := nI 2) (q := 2) B dX10_removes_1 rfl (by decide) ?_
  refine g_iload_n (q := 3) B dX10_removes_2 rfl rfl ?_
  refine g_imul (v := nI (2 * l)) (q := 4) B dX10_removes_3 rfl (pk_mul _ _) ?_
  refine g_callV (q := 7) (is := [0]) (kc2 := 3) (ks2 := 17) B [.int (nI (2 * l))] (ct_X10_blanks g J (t := t) (T := T) (n := 2 * l) hw0 (by first | assumption | omega | rfl)) dX10_removes_4 rfl (rc_in B (ci := 5) rfl (k := 0) rfl (TreeP.hm hw0)) rfl q2521 q2523 qs33 q123 q2524 rfl rfl moX10_blanks rfl rfl (by decide) (by decide) (Nat.le_of_ble_eq_true rfl) (Nat.le_of_ble_eq_true rfl) (Nat.le_of_ble_eq_true rfl) (fun _ _ hx => noX_x hx) (fun v4 L1 hp4 => ?_)
  obtain ⟨u0_4, rfl, rfl, hu0_4⟩ := hp4
  refine (show Go g κ 7 [some (.ref t), some (.int (nI l))] [] [u0_4] 3 17 from ?_)
  obtain ⟨as_b, al_b, ap_b, fs_b, fl_b, fp_b, hB_b, hfs_b, hfl_b, hfp_b, rfl⟩ := hu0_4
  refine g_open 0 rfl rfl rfl ?_
  refine (show Go g κ 7 [some (.ref t), some (.int (nI l))] [] [[(t, .inr (5, [.int (nI (2 ^ (blkN T (2 * l)).1)), .ref as_b, .ref al_b, .ref ap_b]))], [(as_b, .inl (g.2.1 0, 31, .inl fs_b))], [(al_b, .inl (g.2.1 0, 31, .inl fl_b))], [(ap_b, .inl (g.2.1 0, 16, .inl fp_b))]] 3 17 from ?_)
  refine g_aload_n (q := 8) B dX10_removes_7 rfl rfl (rv_r _) ?_
  refine g_get (q := 11) B (ci := 5) (k := 0) (j := 3) in_X10 rfl dX10_removes_8 rfl rfl (Nat.le_of_ble_eq_true rfl) q2043 rfl rfl ?_
  refine g_iload_n (q := 12) B dX10_removes_11 rfl rfl ?_
  refine g_iconst (v := -1) (q := 13) B dX10_removes_12 rfl (by decide) ?_
  refine g_iast (q := 14) (L2 := [[(t, .inr (5, [.int (nI (2 ^ (blkN T (2 * l)).1)), .ref as_b, .ref al_b, .ref ap_b]))], [(as_b, .inl (g.2.1 0, 31, .inl fs_b))], [(al_b, .inl (g.2.1 0, 31, .inl fl_b))], [(ap_b, .inl (g.2.1 0, 16, .inl (upd fp_b l (-1))))]]) B (k := 3) dX10_removes_13 rfl rfl (vp_in_nI (by omega) (by omega)) (by rw [nI_clamp (by omega)] <;> rfl) ?_
  obtain ⟨f13, ef13⟩ : ∃ f : Nat → Int32, f = upd fp_b l (-1) := ⟨_, rfl⟩
  have hf13 : ∀ i, i < 16 → f13 i = oI (fup ((blkN T (2 * l)).2.2.2) l none i) := by rw [ef13]; exact upd_oI hfp_b _ none
  rw [← ef13]
  refine (show Go g κ 14 [some (.ref t), some (.int (nI l))] [] [[(t, .inr (5, [.int (nI (2 ^ (blkN T (2 * l)).1)), .ref as_b, .ref al_b, .ref ap_b]))], [(as_b, .inl (g.2.1 0, 31, .inl fs_b))], [(al_b, .inl (g.2.1 0, 31, .inl fl_b))], [(ap_b, .inl (g.2.1 0, 16, .inl f13))]] 3 17 from ?_)
  obtain ⟨wc_1, ewc_1⟩ : ∃ w : va_W, w = ([[(t, .inr (5, [.int (nI (2 ^ (blkN T (2 * l)).1)), .ref as_b, .ref al_b, .ref ap_b]))], [(as_b, .inl (g.2.1 0, 31, .inl fs_b))], [(al_b, .inl (g.2.1 0, 31, .inl fl_b))], [(ap_b, .inl (g.2.1 0, 16, .inl f13))]] : List va_W).flatten := ⟨_, rfl⟩
  have hwc_1 : TreeP g t (((blkN T (2 * l)).1, (blkN T (2 * l)).2.1, (blkN T (2 * l)).2.2.1, fup T.2.2.2 l none) : TrS) wc_1 := by
    rw [ewc_1]
    exact ⟨as_b, al_b, ap_b, fs_b, fl_b, f13, (TrB.per hB_b l none (fun n h => by cases h)), hfs_b, hfl_b, hf13, rfl⟩
  refine g_close (w := wc_1) [0, 0, 0, 0] rfl ewc_1 rfl ?_
  refine (show Go g κ 14 [some (.ref t), some (.int (nI l))] [] [wc_1] 3 17 from ?_)
  refine g_aload_n (q := 15) B dX10_removes_14 rfl rfl (rv_r _) ?_
  refine g_iload_n (q := 16) B dX10_removes_15 rfl rfl ?_
  refine g_callV (q := 19) (is := [0]) (kc2 := 0) (ks2 := 0) B [.int (nI l)] (ct_X10_blanksWay g J (t := t) (T := (((blkN T (2 * l)).1, (blkN T (2 * l)).2.1, (blkN T (2 * l)).2.2.1, fup T.2.2.2 l none) : TrS)) (l := l) hwc_1 (hl)) dX10_removes_16 rfl (rc_in B (ci := 5) rfl (k := 0) rfl (TreeP.hm hwc_1)) rfl q2539 q2491 q2492 q123 q2493 rfl rfl moX10_blanksWay rfl rfl (by decide) (by decide) (Nat.le_of_ble_eq_true rfl) (Nat.le_of_ble_eq_true rfl) (Nat.le_of_ble_eq_true rfl) (fun _ _ hx => noX_x hx) (fun v16 L1 hp16 => ?_)
  obtain ⟨u0_16, rfl, rfl, hu0_16⟩ := hp16
  refine (show Go g κ 19 [some (.ref t), some (.int (nI l))] [] [u0_16] 0 0 from ?_)
  exact g_vret B E dX10_removes_19 (⟨u0_16, rfl, rfl, hu0_16⟩)
