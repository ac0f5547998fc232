set_option maxRecDepth 100000
theorem nd_mid {a v : List Nat} {r : Nat} (h : (a ++ r :: v).Nodup) : (r :: (a ++ v)).Nodup := (List.perm_middle.nodup_iff).mp h
theorem mv_ch {nx : Nat → Option Nat} {u v : List Nat} {q r f : Nat} (h : Ch nx (some f) (u ++ q :: r :: v)) (hn : (u ++ q :: r :: v).Nodup) : Ch (fup (fup nx q (nx r)) r (some f)) (some r) (r :: (u ++ q :: v)) := by
  have hr : r ∉ u ++ q :: v := fun e => by
    rw [show u ++ q :: r :: v = (u ++ [q]) ++ r :: v by simp] at hn
    have := (nd_mid hn)
    exact (List.nodup_cons.mp this).1 (by simpa using e)
  refine ⟨rfl, ?_⟩
  rw [fup_s]
  exact ch_congr (ch_del h hn) fun a ha => fup_n (fun (e : a = r) => hr (e ▸ ha))
theorem mv_pc {pv : Nat → Option Nat} {u v : List Nat} {q r f : Nat} (h : Pc pv none (u ++ q :: r :: v)) (hn : (u ++ q :: r :: v).Nodup) (hf : (u ++ q :: v).head? = some f) : Pc (fup (fup (pvH pv v.head? (some q)) f (some r)) r none) none (r :: (u ++ q :: v)) := by
  have hr : r ∉ u ++ q :: v := fun e => by
    rw [show u ++ q :: r :: v = (u ++ [q]) ++ r :: v by simp] at hn
    have := (nd_mid hn)
    exact (List.nodup_cons.mp this).1 (by simpa using e)
  have hn2 : (u ++ q :: v).Nodup := by
    rw [show u ++ q :: r :: v = (u ++ [q]) ++ r :: v by simp] at hn
    have := (nd_mid hn)
    simpa using (List.nodup_cons.mp this).2
  refine ⟨fup_s _ _ _, ?_⟩
  have z := pc_re (p := some r) (pc_del h hn) hn2
  rw [hf] at z
  exact pc_congr z fun a ha => fup_n (fun (e : a = r) => hr (e ▸ ha))
theorem spl_at {r : Nat} : ∀ {cs : List Nat}, r ∈ cs → cs.head? ≠ some r → ∃ u q v, cs = u ++ q :: r :: v
  | [], h, _ => by simp at h
  | [a], h, h2 => by simp at h; simp [h] at h2
  | a :: b :: t, h, h2 => by
    have ha : r ≠ a := fun e => h2 (by simp [e])
    by_cases e : b = r
    · exact ⟨[], a, t, by rw [e]; rfl⟩
    · obtain ⟨u, q, v, e2⟩ := spl_at (r := r) (cs := b :: t) (by simpa [ha] using h) (by simpa using e)
      exact ⟨a :: u, q, v, by rw [e2]; rfl⟩
theorem er_mid {r : Nat} {u v : List Nat} {q : Nat} (hn : (u ++ q :: r :: v).Nodup) : (u ++ q :: r :: v).erase r = u ++ q :: v := by
  have e : u ++ q :: r :: v = (u ++ [q]) ++ r :: v := by simp
  have hr : r ∉ u ++ [q] := fun h => by
    rw [e] at hn
    exact (List.nodup_cons.mp (nd_mid hn)).1 (List.mem_append_left _ h)
  rw [e, List.erase_append_right _ hr]
  simp
theorem up_same {f : Nat → Option Nat} {b : Nat} {x : Option Nat} (h : f b = x) : va_up f b x = f := by
  funext i
  unfold va_up
  split
  · rename_i e; rw [e, h]
  · rfl
theorem ct_J40_moveRootToFront (g : Gv) (J : Jd g) {tl : Nat} {cap : Nat} {tab : Nat → Option Nat} {ix : Nat} {cs : List Nat} {ns : List Nat} {hs : Nat → Int32} {ky : Nat → Nat} {vl : Nat → Nat} {nx : Nat → Option Nat} {pp : Nat → Option Nat} {lf : Nat → Option Nat} {rg : Nat → Option Nat} {pv : Nat → Option Nat} {rd : Nat → Bool} {root : Nat} {w1 : va_W} (hw1 : TNG g ns hs ky vl nx pp lf rg pv rd w1) (hcap : 0 < cap) (hcap2 : cap < 1073741824) (hix : nI (cap - 1) &&& hs root = nI ix) (hix2 : ix < cap) (hr : root ∈ ns) (hC : Ch nx (tab ix) cs) (hP : Pc pv none cs) (hN : cs.Nodup) (hM : ∀ a, a ∈ cs ↔ a ∈ ns) : Ct g yJ40_moveRootToFront (ws_ yJ40_moveRootToFront cJ40_moveRootToFront 7 none) 0 0 0 [.ref tl, .ref root] [[(tl, .inl (g.2.1 6, cap, .inr (.inr (.inr (.inr tab)))))], w1] (fun (rv_ : Option Value) (rL_ : List va_W) => ∃ (nx2 : Nat → Option Nat) (pv2 : Nat → Option Nat) (u1 : va_W), rv_ = none ∧ rL_ = [[(tl, .inl (g.2.1 6, cap, .inr (.inr (.inr (.inr (va_up tab ix (some root)))))))], u1] ∧ TNG g ns hs ky vl nx2 pp lf rg pv2 rd u1 ∧ (Ch nx2 (some root) (root :: cs.erase root) ∧ Pc pv2 none (root :: cs.erase root))) noX := by
  refine Ct.of "java/util/HashMap$TreeNode" [some (.ref tl), some (.ref root), none, none, none, none, none] rfl (by decide) rfl (Nat.le_of_ble_eq_true rfl) rfl ?_
  intro κ B E tb
  obtain ⟨f0, hf0⟩ : ∃ f, tab ix = some f := by
    cases e : tab ix with
    | none =>
      have z := ch_head hC
      rw [e] at z
      have z2 := (hM root).mpr hr
      rw [List.head?_eq_none_iff.mp z.symm] at z2
      simp at z2
    | some f => exact ⟨f, rfl⟩
  have hfm0 : f0 ∈ ns := (hM f0).mp (List.mem_of_mem_head? (by rw [← ch_head hC, hf0]; rfl))
  refine g_aload_n (q := 1) B dJ40_moveRootToFront_0 rfl rfl (rv_r _) ?_
  refine g_ifnull_r (q := 4) B dJ40_moveRootToFront_1 rfl ?_
  refine g_aload_n (q := 5) B dJ40_moveRootToFront_4 rfl rfl (rv_r _) ?_
  refine g_ifnull_r (q := 8) B dJ40_moveRootToFront_5 rfl ?_
  refine g_aload_n (q := 9) B dJ40_moveRootToFront_8 rfl rfl (rv_r _) ?_
  refine g_alen (v := nI cap) (q := 10) B (k := 0) (t := 6) dJ40_moveRootToFront_9 rfl rfl rfl rfl ?_
  refine g_dup (q := 11) B dJ40_moveRootToFront_10 rfl rfl ?_
  refine g_istore_n (q := 12) (lv2 := [some (.ref tl), some (.ref root), some (.int (nI cap)), none, none, none, none]) B dJ40_moveRootToFront_11 rfl (Nat.le_of_ble_eq_true rfl) rfl ?_
  refine g_if_le (tgt := 123) (q := 15) B dJ40_moveRootToFront_12 rfl (by decide) (iff_false_intro (fun h => absurd ((nI_le0 (by omega)).mp h) (by omega))) (fun z => z.elim) (fun _ => ?_)
  refine g_iload_n (q := 16) B dJ40_moveRootToFront_15 rfl rfl ?_
  refine g_iconst (v := nI 1) (q := 17) B dJ40_moveRootToFront_16 rfl (by decide) ?_
  refine g_isub (v := nI (cap - 1)) (q := 18) B dJ40_moveRootToFront_17 rfl (pk_sub (by omega)) ?_
  refine g_aload_n (q := 19) B dJ40_moveRootToFront_18 rfl rfl (rv_r _) ?_
  refine g_getSM (v := .int (hs root)) (q := 22) B (ci := 25) (k := 1) (j := 2) in_J40 rfl dJ40_moveRootToFront_19 rfl rfl (TNG.mem hw1 hr) (Nat.le_of_ble_eq_true rfl) q1677 q1678 rfl ?_
  refine g_iand (v := nI ix) (q := 23) B dJ40_moveRootToFront_22 rfl hix ?_
  refine g_istore_n (q := 24) (lv2 := [some (.ref tl), some (.ref root), some (.int (nI cap)), some (.int (nI ix)), none, none, none]) B dJ40_moveRootToFront_23 rfl (Nat.le_of_ble_eq_true rfl) rfl ?_
  refine g_aload_n (q := 25) B dJ40_moveRootToFront_24 rfl rfl (rv_r _) ?_
  refine g_iload_n (q := 26) B dJ40_moveRootToFront_25 rfl rfl ?_
  refine g_ald (r := some f0) (q := 27) B (k := 0) (t := 6) dJ40_moveRootToFront_26 rfl rfl rfl (vp_in_nI (by omega) (by omega)) (by rw [nI_clamp (by omega)]; exact hf0) ?_
  refine g_castRS (ci := 25) (q := 30) B rfl (rc_in B (ci := 25) rfl (k := 1) rfl ⟨_, TNG.mem hw1 hfm0⟩) dJ40_moveRootToFront_27 rfl q1662 ?_
  refine g_astore (q := 32) (lv2 := [some (.ref tl), some (.ref root), some (.int (nI cap)), some (.int (nI ix)), some (.ref f0), none, none]) B dJ40_moveRootToFront_30 rfl (Nat.le_of_ble_eq_true rfl) (rv_r _) rfl ?_
  by_cases hfr : f0 = root
  · skip
    refine g_aload_n (q := 33) B dJ40_moveRootToFront_32 rfl rfl (rv_r _) ?_
    refine g_aload (q := 35) B dJ40_moveRootToFront_33 rfl rfl (rv_r _) ?_
    refine g_acmp_eq (rx := some root) (ry := some f0) (tgt := 102) (q := 38) B dJ40_moveRootToFront_35 rfl (by decide) rfl rfl (iff_true_intro (by rw [hfr])) (fun _ => ?_) (fun z => absurd trivial z)
    refine g_gets (q := 105) B (J.2.2.1 _ (List.mem_of_getElem? (i := 3) rfl)) dJ40_moveRootToFront_102 rfl q1720 ?_
    refine g_if_ne (tgt := 123) (q := 108) B dJ40_moveRootToFront_105 rfl (by decide) (iff_true_intro (by decide)) (fun _ => ?_) (fun z => absurd trivial z)
    have hse : root :: cs.erase root = cs := by
      cases cs with
      | nil => have := ch_head hC; rw [hf0] at this; cases this
      | cons z t => have := ch_head hC; rw [hf0, hfr] at this; cases this; simp
    rw [show tab = va_up tab ix (some root) from (up_same (by rw [hf0, hfr])).symm]
    refine (show Go g κ 123 [some (.ref tl), some (.ref root), some (.int (nI cap)), some (.int (nI ix)), some (.ref f0), none, none] [] [[(tl, .inl (g.2.1 6, cap, .inr (.inr (.inr (.inr (va_up tab ix (some root)))))))], w1] 0 0 from ?_)
    exact g_vret B E dJ40_moveRootToFront_123 (⟨nx, pv, _, rfl, rfl, hw1, by rw [show root :: cs.erase root = cs from hse]; exact ⟨by rw [← hfr, ← hf0]; exact hC, hP⟩⟩)
  · skip
    obtain ⟨u0, q0, v0, hcs⟩ := spl_at ((hM root).mpr hr) (by rw [← ch_head hC, hf0]; intro e; exact hfr (Option.some.inj e))
    subst hcs
    have hpr := pc_at hP
    have hnr : nx root = v0.head? := ch_head (ch_at (u := u0 ++ [q0]) (by simpa using hC))
    have hqm : q0 ∈ ns := (hM q0).mp (by simp)
    have hqr : q0 ≠ root := fun e => by rw [e] at hN; simp [List.nodup_append] at hN
    have hfm : f0 ∈ ns := (hM f0).mp (List.mem_of_mem_head? (by rw [← ch_head hC, hf0]; rfl))
    have hfq : f0 ≠ root := hfr
    refine g_aload_n (q := 33) B dJ40_moveRootToFront_32 rfl rfl (rv_r _) ?_
    refine g_aload (q := 35) B dJ40_moveRootToFront_33 rfl rfl (rv_r _) ?_
    refine g_acmp_eq (rx := some root) (ry := some f0) (tgt := 102) (q := 38) B dJ40_moveRootToFront_35 rfl (by decide) rfl rfl (iff_false_intro (fun e => hfr (Option.some.inj e).symm)) (fun z => z.elim) (fun _ => ?_)
    refine g_aload_n (q := 39) B dJ40_moveRootToFront_38 rfl rfl (rv_r _) ?_
    refine g_iload_n (q := 40) B dJ40_moveRootToFront_39 rfl rfl ?_
    refine g_aload_n (q := 41) B dJ40_moveRootToFront_40 rfl rfl (rv_r _) ?_
    refine g_astO (q := 42) (L2 := [[(tl, .inl (g.2.1 6, cap, .inr (.inr (.inr (.inr (va_up tab ix (some root)))))))], w1]) B (k := 0) (t := 6) (C := "java/util/HashMap$TreeNode") (rc_in B (ci := 25) rfl (k := 1) rfl ⟨_, TNG.mem hw1 hr⟩) (as_c q3727) dJ40_moveRootToFront_41 rfl rfl rfl (vp_in_nI (by omega) (by omega)) (by rw [nI_clamp (by omega)] <;> rfl) ?_
    refine g_aload_n (q := 43) B dJ40_moveRootToFront_42 rfl rfl (rv_r _) ?_
    refine g_getM (v := .ref q0) (q := 46) B (ci := 25) (k := 1) (j := 9) in_J40 rfl dJ40_moveRootToFront_43 rfl rfl (TNG.mem hw1 hr) (Nat.le_of_ble_eq_true rfl) q1745 rfl (congrArg some (congrArg va_rf hpr)) ?_
    refine g_astore (q := 48) (lv2 := [some (.ref tl), some (.ref root), some (.int (nI cap)), some (.int (nI ix)), some (.ref f0), none, some (.ref q0)]) B dJ40_moveRootToFront_46 rfl (Nat.le_of_ble_eq_true rfl) (rv_r _) rfl ?_
    refine g_aload_n (q := 49) B dJ40_moveRootToFront_48 rfl rfl (rv_r _) ?_
    refine g_getSM (v := va_rf (nx root)) (q := 52) B (ci := 25) (k := 1) (j := 5) in_J40 rfl dJ40_moveRootToFront_49 rfl rfl (TNG.mem hw1 hr) (Nat.le_of_ble_eq_true rfl) q1690 q1691 rfl ?_
    refine g_dup (q := 53) B dJ40_moveRootToFront_52 rfl (rv_c (rv_o _)) ?_
    refine g_astore (q := 55) (lv2 := [some (.ref tl), some (.ref root), some (.int (nI cap)), some (.int (nI ix)), some (.ref f0), some (va_rf (nx root)), some (.ref q0)]) B dJ40_moveRootToFront_53 rfl (Nat.le_of_ble_eq_true rfl) (rv_o _) rfl ?_
    refine g_ifnull_o (tgt := 68) (q := 58) B dJ40_moveRootToFront_55 rfl (by decide) (fun c55 => ?_) (fun nxroot_a55 c55 => ?_)
    · skip
      rw [c55]
      refine (show Go g κ 68 [some (.ref tl), some (.ref root), some (.int (nI cap)), some (.int (nI ix)), some (.ref f0), some (.null), some (.ref q0)] [] [[(tl, .inl (g.2.1 6, cap, .inr (.inr (.inr (.inr (va_up tab ix (some root)))))))], w1] 0 0 from ?_)
      refine g_aload (q := 70) B dJ40_moveRootToFront_68 rfl rfl (rv_r _) ?_
      refine g_ifnull_r (q := 73) B dJ40_moveRootToFront_70 rfl ?_
      refine g_aload (q := 75) B dJ40_moveRootToFront_73 rfl rfl (rv_r _) ?_
      refine g_aload (q := 77) B dJ40_moveRootToFront_75 rfl rfl rv_n ?_
      refine g_putTNG5 (q := 80) (k := 1) (x := none) B hw1 hqm dJ40_moveRootToFront_77 rfl rfl q1690 (Or.inr q1691) (fun wa_1_77 hwa_1_77 => ?_)
      refine (show Go g κ 80 [some (.ref tl), some (.ref root), some (.int (nI cap)), some (.int (nI ix)), some (.ref f0), some (.null), some (.ref q0)] [] [[(tl, .inl (g.2.1 6, cap, .inr (.inr (.inr (.inr (va_up tab ix (some root)))))))], wa_1_77] 0 0 from ?_)
      refine g_aload (q := 82) B dJ40_moveRootToFront_80 rfl rfl (rv_r _) ?_
      refine g_ifnull_r (q := 85) B dJ40_moveRootToFront_82 rfl ?_
      refine g_aload (q := 87) B dJ40_moveRootToFront_85 rfl rfl (rv_r _) ?_
      refine g_aload_n (q := 88) B dJ40_moveRootToFront_87 rfl rfl (rv_r _) ?_
      refine g_putTNG9 (q := 91) (k := 1) (x := some root) B hwa_1_77 hfm dJ40_moveRootToFront_88 rfl rfl q1745 (Or.inl rfl) (fun wa_2_88 hwa_2_88 => ?_)
      refine (show Go g κ 91 [some (.ref tl), some (.ref root), some (.int (nI cap)), some (.int (nI ix)), some (.ref f0), some (.null), some (.ref q0)] [] [[(tl, .inl (g.2.1 6, cap, .inr (.inr (.inr (.inr (va_up tab ix (some root)))))))], wa_2_88] 0 0 from ?_)
      refine g_aload_n (q := 92) B dJ40_moveRootToFront_91 rfl rfl (rv_r _) ?_
      refine g_aload (q := 94) B dJ40_moveRootToFront_92 rfl rfl (rv_r _) ?_
      refine g_putTNG5 (q := 97) (k := 1) (x := some f0) B hwa_2_88 hr dJ40_moveRootToFront_94 rfl rfl q1690 (Or.inr q1691) (fun wa_3_94 hwa_3_94 => ?_)
      refine (show Go g κ 97 [some (.ref tl), some (.ref root), some (.int (nI cap)), some (.int (nI ix)), some (.ref f0), some (.null), some (.ref q0)] [] [[(tl, .inl (g.2.1 6, cap, .inr (.inr (.inr (.inr (va_up tab ix (some root)))))))], wa_3_94] 0 0 from ?_)
      refine g_aload_n (q := 98) B dJ40_moveRootToFront_97 rfl rfl (rv_r _) ?_
      refine g_aconst_null (q := 99) B dJ40_moveRootToFront_98 rfl ?_
      refine g_putTNG9 (q := 102) (k := 1) (x := none) B hwa_3_94 hr dJ40_moveRootToFront_99 rfl rfl q1745 (Or.inl rfl) (fun wa_4_99 hwa_4_99 => ?_)
      refine (show Go g κ 102 [some (.ref tl), some (.ref root), some (.int (nI cap)), some (.int (nI ix)), some (.ref f0), some (.null), some (.ref q0)] [] [[(tl, .inl (g.2.1 6, cap, .inr (.inr (.inr (.inr (va_up tab ix (some root)))))))], wa_4_99] 0 0 from ?_)
      refine g_gets (q := 105) B (J.2.2.1 _ (List.mem_of_getElem? (i := 3) rfl)) dJ40_moveRootToFront_102 rfl q1720 ?_
      refine g_if_ne (tgt := 123) (q := 108) B dJ40_moveRootToFront_105 rfl (by decide) (iff_true_intro (by decide)) (fun _ => ?_) (fun z => absurd trivial z)
      have hh0 : (u0 ++ q0 :: v0).head? = some f0 := by
        have z := ch_head hC
        rw [hf0] at z
        cases u0 with
        | nil => simpa using z.symm
        | cons z0 t0 => simpa using z.symm
      have hmc : Ch (fup (fup nx q0 none) root (some f0)) (some root) (root :: (u0 ++ q0 :: v0)) := by
        have z := mv_ch (f := f0) (by rw [← hf0]; exact hC) hN
        rw [c55] at z
        exact z
      have hmp : Pc (fup (fup pv f0 (some root)) root none) none (root :: (u0 ++ q0 :: v0)) := by
        have z := mv_pc (f := f0) hP hN hh0
        rw [← hnr, c55] at z
        exact z
      exact g_vret B E dJ40_moveRootToFront_123 (⟨_, _, _, rfl, rfl, hwa_4_99, by rw [er_mid hN]; exact ⟨hmc, hmp⟩⟩)
    · skip
      rw [c55]
      refine (show Go g κ 58 [some (.ref tl), some (.ref root), some (.int (nI cap)), some (.int (nI ix)), some (.ref f0), some (.ref nxroot_a55), some (.ref q0)] [] [[(tl, .inl (g.2.1 6, cap, .inr (.inr (.inr (.inr (va_up tab ix (some root)))))))], w1] 0 0 from ?_)
      have hvm : v0.head? = some nxroot_a55 := by rw [← hnr]; exact c55
      have hym : nxroot_a55 ∈ ns := (hM nxroot_a55).mp (by have := List.mem_of_mem_head? (show nxroot_a55 ∈ v0.head? by rw [hvm]; rfl); simp [this])
      refine g_aload (q := 60) B dJ40_moveRootToFront_58 rfl rfl (rv_r _) ?_
      refine g_castRS (ci := 25) (q := 63) B rfl (rc_in B (ci := 25) rfl (k := 1) rfl ⟨_, TNG.mem hw1 hym⟩) dJ40_moveRootToFront_60 rfl q1662 ?_
      refine g_aload (q := 65) B dJ40_moveRootToFront_63 rfl rfl (rv_r _) ?_
      refine g_putTNG9 (q := 68) (k := 1) (x := some q0) B hw1 hym dJ40_moveRootToFront_65 rfl rfl q1745 (Or.inl rfl) (fun wa_5_65 hwa_5_65 => ?_)
      refine (show Go g κ 68 [some (.ref tl), some (.ref root), some (.int (nI cap)), some (.int (nI ix)), some (.ref f0), some (.ref nxroot_a55), some (.ref q0)] [] [[(tl, .inl (g.2.1 6, cap, .inr (.inr (.inr (.inr (va_up tab ix (some root)))))))], wa_5_65] 0 0 from ?_)
      refine g_aload (q := 70) B dJ40_moveRootToFront_68 rfl rfl (rv_r _) ?_
      refine g_ifnull_r (q := 73) B dJ40_moveRootToFront_70 rfl ?_
      refine g_aload (q := 75) B dJ40_moveRootToFront_73 rfl rfl (rv_r _) ?_
      refine g_aload (q := 77) B dJ40_moveRootToFront_75 rfl rfl (rv_r _) ?_
      refine g_putTNG5 (q := 80) (k := 1) (x := some nxroot_a55) B hwa_5_65 hqm dJ40_moveRootToFront_77 rfl rfl q1690 (Or.inr q1691) (fun wa_6_77 hwa_6_77 => ?_)
      refine (show Go g κ 80 [some (.ref tl), some (.ref root), some (.int (nI cap)), some (.int (nI ix)), some (.ref f0), some (.ref nxroot_a55), some (.ref q0)] [] [[(tl, .inl (g.2.1 6, cap, .inr (.inr (.inr (.inr (va_up tab ix (some root)))))))], wa_6_77] 0 0 from ?_)
      refine g_aload (q := 82) B dJ40_moveRootToFront_80 rfl rfl (rv_r _) ?_
      refine g_ifnull_r (q := 85) B dJ40_moveRootToFront_82 rfl ?_
      refine g_aload (q := 87) B dJ40_moveRootToFront_85 rfl rfl (rv_r _) ?_
      refine g_aload_n (q := 88) B dJ40_moveRootToFront_87 rfl rfl (rv_r _) ?_
      refine g_putTNG9 (q := 91) (k := 1) (x := some root) B hwa_6_77 hfm dJ40_moveRootToFront_88 rfl rfl q1745 (Or.inl rfl) (fun wa_7_88 hwa_7_88 => ?_)
      refine (show Go g κ 91 [some (.ref tl), some (.ref root), some (.int (nI cap)), some (.int (nI ix)), some (.ref f0), some (.ref nxroot_a55), some (.ref q0)] [] [[(tl, .inl (g.2.1 6, cap, .inr (.inr (.inr (.inr (va_up tab ix (some root)))))))], wa_7_88] 0 0 from ?_)
      refine g_aload_n (q := 92) B dJ40_moveRootToFront_91 rfl rfl (rv_r _) ?_
      refine g_aload (q := 94) B dJ40_moveRootToFront_92 rfl rfl (rv_r _) ?_
      refine g_putTNG5 (q := 97) (k := 1) (x := some f0) B hwa_7_88 hr dJ40_moveRootToFront_94 rfl rfl q1690 (Or.inr q1691) (fun wa_8_94 hwa_8_94 => ?_)
      refine (show Go g κ 97 [some (.ref tl), some (.ref root), some (.int (nI cap)), some (.int (nI ix)), some (.ref f0), some (.ref nxroot_a55), some (.ref q0)] [] [[(tl, .inl (g.2.1 6, cap, .inr (.inr (.inr (.inr (va_up tab ix (some root)))))))], wa_8_94] 0 0 from ?_)
      refine g_aload_n (q := 98) B dJ40_moveRootToFront_97 rfl rfl (rv_r _) ?_
      refine g_aconst_null (q := 99) B dJ40_moveRootToFront_98 rfl ?_
      refine g_putTNG9 (q := 102) (k := 1) (x := none) B hwa_8_94 hr dJ40_moveRootToFront_99 rfl rfl q1745 (Or.inl rfl) (fun wa_9_99 hwa_9_99 => ?_)
      refine (show Go g κ 102 [some (.ref tl), some (.ref root), some (.int (nI cap)), some (.int (nI ix)), some (.ref f0), some (.ref nxroot_a55), some (.ref q0)] [] [[(tl, .inl (g.2.1 6, cap, .inr (.inr (.inr (.inr (va_up tab ix (some root)))))))], wa_9_99] 0 0 from ?_)
      refine g_gets (q := 105) B (J.2.2.1 _ (List.mem_of_getElem? (i := 3) rfl)) dJ40_moveRootToFront_102 rfl q1720 ?_
      refine g_if_ne (tgt := 123) (q := 108) B dJ40_moveRootToFront_105 rfl (by decide) (iff_true_intro (by decide)) (fun _ => ?_) (fun z => absurd trivial z)
      have hh0 : (u0 ++ q0 :: v0).head? = some f0 := by
        have z := ch_head hC
        rw [hf0] at z
        cases u0 with
        | nil => simpa using z.symm
        | cons z0 t0 => simpa using z.symm
      have hmc : Ch (fup (fup nx q0 (some nxroot_a55)) root (some f0)) (some root) (root :: (u0 ++ q0 :: v0)) := by
        have z := mv_ch (f := f0) (by rw [← hf0]; exact hC) hN
        rw [c55] at z
        exact z
      have hmp : Pc (fup (fup (fup pv nxroot_a55 (some q0)) f0 (some root)) root none) none (root :: (u0 ++ q0 :: v0)) := by
        have z := mv_pc (f := f0) hP hN hh0
        rw [← hnr, c55] at z
        exact z
      exact g_vret B E dJ40_moveRootToFront_123 (⟨_, _, _, rfl, rfl, hwa_9_99, by rw [er_mid hN]; exact ⟨hmc, hmp⟩⟩)
