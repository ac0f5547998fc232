set_option maxRecDepth 100000
theorem moJ40_find : Mo yJ40_find 3 := by
  refine ⟨by decide, by decide, by decide +kernel⟩
theorem moJ40_root : Mo yJ40_root 0 := by
  refine ⟨by decide, by decide, by decide +kernel⟩
theorem ct_J40_getTreeNode_n (g : Gv) (J : Jd g) {ns : List Nat} {hs : Nat → Int32} {ky : Nat → Nat} {vl : Nat → Nat} {nx : Nat → Option Nat} {pp : Nat → Option Nat} {lf : Nat → Option Nat} {rg : Nat → Option Nat} {pv : Nat → Option Nat} {rd : Nat → Bool} {lo : Nat → Nat} {hi : Nat → Nat} {root : Nat} {s : Nat} {c : List Nat} {hh : Int32} {a : Nat} {w0 : va_W} {w1 : va_W} (hw0 : TNG g ns hs ky vl nx pp lf rg pv rd w0) (hw1 : StrP g s c w1) (hT : Tr ns (fun a => hrk (hs a)) lf rg pp lo hi (some root) 4294967296) (ha : a ∈ ns) (hno : ∀ b ∈ ns, hs b ≠ hh) : Ct g yJ40_getTreeNode (ws_ yJ40_getTreeNode cJ40_getTreeNode 3 (some (.object "java/util/HashMap$TreeNode"))) 3 0 0 [.ref a, .int hh, .ref s] [w0, w1] (fun (rv_ : Option Value) (rL_ : List va_W) => rv_ = some (.null) ∧ rL_ = [w0, w1]) noX := by
  refine Ct.of "java/util/HashMap$TreeNode" [some (.ref a), some (.int hh), some (.ref s)] rfl (by decide) rfl (Nat.le_of_ble_eq_true rfl) rfl ?_
  intro κ B E tb
  refine g_aload_n (q := 1) B dJ40_getTreeNode_0 rfl rfl (rv_r _) ?_
  refine g_getM (v := va_rf (pp a)) (q := 4) B (ci := 25) (k := 0) (j := 6) in_J40 rfl dJ40_getTreeNode_1 rfl rfl (TNG.mem hw0 ha) (Nat.le_of_ble_eq_true rfl) q1742 rfl rfl ?_
  refine g_ifnull_o (tgt := 14) (q := 7) B dJ40_getTreeNode_4 rfl (by decide) (fun c4 => ?_) (fun ppa_a4 c4 => ?_)
  · skip
    refine g_aload_n (q := 15) B dJ40_getTreeNode_14 rfl rfl (rv_r _) ?_
    refine g_iload_n (q := 16) B dJ40_getTreeNode_15 rfl rfl ?_
    refine g_aload_n (q := 17) B dJ40_getTreeNode_16 rfl rfl (rv_r _) ?_
    refine g_aconst_null (q := 18) B dJ40_getTreeNode_17 rfl ?_
    refine g_callV (q := 21) (is := [0, 0]) (kc2 := 0) (ks2 := 0) B [.int hh, .ref s, .null] (ct_J40_find_n g J (ns := ns) (hs := hs) (ky := ky) (vl := vl) (nx := nx) (pp := pp) (lf := lf) (rg := rg) (pv := pv) (rd := rd) (lo := lo) (hi := hi) (root := root) (s := s) (c := c) (hh := hh) (a := a) hw0 hw1 (by first | assumption | omega | rfl) (by first | exact ha | exact tr_tm hT rfl) (by first | assumption | omega | rfl)) dJ40_getTreeNode_18 rfl (rc_in B (ci := 25) rfl (k := 0) rfl ⟨_, TNG.mem hw0 ha⟩) rfl q1417 q1418 q1419 q131 q1420 rfl rfl moJ40_find rfl rfl (by decide) (by decide) (Nat.le_of_ble_eq_true rfl) (Nat.le_of_ble_eq_true rfl) (Nat.le_of_ble_eq_true rfl) (fun _ _ hx => noX_x hx) (fun v18 L1 hp18 => ?_)
    obtain ⟨rfl, rfl⟩ := hp18
    refine (show Go g κ 21 [some (.ref a), some (.int hh), some (.ref s)] [.null] [w0, w1] 0 0 from ?_)
    exact g_aret B E dJ40_getTreeNode_21 (by first | exact Or.inl ⟨_, rfl⟩ | exact Or.inr ⟨_, rfl⟩) rv_n (⟨rfl, rfl⟩)
  · skip
    refine g_aload_n (q := 8) B dJ40_getTreeNode_7 rfl rfl (rv_r _) ?_
    refine g_callV (q := 11) (is := [0]) (kc2 := 0) (ks2 := 0) B [] (ct_J40_root g J (ns := ns) (hs := hs) (ky := ky) (vl := vl) (nx := nx) (pp := pp) (lf := lf) (rg := rg) (pv := pv) (rd := rd) (key := (fun a => hrk (hs a))) (lo := lo) (hi := hi) (root := root) (a := a) hw0 (by first | assumption | omega | rfl) (by first | assumption | omega | rfl)) dJ40_getTreeNode_8 rfl (rc_in B (ci := 25) rfl (k := 0) rfl ⟨_, TNG.mem hw0 ha⟩) rfl q1413 q1414 q1415 q131 q1416 rfl rfl moJ40_root rfl rfl (by decide) (by decide) (Nat.le_of_ble_eq_true rfl) (Nat.le_of_ble_eq_true rfl) (Nat.le_of_ble_eq_true rfl) (fun _ _ hx => noX_x hx) (fun v8 L1 hp8 => ?_)
    obtain ⟨rfl, rfl⟩ := hp8
    refine (show Go g κ 11 [some (.ref a), some (.int hh), some (.ref s)] [.ref root] [w1, w0] 0 0 from ?_)
    refine g_goto (tgt := 15) B dJ40_getTreeNode_11 (by decide) ?_
    refine g_iload_n (q := 16) B dJ40_getTreeNode_15 rfl rfl ?_
    refine g_aload_n (q := 17) B dJ40_getTreeNode_16 rfl rfl (rv_r _) ?_
    refine g_aconst_null (q := 18) B dJ40_getTreeNode_17 rfl ?_
    refine g_callV (q := 21) (is := [1, 0]) (kc2 := 0) (ks2 := 0) B [.int hh, .ref s, .null] (ct_J40_find_n g J (ns := ns) (hs := hs) (ky := ky) (vl := vl) (nx := nx) (pp := pp) (lf := lf) (rg := rg) (pv := pv) (rd := rd) (lo := lo) (hi := hi) (root := root) (s := s) (c := c) (hh := hh) (a := root) hw0 hw1 (by first | assumption | omega | rfl) (by first | exact ha | exact tr_tm hT rfl) (by first | assumption | omega | rfl)) dJ40_getTreeNode_18 rfl (rc_in B (ci := 25) rfl (k := 1) rfl ⟨_, TNG.mem hw0 (tr_tm hT rfl)⟩) rfl q1417 q1418 q1419 q131 q1420 rfl rfl moJ40_find rfl rfl (by decide) (by decide) (Nat.le_of_ble_eq_true rfl) (Nat.le_of_ble_eq_true rfl) (Nat.le_of_ble_eq_true rfl) (fun _ _ hx => noX_x hx) (fun v18 L1 hp18 => ?_)
    obtain ⟨rfl, rfl⟩ := hp18
    refine (show Go g κ 21 [some (.ref a), some (.int hh), some (.ref s)] [.null] [w0, w1] 0 0 from ?_)
    exact g_aret B E dJ40_getTreeNode_21 (by first | exact Or.inl ⟨_, rfl⟩ | exact Or.inr ⟨_, rfl⟩) rv_n (⟨rfl, rfl⟩)
theorem ct_J40_getTreeNode_s (g : Gv) (J : Jd g) {ns : List Nat} {hs : Nat → Int32} {ky : Nat → Nat} {vl : Nat → Nat} {nx : Nat → Option Nat} {pp : Nat → Option Nat} {lf : Nat → Option Nat} {rg : Nat → Option Nat} {pv : Nat → Option Nat} {rd : Nat → Bool} {lo : Nat → Nat} {hi : Nat → Nat} {root : Nat} {s : Nat} {c : List Nat} {hh : Int32} {a : Nat} {a0 : Nat} {w0 : va_W} {w1 : va_W} {w2 : va_W} (hw0 : TNG g ns hs ky vl nx pp lf rg pv rd w0) (hw1 : StrP g s c w1) (hw2 : StrP g (ky a0) c w2) (hT : Tr ns (fun a => hrk (hs a)) lf rg pp lo hi (some root) 4294967296) (ha : a ∈ ns) (ha0 : a0 ∈ ns) (ha1 : hs a0 = hh) : Ct g yJ40_getTreeNode (ws_ yJ40_getTreeNode cJ40_getTreeNode 3 (some (.object "java/util/HashMap$TreeNode"))) 3 0 0 [.ref a, .int hh, .ref s] [w0, w1, w2] (fun (rv_ : Option Value) (rL_ : List va_W) => ∃ (u1 : va_W) (u2 : va_W), rv_ = some (.ref a0) ∧ rL_ = [w0, u1, u2] ∧ StrP g s c u1 ∧ StrP g (ky a0) c u2) noX := by
  refine Ct.of "java/util/HashMap$TreeNode" [some (.ref a), some (.int hh), some (.ref s)] rfl (by decide) rfl (Nat.le_of_ble_eq_true rfl) rfl ?_
  intro κ B E tb
  refine g_aload_n (q := 1) B dJ40_getTreeNode_0 rfl rfl (rv_r _) ?_
  refine g_getM (v := va_rf (pp a)) (q := 4) B (ci := 25) (k := 0) (j := 6) in_J40 rfl dJ40_getTreeNode_1 rfl rfl (TNG.mem hw0 ha) (Nat.le_of_ble_eq_true rfl) q1742 rfl rfl ?_
  refine g_ifnull_o (tgt := 14) (q := 7) B dJ40_getTreeNode_4 rfl (by decide) (fun c4 => ?_) (fun ppa_a4 c4 => ?_)
  · skip
    have har : a = root := (Option.some.inj (hT.2.2.2.2.2.2.1 a ha c4)).symm
    refine g_aload_n (q := 15) B dJ40_getTreeNode_14 rfl rfl (rv_r _) ?_
    refine g_iload_n (q := 16) B dJ40_getTreeNode_15 rfl rfl ?_
    refine g_aload_n (q := 17) B dJ40_getTreeNode_16 rfl rfl (rv_r _) ?_
    refine g_aconst_null (q := 18) B dJ40_getTreeNode_17 rfl ?_
    refine g_callV (q := 21) (is := [0, 0, 0]) (kc2 := 0) (ks2 := 0) B [.int hh, .ref s, .null] (ct_J40_find_s g J (ns := ns) (hs := hs) (ky := ky) (vl := vl) (nx := nx) (pp := pp) (lf := lf) (rg := rg) (pv := pv) (rd := rd) (lo := lo) (hi := hi) (root := root) (s := s) (c := c) (hh := hh) (a := a) (a0 := a0) hw0 hw1 hw2 (by first | assumption | omega | rfl) (by first | exact ha | exact tr_tm hT rfl) (by first | exact har | rfl) (by first | assumption | omega | rfl) (by first | assumption | omega | rfl)) dJ40_getTreeNode_18 rfl (rc_in B (ci := 25) rfl (k := 0) rfl ⟨_, TNG.mem hw0 ha⟩) rfl q1417 q1418 q1419 q131 q1420 rfl rfl moJ40_find rfl rfl (by decide) (by decide) (Nat.le_of_ble_eq_true rfl) (Nat.le_of_ble_eq_true rfl) (Nat.le_of_ble_eq_true rfl) (fun _ _ hx => noX_x hx) (fun v18 L1 hp18 => ?_)
    obtain ⟨u1_18, u2_18, rfl, rfl, hu1_18, hu2_18⟩ := hp18
    refine (show Go g κ 21 [some (.ref a), some (.int hh), some (.ref s)] [.ref a0] [w0, u1_18, u2_18] 0 0 from ?_)
    exact g_aret B E dJ40_getTreeNode_21 (by first | exact Or.inl ⟨_, rfl⟩ | exact Or.inr ⟨_, rfl⟩) (rv_r _) (⟨u1_18, u2_18, rfl, rfl, hu1_18, hu2_18⟩)
  · skip
    refine g_aload_n (q := 8) B dJ40_getTreeNode_7 rfl rfl (rv_r _) ?_
    refine g_callV (q := 11) (is := [0]) (kc2 := 0) (ks2 := 0) B [] (ct_J40_root g J (ns := ns) (hs := hs) (ky := ky) (vl := vl) (nx := nx) (pp := pp) (lf := lf) (rg := rg) (pv := pv) (rd := rd) (key := (fun a => hrk (hs a))) (lo := lo) (hi := hi) (root := root) (a := a) hw0 (by first | assumption | omega | rfl) (by first | assumption | omega | rfl)) dJ40_getTreeNode_8 rfl (rc_in B (ci := 25) rfl (k := 0) rfl ⟨_, TNG.mem hw0 ha⟩) rfl q1413 q1414 q1415 q131 q1416 rfl rfl moJ40_root rfl rfl (by decide) (by decide) (Nat.le_of_ble_eq_true rfl) (Nat.le_of_ble_eq_true rfl) (Nat.le_of_ble_eq_true rfl) (fun _ _ hx => noX_x hx) (fun v8 L1 hp8 => ?_)
    obtain ⟨rfl, rfl⟩ := hp8
    refine (show Go g κ 11 [some (.ref a), some (.int hh), some (.ref s)] [.ref root] [w1, w2, w0] 0 0 from ?_)
    refine g_goto (tgt := 15) B dJ40_getTreeNode_11 (by decide) ?_
    refine g_iload_n (q := 16) B dJ40_getTreeNode_15 rfl rfl ?_
    refine g_aload_n (q := 17) B dJ40_getTreeNode_16 rfl rfl (rv_r _) ?_
    refine g_aconst_null (q := 18) B dJ40_getTreeNode_17 rfl ?_
    refine g_callV (q := 21) (is := [2, 0, 0]) (kc2 := 0) (ks2 := 0) B [.int hh, .ref s, .null] (ct_J40_find_s g J (ns := ns) (hs := hs) (ky := ky) (vl := vl) (nx := nx) (pp := pp) (lf := lf) (rg := rg) (pv := pv) (rd := rd) (lo := lo) (hi := hi) (root := root) (s := s) (c := c) (hh := hh) (a := root) (a0 := a0) hw0 hw1 hw2 (by first | assumption | omega | rfl) (by first | exact ha | exact tr_tm hT rfl) (by first | exact har | rfl) (by first | assumption | omega | rfl) (by first | assumption | omega | rfl)) dJ40_getTreeNode_18 rfl (rc_in B (ci := 25) rfl (k := 2) rfl ⟨_, TNG.mem hw0 (tr_tm hT rfl)⟩) rfl q1417 q1418 q1419 q131 q1420 rfl rfl moJ40_find rfl rfl (by decide) (by decide) (Nat.le_of_ble_eq_true rfl) (Nat.le_of_ble_eq_true rfl) (Nat.le_of_ble_eq_true rfl) (fun _ _ hx => noX_x hx) (fun v18 L1 hp18 => ?_)
    obtain ⟨u1_18, u2_18, rfl, rfl, hu1_18, hu2_18⟩ := hp18
    refine (show Go g κ 21 [some (.ref a), some (.int hh), some (.ref s)] [.ref a0] [w0, u1_18, u2_18] 0 0 from ?_)
    exact g_aret B E dJ40_getTreeNode_21 (by first | exact Or.inl ⟨_, rfl⟩ | exact Or.inr ⟨_, rfl⟩) (rv_r _) (⟨u1_18, u2_18, rfl, rfl, hu1_18, hu2_18⟩)
theorem fup_fup {α : Type} {f : Nat → α} {a : Nat} {x y : α} : fup (fup f a x) a y = fup f a y := by
  funext b; unfold fup; split <;> rfl
theorem hk_fup {hs : Nat → Int32} {m : Nat} {hh : Int32} : fup (fun a => hrk (hs a)) m (hrk hh) = fun a => hrk (fup hs m hh a) := by
  funext a; unfold fup; split <;> rfl
theorem ins_spl {q : Nat} {cs : List Nat} (h : q ∈ cs) : ∃ u v, cs = u ++ q :: v := List.append_of_mem h
theorem nd_ins {u v : List Nat} {q x : Nat} (hn : (u ++ q :: v).Nodup) (hx : x ∉ u ++ q :: v) : (u ++ q :: x :: v).Nodup ∧ ∀ a, a ∈ u ++ q :: x :: v ↔ a = x ∨ a ∈ u ++ q :: v := by
  have hp : (u ++ q :: x :: v).Perm (x :: (u ++ q :: v)) := by
    have := List.perm_middle (a := x) (l₁ := u ++ [q]) (l₂ := v)
    simpa using this
  refine ⟨hp.nodup_iff.mpr (List.nodup_cons.mpr ⟨hx, hn⟩), fun a => ?_⟩
  rw [hp.mem_iff, List.mem_cons]
theorem nd_front {cs : List Nat} {r : Nat} (hn : cs.Nodup) (hr : r ∈ cs) : (r :: cs.erase r).Nodup ∧ ∀ a, a ∈ r :: cs.erase r ↔ a ∈ cs := by
  have hp : cs.Perm (r :: cs.erase r) := List.perm_cons_erase hr
  exact ⟨hp.nodup_iff.mp hn, fun a => hp.mem_iff.symm⟩
theorem moJ4_newTreeNode : Mo yJ4_newTreeNode 4 := by
  refine ⟨by decide, by decide, by decide +kernel⟩
theorem moJ40_balanceInsertion : Mo yJ40_balanceInsertion 2 := by
  refine ⟨by decide, by decide, by decide +kernel⟩
theorem moJ40_moveRootToFront : Mo yJ40_moveRootToFront 2 := by
  refine ⟨by decide, by decide, by decide +kernel⟩
theorem ct_J40_putTreeVal (g : Gv) (J : Jd g) {h : Nat} {otl : Option Nat} {n : Nat} {md : Nat} {thr : Nat} {lfac : UInt32} {tl : Nat} {cap : Nat} {tab : Nat → Option Nat} {ix : Nat} {cs : List Nat} {ns : List Nat} {hs : Nat → Int32} {ky : Nat → Nat} {vl : Nat → Nat} {nx : Nat → Option Nat} {pp : Nat → Option Nat} {lf : Nat → Option Nat} {rg : Nat → Option Nat} {pv : Nat → Option Nat} {rd : Nat → Bool} {lo : Nat → Nat} {hi : Nat → Nat} {root : Nat} {a : Nat} {hh : Int32} {k : Nat} {v : Nat} {w2 : va_W} (hw2 : TNG g ns hs ky vl nx pp lf rg pv rd w2) (hT : Tr ns (fun a => hrk (hs a)) lf rg pp lo hi (some root) 4294967296) (ha : a ∈ ns) (hno : ∀ b ∈ ns, hs b ≠ hh) (hcap : 0 < cap) (hcap2 : cap < 1073741824) (hix : ∀ b ∈ ns, nI (cap - 1) &&& hs b = nI ix) (hixn : nI (cap - 1) &&& hh = nI ix) (hix2 : ix < cap) (hC : Ch nx (tab ix) cs) (hP : Pc pv none cs) (hN : cs.Nodup) (hM : ∀ a, a ∈ cs ↔ a ∈ ns) : Ct g yJ40_putTreeVal (ws_ yJ40_putTreeVal cJ40_putTreeVal 16 (some (.object "java/util/HashMap$TreeNode"))) 5 1 11 [.ref a, .ref h, .ref tl, .int hh, .ref k, .ref v] [[(h, .inr (23, [.null, .null, va_rf otl, .null, .int (nI n), .int (nI md), .int (nI thr), .float lfac]))], [(tl, .inl (g.2.1 6, cap, .inr (.inr (.inr (.inr tab)))))], w2] (fun (rv_ : Option Value) (rL_ : List va_W) => ∃ (m : Nat) (nx2 : Nat → Option Nat) (pv2 : Nat → Option Nat) (lf2 : Nat → Option Nat) (rg2 : Nat → Option Nat) (pp2 : Nat → Option Nat) (rd2 : Nat → Bool) (lo2 : Nat → Nat) (hi2 : Nat → Nat) (root2 : Nat) (cs2 : List Nat) (u2 : va_W), rv_ = some (.null) ∧ rL_ = [[(h, .inr (23, [.null, .null, va_rf otl, .null, .int (nI n), .int (nI md), .int (nI thr), .float lfac]))], [(tl, .inl (g.2.1 6, cap, .inr (.inr (.inr (.inr (va_up tab ix (some root2)))))))], u2] ∧ TNG g (m :: ns) (fup hs m hh) (fup ky m k) (fup vl m v) nx2 pp2 lf2 rg2 pv2 rd2 u2 ∧ (m ∉ ns) ∧ (Tr (m :: ns) (fun a => hrk (fup hs m hh a)) lf2 rg2 pp2 lo2 hi2 (some root2) 4294967296) ∧ (Ch nx2 (some root2) cs2 ∧ Pc pv2 none cs2 ∧ cs2.Nodup ∧ ∀ a, a ∈ cs2 ↔ a ∈ m :: ns)) noX := by
  refine Ct.of "java/util/HashMap$TreeNode" [some (.ref a), some (.ref h), some (.ref tl), some (.int hh), some (.ref k), some (.ref v), none, none, none, none, none, none, none, none, none, none] rfl (by decide) rfl (Nat.le_of_ble_eq_true rfl) rfl ?_
  intro κ B E tb
  refine g_aconst_null (q := 1) B dJ40_putTreeVal_0 rfl ?_
  refine g_astore (q := 3) (lv2 := [some (.ref a), some (.ref h), some (.ref tl), some (.int hh), some (.ref k), some (.ref v), some (.null), none, none, none, none, none, none, none, none, none]) B dJ40_putTreeVal_1 rfl (Nat.le_of_ble_eq_true rfl) rv_n rfl ?_
  refine g_iconst (v := nI 0) (q := 4) B dJ40_putTreeVal_3 rfl (by decide) ?_
  refine g_istore (q := 6) (lv2 := [some (.ref a), some (.ref h), some (.ref tl), some (.int hh), some (.ref k), some (.ref v), some (.null), some (.int (nI 0)), none, none, none, none, none, none, none, none]) B dJ40_putTreeVal_4 rfl (Nat.le_of_ble_eq_true rfl) rfl ?_
  refine g_aload_n (q := 7) B dJ40_putTreeVal_6 rfl rfl (rv_r _) ?_
  refine g_getM (v := va_rf (pp a)) (q := 10) B (ci := 25) (k := 2) (j := 6) in_J40 rfl dJ40_putTreeVal_7 rfl rfl (TNG.mem hw2 ha) (Nat.le_of_ble_eq_true rfl) q1742 rfl rfl ?_
  refine g_ifnull_o (tgt := 20) (q := 13) B dJ40_putTreeVal_10 rfl (by decide) (fun c10 => ?_) (fun ppa_a10 c10 => ?_)
  · skip
    refine g_aload_n (q := 21) B dJ40_putTreeVal_20 rfl rfl (rv_r _) ?_
    have har : a = root := (Option.some.inj (hT.2.2.2.2.2.2.1 a ha c10)).symm
    rw [har]
    refine (show Go g κ 21 [some (.ref root), some (.ref h), some (.ref tl), some (.int hh), some (.ref k), some (.ref v), some (.null), some (.int (nI 0)), none, none, none, none, none, none, none, none] [.ref root] [[(h, .inr (23, [.null, .null, va_rf otl, .null, .int (nI n), .int (nI md), .int (nI thr), .float lfac]))], [(tl, .inl (g.2.1 6, cap, .inr (.inr (.inr (.inr tab)))))], w2] 1 11 from ?_)
    refine g_astore (q := 23) (lv2 := [some (.ref root), some (.ref h), some (.ref tl), some (.int hh), some (.ref k), some (.ref v), some (.null), some (.int (nI 0)), some (.ref root), none, none, none, none, none, none, none]) B dJ40_putTreeVal_21 rfl (Nat.le_of_ble_eq_true rfl) (rv_r _) rfl ?_
    refine g_aload (q := 25) B dJ40_putTreeVal_23 rfl rfl (rv_r _) ?_
    refine g_astore (q := 27) (lv2 := [some (.ref root), some (.ref h), some (.ref tl), some (.int hh), some (.ref k), some (.ref v), some (.null), some (.int (nI 0)), some (.ref root), some (.ref root), none, none, none, none, none, none]) B dJ40_putTreeVal_25 rfl (Nat.le_of_ble_eq_true rfl) (rv_r _) rfl ?_
    have lp27 : ∀ (n27 : Nat) (x : Nat) , (x ∈ ns) → (Pk ns lo hi (hrk hh) x) → wid lo hi (some x) = n27 → Go g κ 27 [some (.ref root), some (.ref h), some (.ref tl), some (.int hh), some (.ref k), some (.ref v), some (.null), some (.int (nI 0)), some (.ref root), some (.ref x), none, none, none, none, none, none] [] [[(h, .inr (23, [.null, .null, va_rf otl, .null, .int (nI n), .int (nI md), .int (nI thr), .float lfac]))], [(tl, .inl (g.2.1 6, cap, .inr (.inr (.inr (.inr tab)))))], w2] 1 11 := by
      intro n27
      induction n27 using Nat.strongRecOn with
      | _ n27 ih27 =>
      intro x  hx hp hmu27
      refine g_aload (q := 29) B dJ40_putTreeVal_27 rfl rfl (rv_r _) ?_
      refine g_getSM (v := .int (hs x)) (q := 32) B (ci := 25) (k := 2) (j := 2) in_J40 rfl dJ40_putTreeVal_29 rfl rfl (TNG.mem hw2 hx) (Nat.le_of_ble_eq_true rfl) q1677 q1678 rfl ?_
      refine g_dup (q := 33) B dJ40_putTreeVal_32 rfl rfl ?_
      refine g_istore (q := 35) (lv2 := [some (.ref root), some (.ref h), some (.ref tl), some (.int hh), some (.ref k), some (.ref v), some (.null), some (.int (nI 0)), some (.ref root), some (.ref x), none, some (.int (hs x)), none, none, none, none]) B dJ40_putTreeVal_33 rfl (Nat.le_of_ble_eq_true rfl) rfl ?_
      refine g_iload_n (q := 36) B dJ40_putTreeVal_35 rfl rfl ?_
      refine g_icmp_le (tgt := 45) (q := 39) B dJ40_putTreeVal_36 rfl (by decide) (Iff.rfl) (fun c36 => ?_) (fun c36 => ?_)
      · skip
        refine g_iload (q := 47) B dJ40_putTreeVal_45 rfl rfl ?_
        refine g_iload_n (q := 48) B dJ40_putTreeVal_47 rfl rfl ?_
        refine g_icmp_ge (tgt := 57) (q := 51) B dJ40_putTreeVal_48 rfl (by decide) (Iff.rfl) (fun c48 => ?_) (fun c48 => ?_)
        · skip
          exact absurd (Int32.le_antisymm c36 (by simpa using c48)) (hno x hx)
        · skip
          refine g_iconst (v := nI 1) (q := 52) B dJ40_putTreeVal_51 rfl (by decide) ?_
          refine g_istore (q := 54) (lv2 := [some (.ref root), some (.ref h), some (.ref tl), some (.int hh), some (.ref k), some (.ref v), some (.null), some (.int (nI 0)), some (.ref root), some (.ref x), some (.int (nI 1)), some (.int (hs x)), none, none, none, none]) B dJ40_putTreeVal_52 rfl (Nat.le_of_ble_eq_true rfl) rfl ?_
          refine g_goto (tgt := 193) B dJ40_putTreeVal_54 (by decide) ?_
          refine g_aload (q := 195) B dJ40_putTreeVal_193 rfl rfl (rv_r _) ?_
          refine g_astore (q := 197) (lv2 := [some (.ref root), some (.ref h), some (.ref tl), some (.int hh), some (.ref k), some (.ref v), some (.null), some (.int (nI 0)), some (.ref root), some (.ref x), some (.int (nI 1)), some (.int (hs x)), none, some (.ref x), none, none]) B dJ40_putTreeVal_195 rfl (Nat.le_of_ble_eq_true rfl) (rv_r _) rfl ?_
          refine g_iload (q := 199) B dJ40_putTreeVal_197 rfl rfl ?_
          refine g_if_gt (tgt := 210) (q := 202) B dJ40_putTreeVal_199 rfl (by decide) (iff_true_intro (by decide)) (fun _ => ?_) (fun z => absurd trivial z)
          refine g_aload (q := 212) B dJ40_putTreeVal_210 rfl rfl (rv_r _) ?_
          refine g_getM (v := va_rf (rg x)) (q := 215) B (ci := 25) (k := 2) (j := 8) in_J40 rfl dJ40_putTreeVal_212 rfl rfl (TNG.mem hw2 hx) (Nat.le_of_ble_eq_true rfl) q1744 rfl rfl ?_
          refine g_dup (q := 216) B dJ40_putTreeVal_215 rfl (rv_c (rv_o _)) ?_
          refine g_astore (q := 218) (lv2 := [some (.ref root), some (.ref h), some (.ref tl), some (.int hh), some (.ref k), some (.ref v), some (.null), some (.int (nI 0)), some (.ref root), some (va_rf (rg x)), some (.int (nI 1)), some (.int (hs x)), none, some (.ref x), none, none]) B dJ40_putTreeVal_216 rfl (Nat.le_of_ble_eq_true rfl) (rv_o _) rfl ?_
          refine g_ifnonnull_o (tgt := 311) (q := 221) B dJ40_putTreeVal_218 rfl (by decide) (fun rgx_a218 c218 => ?_) (fun c218 => ?_)
          · skip
            rw [c218]
            refine (show Go g κ 311 [some (.ref root), some (.ref h), some (.ref tl), some (.int hh), some (.ref k), some (.ref v), some (.null), some (.int (nI 0)), some (.ref root), some (.ref rgx_a218), some (.int (nI 1)), some (.int (hs x)), none, some (.ref x), none, none] [] [[(h, .inr (23, [.null, .null, va_rf otl, .null, .int (nI n), .int (nI md), .int (nI thr), .float lfac]))], [(tl, .inl (g.2.1 6, cap, .inr (.inr (.inr (.inr tab)))))], w2] 1 11 from ?_)
            refine g_goto (tgt := 27) B dJ40_putTreeVal_311 (by decide) ?_
            refine g_fg 10 rfl ?_
            refine g_fg 11 rfl ?_
            refine g_fg 13 rfl ?_
            exact ih27 _ (by rw [← hmu27, ← c218]; first | exact wid_l hT hx | exact wid_r hT hx) rgx_a218 (tr_rm hT hx c218) (by have z := hT.2.2.2.2.2.1 x hx _ c218; have z2 := (not_congr hrk_le).mp c48; exact ⟨z.1, by rw [z.2.2.1]; show hrk (hs x) + 1 ≤ hrk hh; omega, by rw [z.2.2.2]; exact hp.2.2⟩) rfl
          · skip
            rw [c218]
            refine (show Go g κ 221 [some (.ref root), some (.ref h), some (.ref tl), some (.int hh), some (.ref k), some (.ref v), some (.null), some (.int (nI 0)), some (.ref root), some (.null), some (.int (nI 1)), some (.int (hs x)), none, some (.ref x), none, none] [] [[(h, .inr (23, [.null, .null, va_rf otl, .null, .int (nI n), .int (nI md), .int (nI thr), .float lfac]))], [(tl, .inl (g.2.1 6, cap, .inr (.inr (.inr (.inr tab)))))], w2] 1 11 from ?_)
            refine g_aload (q := 223) B dJ40_putTreeVal_221 rfl rfl (rv_r _) ?_
            refine g_getSM (v := va_rf (nx x)) (q := 226) B (ci := 25) (k := 2) (j := 5) in_J40 rfl dJ40_putTreeVal_223 rfl rfl (TNG.mem hw2 hx) (Nat.le_of_ble_eq_true rfl) q1690 q1691 rfl ?_
            refine g_astore (q := 228) (lv2 := [some (.ref root), some (.ref h), some (.ref tl), some (.int hh), some (.ref k), some (.ref v), some (.null), some (.int (nI 0)), some (.ref root), some (.null), some (.int (nI 1)), some (.int (hs x)), none, some (.ref x), some (va_rf (nx x)), none]) B dJ40_putTreeVal_226 rfl (Nat.le_of_ble_eq_true rfl) (rv_o _) rfl ?_
            refine g_aload_n (q := 229) B dJ40_putTreeVal_228 rfl rfl (rv_r _) ?_
            refine g_iload_n (q := 230) B dJ40_putTreeVal_229 rfl rfl ?_
            refine g_aload (q := 232) B dJ40_putTreeVal_230 rfl rfl (rv_r _) ?_
            refine g_aload (q := 234) B dJ40_putTreeVal_232 rfl rfl (rv_r _) ?_
            refine g_aload (q := 236) B dJ40_putTreeVal_234 rfl rfl (rv_o _) ?_
            refine g_callV (q := 239) (is := []) (kc2 := 0) (ks2 := 0) B [.int hh, .ref k, .ref v, va_rf (nx x)] (ct_J4_newTreeNode g J (h := h) (hh := hh) (k := k) (v := v) (x := nx x)  ) dJ40_putTreeVal_236 rfl (rc_at B (ci := 23) rfl (k := 0) rfl) rfl q1730 q1731 q1732 q83 q1733 rfl rfl moJ4_newTreeNode rfl rfl (by decide) (by decide) (Nat.le_of_ble_eq_true rfl) (Nat.le_of_ble_eq_true rfl) (Nat.le_of_ble_eq_true rfl) (fun _ _ hx => noX_x hx) (fun v236 L1 hp236 => ?_)
            obtain ⟨a236, rfl, rfl⟩ := hp236
            refine (show Go g κ 239 [some (.ref root), some (.ref h), some (.ref tl), some (.int hh), some (.ref k), some (.ref v), some (.null), some (.int (nI 0)), some (.ref root), some (.null), some (.int (nI 1)), some (.int (hs x)), none, some (.ref x), some (va_rf (nx x)), none] [.ref a236] [[(h, .inr (23, [.null, .null, va_rf otl, .null, .int (nI n), .int (nI md), .int (nI thr), .float lfac]))], [(tl, .inl (g.2.1 6, cap, .inr (.inr (.inr (.inr tab)))))], w2, [(a236, .inr (25, [.null, .null, .int hh, .ref k, .ref v, va_rf (nx x), .null, .null, .null, .null, .int (nI 0)]))]] 0 0 from ?_)
            refine g_astore (q := 241) (lv2 := [some (.ref root), some (.ref h), some (.ref tl), some (.int hh), some (.ref k), some (.ref v), some (.null), some (.int (nI 0)), some (.ref root), some (.null), some (.int (nI 1)), some (.int (hs x)), none, some (.ref x), some (va_rf (nx x)), some (.ref a236)]) B dJ40_putTreeVal_239 rfl (Nat.le_of_ble_eq_true rfl) (rv_r _) (by simp only [lst1, lclr_o]) ?_
            refine g_nin (wa := [(a236, .inr (25, [.null, .null, .int hh, .ref k, .ref v, va_rf (nx x), .null, .null, .null, .null, .int (nI 0)]))]) (wb := w2) 3 2 rfl List.mem_cons_self (fun hap => ?_)
            have hnn : a236 ∉ ns := fun hm => hap a236 _ (TNG.mem hw2 hm) rfl
            have hxm : x ≠ a236 := fun e => hnn (e ▸ hx)
            obtain ⟨wc_1, ewc_1⟩ : ∃ w : va_W, w = ([[(a236, .inr (25, [.null, .null, .int hh, .ref k, .ref v, va_rf (nx x), .null, .null, .null, .null, .int (nI 0)]))], w2] : List va_W).flatten := ⟨_, rfl⟩
            have hwc_1 : TNG g (a236 :: ns) (fup hs a236 hh) (fup ky a236 k) (fup vl a236 v) (fup nx a236 (nx x)) (fup pp a236 none) (fup lf a236 none) (fup rg a236 none) (fup pv a236 none) (fup rd a236 false) wc_1 := by
              rw [ewc_1]
              exact TNG.cons (x10 := false) hw2 hnn
            refine g_close (w := wc_1) [3, 2] rfl ewc_1 rfl ?_
            refine (show Go g κ 241 [some (.ref root), some (.ref h), some (.ref tl), some (.int hh), some (.ref k), some (.ref v), some (.null), some (.int (nI 0)), some (.ref root), some (.null), some (.int (nI 1)), some (.int (hs x)), none, some (.ref x), some (va_rf (nx x)), some (.ref a236)] [] [[(h, .inr (23, [.null, .null, va_rf otl, .null, .int (nI n), .int (nI md), .int (nI thr), .float lfac]))], [(tl, .inl (g.2.1 6, cap, .inr (.inr (.inr (.inr tab)))))], wc_1] 0 0 from ?_)
            obtain ⟨u0, v0, hcs⟩ := ins_spl ((hM x).mpr hx)
            subst hcs
            have hnm0 : a236 ∉ u0 ++ x :: v0 := fun e => hnn ((hM _).mp e)
            have hnx : nx x = v0.head? := ch_head (ch_at hC)
            refine g_iload (q := 243) B dJ40_putTreeVal_241 rfl rfl ?_
            refine g_if_gt (tgt := 256) (q := 246) B dJ40_putTreeVal_243 rfl (by decide) (iff_true_intro (by decide)) (fun _ => ?_) (fun z => absurd trivial z)
            refine g_aload (q := 258) B dJ40_putTreeVal_256 rfl rfl (rv_r _) ?_
            refine g_aload (q := 260) B dJ40_putTreeVal_258 rfl rfl (rv_r _) ?_
            refine g_putTNG8 (q := 263) (k := 2) (x := some a236) B hwc_1 (List.mem_cons_of_mem _ hx) dJ40_putTreeVal_260 rfl rfl q1744 (Or.inl rfl) (fun wa_2_260 hwa_2_260 => ?_)
            refine (show Go g κ 263 [some (.ref root), some (.ref h), some (.ref tl), some (.int hh), some (.ref k), some (.ref v), some (.null), some (.int (nI 0)), some (.ref root), some (.null), some (.int (nI 1)), some (.int (hs x)), none, some (.ref x), some (va_rf (nx x)), some (.ref a236)] [] [[(h, .inr (23, [.null, .null, va_rf otl, .null, .int (nI n), .int (nI md), .int (nI thr), .float lfac]))], [(tl, .inl (g.2.1 6, cap, .inr (.inr (.inr (.inr tab)))))], wa_2_260] 0 0 from ?_)
            refine g_aload (q := 265) B dJ40_putTreeVal_263 rfl rfl (rv_r _) ?_
            refine g_aload (q := 267) B dJ40_putTreeVal_265 rfl rfl (rv_r _) ?_
            refine g_putTNG5 (q := 270) (k := 2) (x := some a236) B hwa_2_260 (List.mem_cons_of_mem _ hx) dJ40_putTreeVal_267 rfl rfl q1690 (Or.inr q1691) (fun wa_3_267 hwa_3_267 => ?_)
            refine (show Go g κ 270 [some (.ref root), some (.ref h), some (.ref tl), some (.int hh), some (.ref k), some (.ref v), some (.null), some (.int (nI 0)), some (.ref root), some (.null), some (.int (nI 1)), some (.int (hs x)), none, some (.ref x), some (va_rf (nx x)), some (.ref a236)] [] [[(h, .inr (23, [.null, .null, va_rf otl, .null, .int (nI n), .int (nI md), .int (nI thr), .float lfac]))], [(tl, .inl (g.2.1 6, cap, .inr (.inr (.inr (.inr tab)))))], wa_3_267] 0 0 from ?_)
            refine g_aload (q := 272) B dJ40_putTreeVal_270 rfl rfl (rv_r _) ?_
            refine g_aload (q := 274) B dJ40_putTreeVal_272 rfl rfl (rv_r _) ?_
            refine g_aload (q := 276) B dJ40_putTreeVal_274 rfl rfl (rv_r _) ?_
            refine g_dup_x1 (q := 277) B dJ40_putTreeVal_276 rfl rfl rfl ?_
            refine g_putTNG9 (q := 280) (k := 2) (x := some x) B hwa_3_267 List.mem_cons_self dJ40_putTreeVal_277 rfl rfl q1745 (Or.inl rfl) (fun wa_4_277 hwa_4_277 => ?_)
            refine (show Go g κ 280 [some (.ref root), some (.ref h), some (.ref tl), some (.int hh), some (.ref k), some (.ref v), some (.null), some (.int (nI 0)), some (.ref root), some (.null), some (.int (nI 1)), some (.int (hs x)), none, some (.ref x), some (va_rf (nx x)), some (.ref a236)] [.ref x, .ref a236] [[(h, .inr (23, [.null, .null, va_rf otl, .null, .int (nI n), .int (nI md), .int (nI thr), .float lfac]))], [(tl, .inl (g.2.1 6, cap, .inr (.inr (.inr (.inr tab)))))], wa_4_277] 0 0 from ?_)
            refine g_putTNG6 (q := 283) (k := 2) (x := some x) B hwa_4_277 List.mem_cons_self dJ40_putTreeVal_280 rfl rfl q1742 (Or.inl rfl) (fun wa_5_280 hwa_5_280 => ?_)
            refine (show Go g κ 283 [some (.ref root), some (.ref h), some (.ref tl), some (.int hh), some (.ref k), some (.ref v), some (.null), some (.int (nI 0)), some (.ref root), some (.null), some (.int (nI 1)), some (.int (hs x)), none, some (.ref x), some (va_rf (nx x)), some (.ref a236)] [] [[(h, .inr (23, [.null, .null, va_rf otl, .null, .int (nI n), .int (nI md), .int (nI thr), .float lfac]))], [(tl, .inl (g.2.1 6, cap, .inr (.inr (.inr (.inr tab)))))], wa_5_280] 0 0 from ?_)
            refine g_aload (q := 285) B dJ40_putTreeVal_283 rfl rfl (rv_o _) ?_
            refine g_ifnull_o (tgt := 298) (q := 288) B dJ40_putTreeVal_285 rfl (by decide) (fun c285 => ?_) (fun nxx_a285 c285 => ?_)
            · skip
              rw [c285]
              refine (show Go g κ 298 [some (.ref root), some (.ref h), some (.ref tl), some (.int hh), some (.ref k), some (.ref v), some (.null), some (.int (nI 0)), some (.ref root), some (.null), some (.int (nI 1)), some (.int (hs x)), none, some (.ref x), some (.null), some (.ref a236)] [] [[(h, .inr (23, [.null, .null, va_rf otl, .null, .int (nI n), .int (nI md), .int (nI thr), .float lfac]))], [(tl, .inl (g.2.1 6, cap, .inr (.inr (.inr (.inr tab)))))], wa_5_280] 0 0 from ?_)
              refine g_aload_n (q := 299) B dJ40_putTreeVal_298 rfl rfl (rv_r _) ?_
              refine g_aload (q := 301) B dJ40_putTreeVal_299 rfl rfl (rv_r _) ?_
              have hfin : TNG g (a236 :: ns) (fup hs a236 hh) (fup ky a236 k) (fup vl a236 v) (fup (fup nx a236 (nx x)) x (some a236)) (fup pp a236 (some x)) (fup lf a236 none) (fup (fup rg a236 none) x (some a236)) (pvH (fup pv a236 (some x)) v0.head? (some a236)) (fup rd a236 false) wa_5_280 := TNG.congr hwa_5_280 (fun e he => by
                refine ⟨rfl, rfl, rfl, ?_, ?_, rfl, rfl, ?_, rfl⟩
                · first | rfl | (rw [c285])
                · rw [fup_fup]
                · rw [← hnx, c285]; first | (simp only [pvH, fup_fup]) | rfl)
              have hTn := tr_insR hT hnn hx c218 (by show hrk (hs x) < hrk hh; have := (not_congr hrk_le).mp c48; omega) hp.2.2
              rw [hk_fup] at hTn
              have hCn := ch_ins (x := a236) hC hN hnm0
              have hPn := pc_ins (x := a236) hP hN hnm0
              have hNn := nd_ins hN hnm0
              refine g_aload (q := 303) B dJ40_putTreeVal_301 rfl rfl (rv_r _) ?_
              refine g_callS (q := 306) (is := [2]) (kc2 := 0) (ks2 := 0) B [.ref root, .ref a236] (ct_J40_balanceInsertion g J (ns := (a236 :: ns)) (hs := (fup hs a236 hh)) (ky := (fup ky a236 k)) (vl := (fup vl a236 v)) (nx := (fup (fup nx a236 (nx x)) x (some a236))) (pp := (fup pp a236 (some x))) (lf := (fup lf a236 none)) (rg := (fup (fup rg a236 none) x (some a236))) (pv := (pvH (fup pv a236 (some x)) v0.head? (some a236))) (rd := (fup rd a236 false)) (key := (fun a => hrk (fup hs a236 hh a))) (lo := _) (hi := _) (root := root) (x := a236) hfin (hTn) (List.mem_cons_self)) dJ40_putTreeVal_303 rfl q1708 q1709 q131 q1710 rfl rfl moJ40_balanceInsertion rfl rfl (by decide) (by decide) (Nat.le_of_ble_eq_true rfl) (Nat.le_of_ble_eq_true rfl) (Nat.le_of_ble_eq_true rfl) (fun _ _ hx => noX_x hx) (fun v303 L1 hp303 => ?_)
              obtain ⟨root2303, lf2303, rg2303, pp2303, rd2303, lo2303, hi2303, u0_303, rfl, rfl, hu0_303, hT2_303⟩ := hp303
              refine (show Go g κ 306 [some (.ref root), some (.ref h), some (.ref tl), some (.int hh), some (.ref k), some (.ref v), some (.null), some (.int (nI 0)), some (.ref root), some (.null), some (.int (nI 1)), some (.int (hs x)), none, some (.ref x), some (.null), some (.ref a236)] [.ref root2303, .ref tl] [[(h, .inr (23, [.null, .null, va_rf otl, .null, .int (nI n), .int (nI md), .int (nI thr), .float lfac]))], [(tl, .inl (g.2.1 6, cap, .inr (.inr (.inr (.inr tab)))))], u0_303] 0 0 from ?_)
              refine g_callS (q := 309) (is := [1, 1]) (kc2 := 0) (ks2 := 0) B [.ref tl, .ref root2303] (ct_J40_moveRootToFront g J (tl := tl) (cap := cap) (tab := tab) (ix := ix) (cs := (u0 ++ x :: a236 :: v0)) (ns := (a236 :: ns)) (hs := (fup hs a236 hh)) (ky := (fup ky a236 k)) (vl := (fup vl a236 v)) (nx := (fup (fup nx a236 (nx x)) x (some a236))) (pp := pp2303) (lf := lf2303) (rg := rg2303) (pv := (pvH (fup pv a236 (some x)) v0.head? (some a236))) (rd := rd2303) (root := root2303) hu0_303 (by first | assumption | omega | rfl) (by first | assumption | omega | rfl) (by
                  have hz := tr_tm hT2_303 rfl
                  rcases List.mem_cons.mp hz with e | e
                  · rw [e, fup_s]; exact hixn
                  · rw [fup_n (fun (q : _ = a236) => hnn (q ▸ e))]; exact hix _ e) (by first | assumption | omega | rfl) (tr_tm hT2_303 rfl) (hCn) (hPn) (hNn.1) (fun a => by rw [hNn.2, List.mem_cons]; exact or_congr Iff.rfl (hM a))) dJ40_putTreeVal_306 rfl q1717 q1718 q131 q1719 rfl rfl moJ40_moveRootToFront rfl rfl (by decide) (by decide) (Nat.le_of_ble_eq_true rfl) (Nat.le_of_ble_eq_true rfl) (Nat.le_of_ble_eq_true rfl) (fun _ _ hx => noX_x hx) (fun v306 L1 hp306 => ?_)
              obtain ⟨nx2306, pv2306, u1_306, rfl, rfl, hu1_306, hC2_306⟩ := hp306
              refine (show Go g κ 309 [some (.ref root), some (.ref h), some (.ref tl), some (.int hh), some (.ref k), some (.ref v), some (.null), some (.int (nI 0)), some (.ref root), some (.null), some (.int (nI 1)), some (.int (hs x)), none, some (.ref x), some (.null), some (.ref a236)] [] [[(h, .inr (23, [.null, .null, va_rf otl, .null, .int (nI n), .int (nI md), .int (nI thr), .float lfac]))], [(tl, .inl (g.2.1 6, cap, .inr (.inr (.inr (.inr (va_up tab ix (some root2303)))))))], u1_306] 0 0 from ?_)
              have hrm : root2303 ∈ u0 ++ x :: a236 :: v0 := (hNn.2 _).mpr (by have hz := tr_tm hT2_303 rfl; rcases List.mem_cons.mp hz with e | e; exact Or.inl e; exact Or.inr ((hM _).mpr e))
              refine g_aconst_null (q := 310) B dJ40_putTreeVal_309 rfl ?_
              exact g_aret B E dJ40_putTreeVal_310 (by first | exact Or.inl ⟨_, rfl⟩ | exact Or.inr ⟨_, rfl⟩) rv_n (⟨a236, nx2306, pv2306, lf2303, rg2303, pp2303, rd2303, lo2303, hi2303, root2303, _, _, rfl, rfl, hu1_306, hnn, hT2_303, hC2_306.1, hC2_306.2, (nd_front hNn.1 hrm).1, fun a => ((nd_front hNn.1 hrm).2 a).trans (by rw [hNn.2, List.mem_cons]; exact or_congr Iff.rfl (hM a))⟩)
            · skip
              rw [c285]
              refine (show Go g κ 288 [some (.ref root), some (.ref h), some (.ref tl), some (.int hh), some (.ref k), some (.ref v), some (.null), some (.int (nI 0)), some (.ref root), some (.null), some (.int (nI 1)), some (.int (hs x)), none, some (.ref x), some (.ref nxx_a285), some (.ref a236)] [] [[(h, .inr (23, [.null, .null, va_rf otl, .null, .int (nI n), .int (nI md), .int (nI thr), .float lfac]))], [(tl, .inl (g.2.1 6, cap, .inr (.inr (.inr (.inr tab)))))], wa_5_280] 0 0 from ?_)
              have hyv : v0.head? = some nxx_a285 := by rw [← hnx]; exact c285
              have hyn : nxx_a285 ∈ ns := (hM nxx_a285).mp (by have := List.mem_of_mem_head? (show nxx_a285 ∈ v0.head? by rw [hyv]; rfl); simp [this])
              have hym : nxx_a285 ≠ a236 := fun e => hnn (e ▸ hyn)
              refine g_aload (q := 290) B dJ40_putTreeVal_288 rfl rfl (rv_r _) ?_
              refine g_castRS (ci := 25) (q := 293) B rfl (rc_in B (ci := 25) rfl (k := 2) rfl ⟨_, TNG.mem hwa_5_280 (List.mem_cons_of_mem _ hyn)⟩) dJ40_putTreeVal_290 rfl q1662 ?_
              refine g_aload (q := 295) B dJ40_putTreeVal_293 rfl rfl (rv_r _) ?_
              refine g_putTNG9 (q := 298) (k := 2) (x := some a236) B hwa_5_280 (List.mem_cons_of_mem _ hyn) dJ40_putTreeVal_295 rfl rfl q1745 (Or.inl rfl) (fun wa_6_295 hwa_6_295 => ?_)
              refine (show Go g κ 298 [some (.ref root), some (.ref h), some (.ref tl), some (.int hh), some (.ref k), some (.ref v), some (.null), some (.int (nI 0)), some (.ref root), some (.null), some (.int (nI 1)), some (.int (hs x)), none, some (.ref x), some (.ref nxx_a285), some (.ref a236)] [] [[(h, .inr (23, [.null, .null, va_rf otl, .null, .int (nI n), .int (nI md), .int (nI thr), .float lfac]))], [(tl, .inl (g.2.1 6, cap, .inr (.inr (.inr (.inr tab)))))], wa_6_295] 0 0 from ?_)
              refine g_aload_n (q := 299) B dJ40_putTreeVal_298 rfl rfl (rv_r _) ?_
              refine g_aload (q := 301) B dJ40_putTreeVal_299 rfl rfl (rv_r _) ?_
              have hfin : TNG g (a236 :: ns) (fup hs a236 hh) (fup ky a236 k) (fup vl a236 v) (fup (fup nx a236 (nx x)) x (some a236)) (fup pp a236 (some x)) (fup lf a236 none) (fup (fup rg a236 none) x (some a236)) (pvH (fup pv a236 (some x)) v0.head? (some a236)) (fup rd a236 false) wa_6_295 := TNG.congr hwa_6_295 (fun e he => by
                refine ⟨rfl, rfl, rfl, ?_, ?_, rfl, rfl, ?_, rfl⟩
                · first | rfl | (rw [c285])
                · rw [fup_fup]
                · rw [← hnx, c285]; first | (simp only [pvH, fup_fup]) | rfl)
              have hTn := tr_insR hT hnn hx c218 (by show hrk (hs x) < hrk hh; have := (not_congr hrk_le).mp c48; omega) hp.2.2
              rw [hk_fup] at hTn
              have hCn := ch_ins (x := a236) hC hN hnm0
              have hPn := pc_ins (x := a236) hP hN hnm0
              have hNn := nd_ins hN hnm0
              refine g_aload (q := 303) B dJ40_putTreeVal_301 rfl rfl (rv_r _) ?_
              refine g_callS (q := 306) (is := [2]) (kc2 := 0) (ks2 := 0) B [.ref root, .ref a236] (ct_J40_balanceInsertion g J (ns := (a236 :: ns)) (hs := (fup hs a236 hh)) (ky := (fup ky a236 k)) (vl := (fup vl a236 v)) (nx := (fup (fup nx a236 (nx x)) x (some a236))) (pp := (fup pp a236 (some x))) (lf := (fup lf a236 none)) (rg := (fup (fup rg a236 none) x (some a236))) (pv := (pvH (fup pv a236 (some x)) v0.head? (some a236))) (rd := (fup rd a236 false)) (key := (fun a => hrk (fup hs a236 hh a))) (lo := _) (hi := _) (root := root) (x := a236) hfin (hTn) (List.mem_cons_self)) dJ40_putTreeVal_303 rfl q1708 q1709 q131 q1710 rfl rfl moJ40_balanceInsertion rfl rfl (by decide) (by decide) (Nat.le_of_ble_eq_true rfl) (Nat.le_of_ble_eq_true rfl) (Nat.le_of_ble_eq_true rfl) (fun _ _ hx => noX_x hx) (fun v303 L1 hp303 => ?_)
              obtain ⟨root2303, lf2303, rg2303, pp2303, rd2303, lo2303, hi2303, u0_303, rfl, rfl, hu0_303, hT2_303⟩ := hp303
              refine (show Go g κ 306 [some (.ref root), some (.ref h), some (.ref tl), some (.int hh), some (.ref k), some (.ref v), some (.null), some (.int (nI 0)), some (.ref root), some (.null), some (.int (nI 1)), some (.int (hs x)), none, some (.ref x), some (.ref nxx_a285), some (.ref a236)] [.ref root2303, .ref tl] [[(h, .inr (23, [.null, .null, va_rf otl, .null, .int (nI n), .int (nI md), .int (nI thr), .float lfac]))], [(tl, .inl (g.2.1 6, cap, .inr (.inr (.inr (.inr tab)))))], u0_303] 0 0 from ?_)
              refine g_callS (q := 309) (is := [1, 1]) (kc2 := 0) (ks2 := 0) B [.ref tl, .ref root2303] (ct_J40_moveRootToFront g J (tl := tl) (cap := cap) (tab := tab) (ix := ix) (cs := (u0 ++ x :: a236 :: v0)) (ns := (a236 :: ns)) (hs := (fup hs a236 hh)) (ky := (fup ky a236 k)) (vl := (fup vl a236 v)) (nx := (fup (fup nx a236 (nx x)) x (some a236))) (pp := pp2303) (lf := lf2303) (rg := rg2303) (pv := (pvH (fup pv a236 (some x)) v0.head? (some a236))) (rd := rd2303) (root := root2303) hu0_303 (by first | assumption | omega | rfl) (by first | assumption | omega | rfl) (by
                  have hz := tr_tm hT2_303 rfl
                  rcases List.mem_cons.mp hz with e | e
                  · rw [e, fup_s]; exact hixn
                  · rw [fup_n (fun (q : _ = a236) => hnn (q ▸ e))]; exact hix _ e) (by first | assumption | omega | rfl) (tr_tm hT2_303 rfl) (hCn) (hPn) (hNn.1) (fun a => by rw [hNn.2, List.mem_cons]; exact or_congr Iff.rfl (hM a))) dJ40_putTreeVal_306 rfl q1717 q1718 q131 q1719 rfl rfl moJ40_moveRootToFront rfl rfl (by decide) (by decide) (Nat.le_of_ble_eq_true rfl) (Nat.le_of_ble_eq_true rfl) (Nat.le_of_ble_eq_true rfl) (fun _ _ hx => noX_x hx) (fun v306 L1 hp306 => ?_)
              obtain ⟨nx2306, pv2306, u1_306, rfl, rfl, hu1_306, hC2_306⟩ := hp306
              refine (show Go g κ 309 [some (.ref root), some (.ref h), some (.ref tl), some (.int hh), some (.ref k), some (.ref v), some (.null), some (.int (nI 0)), some (.ref root), some (.null), some (.int (nI 1)), some (.int (hs x)), none, some (.ref x), some (.ref nxx_a285), some (.ref a236)] [] [[(h, .inr (23, [.null, .null, va_rf otl, .null, .int (nI n), .int (nI md), .int (nI thr), .float lfac]))], [(tl, .inl (g.2.1 6, cap, .inr (.inr (.inr (.inr (va_up tab ix (some root2303)))))))], u1_306] 0 0 from ?_)
              have hrm : root2303 ∈ u0 ++ x :: a236 :: v0 := (hNn.2 _).mpr (by have hz := tr_tm hT2_303 rfl; rcases List.mem_cons.mp hz with e | e; exact Or.inl e; exact Or.inr ((hM _).mpr e))
              refine g_aconst_null (q := 310) B dJ40_putTreeVal_309 rfl ?_
              exact g_aret B E dJ40_putTreeVal_310 (by first | exact Or.inl ⟨_, rfl⟩ | exact Or.inr ⟨_, rfl⟩) rv_n (⟨a236, nx2306, pv2306, lf2303, rg2303, pp2303, rd2303, lo2303, hi2303, root2303, _, _, rfl, rfl, hu1_306, hnn, hT2_303, hC2_306.1, hC2_306.2, (nd_front hNn.1 hrm).1, fun a => ((nd_front hNn.1 hrm).2 a).trans (by rw [hNn.2, List.mem_cons]; exact or_congr Iff.rfl (hM a))⟩)
      · skip
        refine g_iconst (v := -1) (q := 40) B dJ40_putTreeVal_39 rfl (by decide) ?_
        refine g_istore (q := 42) (lv2 := [some (.ref root), some (.ref h), some (.ref tl), some (.int hh), some (.ref k), some (.ref v), some (.null), some (.int (nI 0)), some (.ref root), some (.ref x), some (.int (-1)), some (.int (hs x)), none, none, none, none]) B dJ40_putTreeVal_40 rfl (Nat.le_of_ble_eq_true rfl) rfl ?_
        refine g_goto (tgt := 193) B dJ40_putTreeVal_42 (by decide) ?_
        refine g_aload (q := 195) B dJ40_putTreeVal_193 rfl rfl (rv_r _) ?_
        refine g_astore (q := 197) (lv2 := [some (.ref root), some (.ref h), some (.ref tl), some (.int hh), some (.ref k), some (.ref v), some (.null), some (.int (nI 0)), some (.ref root), some (.ref x), some (.int (-1)), some (.int (hs x)), none, some (.ref x), none, none]) B dJ40_putTreeVal_195 rfl (Nat.le_of_ble_eq_true rfl) (rv_r _) rfl ?_
        refine g_iload (q := 199) B dJ40_putTreeVal_197 rfl rfl ?_
        refine g_if_gt (tgt := 210) (q := 202) B dJ40_putTreeVal_199 rfl (by decide) (iff_false_intro (by decide)) (fun z => z.elim) (fun _ => ?_)
        refine g_aload (q := 204) B dJ40_putTreeVal_202 rfl rfl (rv_r _) ?_
        refine g_getM (v := va_rf (lf x)) (q := 207) B (ci := 25) (k := 2) (j := 7) in_J40 rfl dJ40_putTreeVal_204 rfl rfl (TNG.mem hw2 hx) (Nat.le_of_ble_eq_true rfl) q1743 rfl rfl ?_
        refine g_goto (tgt := 215) B dJ40_putTreeVal_207 (by decide) ?_
        refine g_dup (q := 216) B dJ40_putTreeVal_215 rfl (rv_c (rv_o _)) ?_
        refine g_astore (q := 218) (lv2 := [some (.ref root), some (.ref h), some (.ref tl), some (.int hh), some (.ref k), some (.ref v), some (.null), some (.int (nI 0)), some (.ref root), some (va_rf (lf x)), some (.int (-1)), some (.int (hs x)), none, some (.ref x), none, none]) B dJ40_putTreeVal_216 rfl (Nat.le_of_ble_eq_true rfl) (rv_o _) rfl ?_
        refine g_ifnonnull_o (tgt := 311) (q := 221) B dJ40_putTreeVal_218 rfl (by decide) (fun lfx_a218 c218 => ?_) (fun c218 => ?_)
        · skip
          rw [c218]
          refine (show Go g κ 311 [some (.ref root), some (.ref h), some (.ref tl), some (.int hh), some (.ref k), some (.ref v), some (.null), some (.int (nI 0)), some (.ref root), some (.ref lfx_a218), some (.int (-1)), some (.int (hs x)), none, some (.ref x), none, none] [] [[(h, .inr (23, [.null, .null, va_rf otl, .null, .int (nI n), .int (nI md), .int (nI thr), .float lfac]))], [(tl, .inl (g.2.1 6, cap, .inr (.inr (.inr (.inr tab)))))], w2] 1 11 from ?_)
          refine g_goto (tgt := 27) B dJ40_putTreeVal_311 (by decide) ?_
          refine g_fg 10 rfl ?_
          refine g_fg 11 rfl ?_
          refine g_fg 13 rfl ?_
          exact ih27 _ (by rw [← hmu27, ← c218]; first | exact wid_l hT hx | exact wid_r hT hx) lfx_a218 (tr_lm hT hx c218) (by have z := hT.2.2.2.1 x hx _ c218; have z2 := (not_congr hrk_le).mp c36; exact ⟨z.1, by rw [z.2.2.1]; exact hp.2.1, by rw [z.2.2.2]; show hrk hh < hrk (hs x); omega⟩) rfl
        · skip
          rw [c218]
          refine (show Go g κ 221 [some (.ref root), some (.ref h), some (.ref tl), some (.int hh), some (.ref k), some (.ref v), some (.null), some (.int (nI 0)), some (.ref root), some (.null), some (.int (-1)), some (.int (hs x)), none, some (.ref x), none, none] [] [[(h, .inr (23, [.null, .null, va_rf otl, .null, .int (nI n), .int (nI md), .int (nI thr), .float lfac]))], [(tl, .inl (g.2.1 6, cap, .inr (.inr (.inr (.inr tab)))))], w2] 1 11 from ?_)
          refine g_aload (q := 223) B dJ40_putTreeVal_221 rfl rfl (rv_r _) ?_
          refine g_getSM (v := va_rf (nx x)) (q := 226) B (ci := 25) (k := 2) (j := 5) in_J40 rfl dJ40_putTreeVal_223 rfl rfl (TNG.mem hw2 hx) (Nat.le_of_ble_eq_true rfl) q1690 q1691 rfl ?_
          refine g_astore (q := 228) (lv2 := [some (.ref root), some (.ref h), some (.ref tl), some (.int hh), some (.ref k), some (.ref v), some (.null), some (.int (nI 0)), some (.ref root), some (.null), some (.int (-1)), some (.int (hs x)), none, some (.ref x), some (va_rf (nx x)), none]) B dJ40_putTreeVal_226 rfl (Nat.le_of_ble_eq_true rfl) (rv_o _) rfl ?_
          refine g_aload_n (q := 229) B dJ40_putTreeVal_228 rfl rfl (rv_r _) ?_
          refine g_iload_n (q := 230) B dJ40_putTreeVal_229 rfl rfl ?_
          refine g_aload (q := 232) B dJ40_putTreeVal_230 rfl rfl (rv_r _) ?_
          refine g_aload (q := 234) B dJ40_putTreeVal_232 rfl rfl (rv_r _) ?_
          refine g_aload (q := 236) B dJ40_putTreeVal_234 rfl rfl (rv_o _) ?_
          refine g_callV (q := 239) (is := []) (kc2 := 0) (ks2 := 0) B [.int hh, .ref k, .ref v, va_rf (nx x)] (ct_J4_newTreeNode g J (h := h) (hh := hh) (k := k) (v := v) (x := nx x)  ) dJ40_putTreeVal_236 rfl (rc_at B (ci := 23) rfl (k := 0) rfl) rfl q1730 q1731 q1732 q83 q1733 rfl rfl moJ4_newTreeNode rfl rfl (by decide) (by decide) (Nat.le_of_ble_eq_true rfl) (Nat.le_of_ble_eq_true rfl) (Nat.le_of_ble_eq_true rfl) (fun _ _ hx => noX_x hx) (fun v236 L1 hp236 => ?_)
          obtain ⟨a236, rfl, rfl⟩ := hp236
          refine (show Go g κ 239 [some (.ref root), some (.ref h), some (.ref tl), some (.int hh), some (.ref k), some (.ref v), some (.null), some (.int (nI 0)), some (.ref root), some (.null), some (.int (-1)), some (.int (hs x)), none, some (.ref x), some (va_rf (nx x)), none] [.ref a236] [[(h, .inr (23, [.null, .null, va_rf otl, .null, .int (nI n), .int (nI md), .int (nI thr), .float lfac]))], [(tl, .inl (g.2.1 6, cap, .inr (.inr (.inr (.inr tab)))))], w2, [(a236, .inr (25, [.null, .null, .int hh, .ref k, .ref v, va_rf (nx x), .null, .null, .null, .null, .int (nI 0)]))]] 0 0 from ?_)
          refine g_astore (q := 241) (lv2 := [some (.ref root), some (.ref h), some (.ref tl), some (.int hh), some (.ref k), some (.ref v), some (.null), some (.int (nI 0)), some (.ref root), some (.null), some (.int (-1)), some (.int (hs x)), none, some (.ref x), some (va_rf (nx x)), some (.ref a236)]) B dJ40_putTreeVal_239 rfl (Nat.le_of_ble_eq_true rfl) (rv_r _) (by simp only [lst1, lclr_o]) ?_
          refine g_nin (wa := [(a236, .inr (25, [.null, .null, .int hh, .ref k, .ref v, va_rf (nx x), .null, .null, .null, .null, .int (nI 0)]))]) (wb := w2) 3 2 rfl List.mem_cons_self (fun hap => ?_)
          have hnn : a236 ∉ ns := fun hm => hap a236 _ (TNG.mem hw2 hm) rfl
          have hxm : x ≠ a236 := fun e => hnn (e ▸ hx)
          obtain ⟨wc_7, ewc_7⟩ : ∃ w : va_W, w = ([[(a236, .inr (25, [.null, .null, .int hh, .ref k, .ref v, va_rf (nx x), .null, .null, .null, .null, .int (nI 0)]))], w2] : List va_W).flatten := ⟨_, rfl⟩
          have hwc_7 : TNG g (a236 :: ns) (fup hs a236 hh) (fup ky a236 k) (fup vl a236 v) (fup nx a236 (nx x)) (fup pp a236 none) (fup lf a236 none) (fup rg a236 none) (fup pv a236 none) (fup rd a236 false) wc_7 := by
            rw [ewc_7]
            exact TNG.cons (x10 := false) hw2 hnn
          refine g_close (w := wc_7) [3, 2] rfl ewc_7 rfl ?_
          refine (show Go g κ 241 [some (.ref root), some (.ref h), some (.ref tl), some (.int hh), some (.ref k), some (.ref v), some (.null), some (.int (nI 0)), some (.ref root), some (.null), some (.int (-1)), some (.int (hs x)), none, some (.ref x), some (va_rf (nx x)), some (.ref a236)] [] [[(h, .inr (23, [.null, .null, va_rf otl, .null, .int (nI n), .int (nI md), .int (nI thr), .float lfac]))], [(tl, .inl (g.2.1 6, cap, .inr (.inr (.inr (.inr tab)))))], wc_7] 0 0 from ?_)
          obtain ⟨u0, v0, hcs⟩ := ins_spl ((hM x).mpr hx)
          subst hcs
          have hnm0 : a236 ∉ u0 ++ x :: v0 := fun e => hnn ((hM _).mp e)
          have hnx : nx x = v0.head? := ch_head (ch_at hC)
          refine g_iload (q := 243) B dJ40_putTreeVal_241 rfl rfl ?_
          refine g_if_gt (tgt := 256) (q := 246) B dJ40_putTreeVal_243 rfl (by decide) (iff_false_intro (by decide)) (fun z => z.elim) (fun _ => ?_)
          refine g_aload (q := 248) B dJ40_putTreeVal_246 rfl rfl (rv_r _) ?_
          refine g_aload (q := 250) B dJ40_putTreeVal_248 rfl rfl (rv_r _) ?_
          refine g_putTNG7 (q := 253) (k := 2) (x := some a236) B hwc_7 (List.mem_cons_of_mem _ hx) dJ40_putTreeVal_250 rfl rfl q1743 (Or.inl rfl) (fun wa_8_250 hwa_8_250 => ?_)
          refine (show Go g κ 253 [some (.ref root), some (.ref h), some (.ref tl), some (.int hh), some (.ref k), some (.ref v), some (.null), some (.int (nI 0)), some (.ref root), some (.null), some (.int (-1)), some (.int (hs x)), none, some (.ref x), some (va_rf (nx x)), some (.ref a236)] [] [[(h, .inr (23, [.null, .null, va_rf otl, .null, .int (nI n), .int (nI md), .int (nI thr), .float lfac]))], [(tl, .inl (g.2.1 6, cap, .inr (.inr (.inr (.inr tab)))))], wa_8_250] 0 0 from ?_)
          refine g_goto (tgt := 263) B dJ40_putTreeVal_253 (by decide) ?_
          refine g_aload (q := 265) B dJ40_putTreeVal_263 rfl rfl (rv_r _) ?_
          refine g_aload (q := 267) B dJ40_putTreeVal_265 rfl rfl (rv_r _) ?_
          refine g_putTNG5 (q := 270) (k := 2) (x := some a236) B hwa_8_250 (List.mem_cons_of_mem _ hx) dJ40_putTreeVal_267 rfl rfl q1690 (Or.inr q1691) (fun wa_9_267 hwa_9_267 => ?_)
          refine (show Go g κ 270 [some (.ref root), some (.ref h), some (.ref tl), some (.int hh), some (.ref k), some (.ref v), some (.null), some (.int (nI 0)), some (.ref root), some (.null), some (.int (-1)), some (.int (hs x)), none, some (.ref x), some (va_rf (nx x)), some (.ref a236)] [] [[(h, .inr (23, [.null, .null, va_rf otl, .null, .int (nI n), .int (nI md), .int (nI thr), .float lfac]))], [(tl, .inl (g.2.1 6, cap, .inr (.inr (.inr (.inr tab)))))], wa_9_267] 0 0 from ?_)
          refine g_aload (q := 272) B dJ40_putTreeVal_270 rfl rfl (rv_r _) ?_
          refine g_aload (q := 274) B dJ40_putTreeVal_272 rfl rfl (rv_r _) ?_
          refine g_aload (q := 276) B dJ40_putTreeVal_274 rfl rfl (rv_r _) ?_
          refine g_dup_x1 (q := 277) B dJ40_putTreeVal_276 rfl rfl rfl ?_
          refine g_putTNG9 (q := 280) (k := 2) (x := some x) B hwa_9_267 List.mem_cons_self dJ40_putTreeVal_277 rfl rfl q1745 (Or.inl rfl) (fun wa_10_277 hwa_10_277 => ?_)
          refine (show Go g κ 280 [some (.ref root), some (.ref h), some (.ref tl), some (.int hh), some (.ref k), some (.ref v), some (.null), some (.int (nI 0)), some (.ref root), some (.null), some (.int (-1)), some (.int (hs x)), none, some (.ref x), some (va_rf (nx x)), some (.ref a236)] [.ref x, .ref a236] [[(h, .inr (23, [.null, .null, va_rf otl, .null, .int (nI n), .int (nI md), .int (nI thr), .float lfac]))], [(tl, .inl (g.2.1 6, cap, .inr (.inr (.inr (.inr tab)))))], wa_10_277] 0 0 from ?_)
          refine g_putTNG6 (q := 283) (k := 2) (x := some x) B hwa_10_277 List.mem_cons_self dJ40_putTreeVal_280 rfl rfl q1742 (Or.inl rfl) (fun wa_11_280 hwa_11_280 => ?_)
          refine (show Go g κ 283 [some (.ref root), some (.ref h), some (.ref tl), some (.int hh), some (.ref k), some (.ref v), some (.null), some (.int (nI 0)), some (.ref root), some (.null), some (.int (-1)), some (.int (hs x)), none, some (.ref x), some (va_rf (nx x)), some (.ref a236)] [] [[(h, .inr (23, [.null, .null, va_rf otl, .null, .int (nI n), .int (nI md), .int (nI thr), .float lfac]))], [(tl, .inl (g.2.1 6, cap, .inr (.inr (.inr (.inr tab)))))], wa_11_280] 0 0 from ?_)
          refine g_aload (q := 285) B dJ40_putTreeVal_283 rfl rfl (rv_o _) ?_
          refine g_ifnull_o (tgt := 298) (q := 288) B dJ40_putTreeVal_285 rfl (by decide) (fun c285 => ?_) (fun nxx_a285 c285 => ?_)
          · skip
            rw [c285]
            refine (show Go g κ 298 [some (.ref root), some (.ref h), some (.ref tl), some (.int hh), some (.ref k), some (.ref v), some (.null), some (.int (nI 0)), some (.ref root), some (.null), some (.int (-1)), some (.int (hs x)), none, some (.ref x), some (.null), some (.ref a236)] [] [[(h, .inr (23, [.null, .null, va_rf otl, .null, .int (nI n), .int (nI md), .int (nI thr), .float lfac]))], [(tl, .inl (g.2.1 6, cap, .inr (.inr (.inr (.inr tab)))))], wa_11_280] 0 0 from ?_)
            refine g_aload_n (q := 299) B dJ40_putTreeVal_298 rfl rfl (rv_r _) ?_
            refine g_aload (q := 301) B dJ40_putTreeVal_299 rfl rfl (rv_r _) ?_
            have hfin : TNG g (a236 :: ns) (fup hs a236 hh) (fup ky a236 k) (fup vl a236 v) (fup (fup nx a236 (nx x)) x (some a236)) (fup pp a236 (some x)) (fup (fup lf a236 none) x (some a236)) (fup rg a236 none) (pvH (fup pv a236 (some x)) v0.head? (some a236)) (fup rd a236 false) wa_11_280 := TNG.congr hwa_11_280 (fun e he => by
              refine ⟨rfl, rfl, rfl, ?_, ?_, rfl, rfl, ?_, rfl⟩
              · first | rfl | (rw [c285])
              · rw [fup_fup]
              · rw [← hnx, c285]; first | (simp only [pvH, fup_fup]) | rfl)
            have hTn := tr_insL hT hnn hx c218 hp.2.1 (by show hrk hh < hrk (hs x); have := (not_congr hrk_le).mp c36; omega)
            rw [hk_fup] at hTn
            have hCn := ch_ins (x := a236) hC hN hnm0
            have hPn := pc_ins (x := a236) hP hN hnm0
            have hNn := nd_ins hN hnm0
            refine g_aload (q := 303) B dJ40_putTreeVal_301 rfl rfl (rv_r _) ?_
            refine g_callS (q := 306) (is := [2]) (kc2 := 0) (ks2 := 0) B [.ref root, .ref a236] (ct_J40_balanceInsertion g J (ns := (a236 :: ns)) (hs := (fup hs a236 hh)) (ky := (fup ky a236 k)) (vl := (fup vl a236 v)) (nx := (fup (fup nx a236 (nx x)) x (some a236))) (pp := (fup pp a236 (some x))) (lf := (fup (fup lf a236 none) x (some a236))) (rg := (fup rg a236 none)) (pv := (pvH (fup pv a236 (some x)) v0.head? (some a236))) (rd := (fup rd a236 false)) (key := (fun a => hrk (fup hs a236 hh a))) (lo := _) (hi := _) (root := root) (x := a236) hfin (hTn) (List.mem_cons_self)) dJ40_putTreeVal_303 rfl q1708 q1709 q131 q1710 rfl rfl moJ40_balanceInsertion rfl rfl (by decide) (by decide) (Nat.le_of_ble_eq_true rfl) (Nat.le_of_ble_eq_true rfl) (Nat.le_of_ble_eq_true rfl) (fun _ _ hx => noX_x hx) (fun v303 L1 hp303 => ?_)
            obtain ⟨root2303, lf2303, rg2303, pp2303, rd2303, lo2303, hi2303, u0_303, rfl, rfl, hu0_303, hT2_303⟩ := hp303
            refine (show Go g κ 306 [some (.ref root), some (.ref h), some (.ref tl), some (.int hh), some (.ref k), some (.ref v), some (.null), some (.int (nI 0)), some (.ref root), some (.null), some (.int (-1)), some (.int (hs x)), none, some (.ref x), some (.null), some (.ref a236)] [.ref root2303, .ref tl] [[(h, .inr (23, [.null, .null, va_rf otl, .null, .int (nI n), .int (nI md), .int (nI thr), .float lfac]))], [(tl, .inl (g.2.1 6, cap, .inr (.inr (.inr (.inr tab)))))], u0_303] 0 0 from ?_)
            refine g_callS (q := 309) (is := [1, 1]) (kc2 := 0) (ks2 := 0) B [.ref tl, .ref root2303] (ct_J40_moveRootToFront g J (tl := tl) (cap := cap) (tab := tab) (ix := ix) (cs := (u0 ++ x :: a236 :: v0)) (ns := (a236 :: ns)) (hs := (fup hs a236 hh)) (ky := (fup ky a236 k)) (vl := (fup vl a236 v)) (nx := (fup (fup nx a236 (nx x)) x (some a236))) (pp := pp2303) (lf := lf2303) (rg := rg2303) (pv := (pvH (fup pv a236 (some x)) v0.head? (some a236))) (rd := rd2303) (root := root2303) hu0_303 (by first | assumption | omega | rfl) (by first | assumption | omega | rfl) (by
                have hz := tr_tm hT2_303 rfl
                rcases List.mem_cons.mp hz with e | e
                · rw [e, fup_s]; exact hixn
                · rw [fup_n (fun (q : _ = a236) => hnn (q ▸ e))]; exact hix _ e) (by first | assumption | omega | rfl) (tr_tm hT2_303 rfl) (hCn) (hPn) (hNn.1) (fun a => by rw [hNn.2, List.mem_cons]; exact or_congr Iff.rfl (hM a))) dJ40_putTreeVal_306 rfl q1717 q1718 q131 q1719 rfl rfl moJ40_moveRootToFront rfl rfl (by decide) (by decide) (Nat.le_of_ble_eq_true rfl) (Nat.le_of_ble_eq_true rfl) (Nat.le_of_ble_eq_true rfl) (fun _ _ hx => noX_x hx) (fun v306 L1 hp306 => ?_)
            obtain ⟨nx2306, pv2306, u1_306, rfl, rfl, hu1_306, hC2_306⟩ := hp306
            refine (show Go g κ 309 [some (.ref root), some (.ref h), some (.ref tl), some (.int hh), some (.ref k), some (.ref v), some (.null), some (.int (nI 0)), some (.ref root), some (.null), some (.int (-1)), some (.int (hs x)), none, some (.ref x), some (.null), some (.ref a236)] [] [[(h, .inr (23, [.null, .null, va_rf otl, .null, .int (nI n), .int (nI md), .int (nI thr), .float lfac]))], [(tl, .inl (g.2.1 6, cap, .inr (.inr (.inr (.inr (va_up tab ix (some root2303)))))))], u1_306] 0 0 from ?_)
            have hrm : root2303 ∈ u0 ++ x :: a236 :: v0 := (hNn.2 _).mpr (by have hz := tr_tm hT2_303 rfl; rcases List.mem_cons.mp hz with e | e; exact Or.inl e; exact Or.inr ((hM _).mpr e))
            refine g_aconst_null (q := 310) B dJ40_putTreeVal_309 rfl ?_
            exact g_aret B E dJ40_putTreeVal_310 (by first | exact Or.inl ⟨_, rfl⟩ | exact Or.inr ⟨_, rfl⟩) rv_n (⟨a236, nx2306, pv2306, lf2303, rg2303, pp2303, rd2303, lo2303, hi2303, root2303, _, _, rfl, rfl, hu1_306, hnn, hT2_303, hC2_306.1, hC2_306.2, (nd_front hNn.1 hrm).1, fun a => ((nd_front hNn.1 hrm).2 a).trans (by rw [hNn.2, List.mem_cons]; exact or_congr Iff.rfl (hM a))⟩)
          · skip
            rw [c285]
            refine (show Go g κ 288 [some (.ref root), some (.ref h), some (.ref tl), some (.int hh), some (.ref k), some (.ref v), some (.null), some (.int (nI 0)), some (.ref root), some (.null), some (.int (-1)), some (.int (hs x)), none, some (.ref x), some (.ref nxx_a285), some (.ref a236)] [] [[(h, .inr (23, [.null, .null, va_rf otl, .null, .int (nI n), .int (nI md), .int (nI thr), .float lfac]))], [(tl, .inl (g.2.1 6, cap, .inr (.inr (.inr (.inr tab)))))], wa_11_280] 0 0 from ?_)
            have hyv : v0.head? = some nxx_a285 := by rw [← hnx]; exact c285
            have hyn : nxx_a285 ∈ ns := (hM nxx_a285).mp (by have := List.mem_of_mem_head? (show nxx_a285 ∈ v0.head? by rw [hyv]; rfl); simp [this])
            have hym : nxx_a285 ≠ a236 := fun e => hnn (e ▸ hyn)
            refine g_aload (q := 290) B dJ40_putTreeVal_288 rfl rfl (rv_r _) ?_
            refine g_castRS (ci := 25) (q := 293) B rfl (rc_in B (ci := 25) rfl (k := 2) rfl ⟨_, TNG.mem hwa_11_280 (List.mem_cons_of_mem _ hyn)⟩) dJ40_putTreeVal_290 rfl q1662 ?_
            refine g_aload (q := 295) B dJ40_putTreeVal_293 rfl rfl (rv_r _) ?_
            refine g_putTNG9 (q := 298) (k := 2) (x := some a236) B hwa_11_280 (List.mem_cons_of_mem _ hyn) dJ40_putTreeVal_295 rfl rfl q1745 (Or.inl rfl) (fun wa_12_295 hwa_12_295 => ?_)
            refine (show Go g κ 298 [some (.ref root), some (.ref h), some (.ref tl), some (.int hh), some (.ref k), some (.ref v), some (.null), some (.int (nI 0)), some (.ref root), some (.null), some (.int (-1)), some (.int (hs x)), none, some (.ref x), some (.ref nxx_a285), some (.ref a236)] [] [[(h, .inr (23, [.null, .null, va_rf otl, .null, .int (nI n), .int (nI md), .int (nI thr), .float lfac]))], [(tl, .inl (g.2.1 6, cap, .inr (.inr (.inr (.inr tab)))))], wa_12_295] 0 0 from ?_)
            refine g_aload_n (q := 299) B dJ40_putTreeVal_298 rfl rfl (rv_r _) ?_
            refine g_aload (q := 301) B dJ40_putTreeVal_299 rfl rfl (rv_r _) ?_
            have hfin : TNG g (a236 :: ns) (fup hs a236 hh) (fup ky a236 k) (fup vl a236 v) (fup (fup nx a236 (nx x)) x (some a236)) (fup pp a236 (some x)) (fup (fup lf a236 none) x (some a236)) (fup rg a236 none) (pvH (fup pv a236 (some x)) v0.head? (some a236)) (fup rd a236 false) wa_12_295 := TNG.congr hwa_12_295 (fun e he => by
              refine ⟨rfl, rfl, rfl, ?_, ?_, rfl, rfl, ?_, rfl⟩
              · first | rfl | (rw [c285])
              · rw [fup_fup]
              · rw [← hnx, c285]; first | (simp only [pvH, fup_fup]) | rfl)
            have hTn := tr_insL hT hnn hx c218 hp.2.1 (by show hrk hh < hrk (hs x); have := (not_congr hrk_le).mp c36; omega)
            rw [hk_fup] at hTn
            have hCn := ch_ins (x := a236) hC hN hnm0
            have hPn := pc_ins (x := a236) hP hN hnm0
            have hNn := nd_ins hN hnm0
            refine g_aload (q := 303) B dJ40_putTreeVal_301 rfl rfl (rv_r _) ?_
            refine g_callS (q := 306) (is := [2]) (kc2 := 0) (ks2 := 0) B [.ref root, .ref a236] (ct_J40_balanceInsertion g J (ns := (a236 :: ns)) (hs := (fup hs a236 hh)) (ky := (fup ky a236 k)) (vl := (fup vl a236 v)) (nx := (fup (fup nx a236 (nx x)) x (some a236))) (pp := (fup pp a236 (some x))) (lf := (fup (fup lf a236 none) x (some a236))) (rg := (fup rg a236 none)) (pv := (pvH (fup pv a236 (some x)) v0.head? (some a236))) (rd := (fup rd a236 false)) (key := (fun a => hrk (fup hs a236 hh a))) (lo := _) (hi := _) (root := root) (x := a236) hfin (hTn) (List.mem_cons_self)) dJ40_putTreeVal_303 rfl q1708 q1709 q131 q1710 rfl rfl moJ40_balanceInsertion rfl rfl (by decide) (by decide) (Nat.le_of_ble_eq_true rfl) (Nat.le_of_ble_eq_true rfl) (Nat.le_of_ble_eq_true rfl) (fun _ _ hx => noX_x hx) (fun v303 L1 hp303 => ?_)
            obtain ⟨root2303, lf2303, rg2303, pp2303, rd2303, lo2303, hi2303, u0_303, rfl, rfl, hu0_303, hT2_303⟩ := hp303
            refine (show Go g κ 306 [some (.ref root), some (.ref h), some (.ref tl), some (.int hh), some (.ref k), some (.ref v), some (.null), some (.int (nI 0)), some (.ref root), some (.null), some (.int (-1)), some (.int (hs x)), none, some (.ref x), some (.ref nxx_a285), some (.ref a236)] [.ref root2303, .ref tl] [[(h, .inr (23, [.null, .null, va_rf otl, .null, .int (nI n), .int (nI md), .int (nI thr), .float lfac]))], [(tl, .inl (g.2.1 6, cap, .inr (.inr (.inr (.inr tab)))))], u0_303] 0 0 from ?_)
            refine g_callS (q := 309) (is := [1, 1]) (kc2 := 0) (ks2 := 0) B [.ref tl, .ref root2303] (ct_J40_moveRootToFront g J (tl := tl) (cap := cap) (tab := tab) (ix := ix) (cs := (u0 ++ x :: a236 :: v0)) (ns := (a236 :: ns)) (hs := (fup hs a236 hh)) (ky := (fup ky a236 k)) (vl := (fup vl a236 v)) (nx := (fup (fup nx a236 (nx x)) x (some a236))) (pp := pp2303) (lf := lf2303) (rg := rg2303) (pv := (pvH (fup pv a236 (some x)) v0.head? (some a236))) (rd := rd2303) (root := root2303) hu0_303 (by first | assumption | omega | rfl) (by first | assumption | omega | rfl) (by
                have hz := tr_tm hT2_303 rfl
                rcases List.mem_cons.mp hz with e | e
                · rw [e, fup_s]; exact hixn
                · rw [fup_n (fun (q : _ = a236) => hnn (q ▸ e))]; exact hix _ e) (by first | assumption | omega | rfl) (tr_tm hT2_303 rfl) (hCn) (hPn) (hNn.1) (fun a => by rw [hNn.2, List.mem_cons]; exact or_congr Iff.rfl (hM a))) dJ40_putTreeVal_306 rfl q1717 q1718 q131 q1719 rfl rfl moJ40_moveRootToFront rfl rfl (by decide) (by decide) (Nat.le_of_ble_eq_true rfl) (Nat.le_of_ble_eq_true rfl) (Nat.le_of_ble_eq_true rfl) (fun _ _ hx => noX_x hx) (fun v306 L1 hp306 => ?_)
            obtain ⟨nx2306, pv2306, u1_306, rfl, rfl, hu1_306, hC2_306⟩ := hp306
            refine (show Go g κ 309 [some (.ref root), some (.ref h), some (.ref tl), some (.int hh), some (.ref k), some (.ref v), some (.null), some (.int (nI 0)), some (.ref root), some (.null), some (.int (-1)), some (.int (hs x)), none, some (.ref x), some (.ref nxx_a285), some (.ref a236)] [] [[(h, .inr (23, [.null, .null, va_rf otl, .null, .int (nI n), .int (nI md), .int (nI thr), .float lfac]))], [(tl, .inl (g.2.1 6, cap, .inr (.inr (.inr (.inr (va_up tab ix (some root2303)))))))], u1_306] 0 0 from ?_)
            have hrm : root2303 ∈ u0 ++ x :: a236 :: v0 := (hNn.2 _).mpr (by have hz := tr_tm hT2_303 rfl; rcases List.mem_cons.mp hz with e | e; exact Or.inl e; exact Or.inr ((hM _).mpr e))
            refine g_aconst_null (q := 310) B dJ40_putTreeVal_309 rfl ?_
            exact g_aret B E dJ40_putTreeVal_310 (by first | exact Or.inl ⟨_, rfl⟩ | exact Or.inr ⟨_, rfl⟩) rv_n (⟨a236, nx2306, pv2306, lf2303, rg2303, pp2303, rd2303, lo2303, hi2303, root2303, _, _, rfl, rfl, hu1_306, hnn, hT2_303, hC2_306.1, hC2_306.2, (nd_front hNn.1 hrm).1, fun a => ((nd_front hNn.1 hrm).2 a).trans (by rw [hNn.2, List.mem_cons]; exact or_congr Iff.rfl (hM a))⟩)
    exact lp27 _ root (tr_tm hT rfl) (by have z := hT.2.2.2.2.2.2.2.2.2 root rfl; exact ⟨z.1, by omega, by rw [z.2.2.2]; exact hrk_lt _⟩) rfl
  · skip
    refine g_aload_n (q := 14) B dJ40_putTreeVal_13 rfl rfl (rv_r _) ?_
    refine g_callV (q := 17) (is := [2]) (kc2 := 1) (ks2 := 11) B [] (ct_J40_root g J (ns := ns) (hs := hs) (ky := ky) (vl := vl) (nx := nx) (pp := pp) (lf := lf) (rg := rg) (pv := pv) (rd := rd) (key := (fun a => hrk (hs a))) (lo := lo) (hi := hi) (root := root) (a := a) hw2 (by first | assumption | omega | rfl) (by first | assumption | omega | rfl)) dJ40_putTreeVal_14 rfl (rc_in B (ci := 25) rfl (k := 2) rfl ⟨_, TNG.mem hw2 ha⟩) rfl q1413 q1414 q1415 q131 q1416 rfl rfl moJ40_root rfl rfl (by decide) (by decide) (Nat.le_of_ble_eq_true rfl) (Nat.le_of_ble_eq_true rfl) (Nat.le_of_ble_eq_true rfl) (fun _ _ hx => noX_x hx) (fun v14 L1 hp14 => ?_)
    obtain ⟨rfl, rfl⟩ := hp14
    refine (show Go g κ 17 [some (.ref a), some (.ref h), some (.ref tl), some (.int hh), some (.ref k), some (.ref v), some (.null), some (.int (nI 0)), none, none, none, none, none, none, none, none] [.ref root] [[(h, .inr (23, [.null, .null, va_rf otl, .null, .int (nI n), .int (nI md), .int (nI thr), .float lfac]))], [(tl, .inl (g.2.1 6, cap, .inr (.inr (.inr (.inr tab)))))], w2] 1 11 from ?_)
    refine g_goto (tgt := 21) B dJ40_putTreeVal_17 (by decide) ?_
    refine g_astore (q := 23) (lv2 := [some (.ref a), some (.ref h), some (.ref tl), some (.int hh), some (.ref k), some (.ref v), some (.null), some (.int (nI 0)), some (.ref root), none, none, none, none, none, none, none]) B dJ40_putTreeVal_21 rfl (Nat.le_of_ble_eq_true rfl) (rv_r _) rfl ?_
    refine g_aload (q := 25) B dJ40_putTreeVal_23 rfl rfl (rv_r _) ?_
    refine g_astore (q := 27) (lv2 := [some (.ref a), some (.ref h), some (.ref tl), some (.int hh), some (.ref k), some (.ref v), some (.null), some (.int (nI 0)), some (.ref root), some (.ref root), none, none, none, none, none, none]) B dJ40_putTreeVal_25 rfl (Nat.le_of_ble_eq_true rfl) (rv_r _) rfl ?_
    have lp27 : ∀ (n27 : Nat) (x : Nat) , (x ∈ ns) → (Pk ns lo hi (hrk hh) x) → wid lo hi (some x) = n27 → Go g κ 27 [some (.ref a), some (.ref h), some (.ref tl), some (.int hh), some (.ref k), some (.ref v), some (.null), some (.int (nI 0)), some (.ref root), some (.ref x), none, none, none, none, none, none] [] [[(h, .inr (23, [.null, .null, va_rf otl, .null, .int (nI n), .int (nI md), .int (nI thr), .float lfac]))], [(tl, .inl (g.2.1 6, cap, .inr (.inr (.inr (.inr tab)))))], w2] 1 11 := by
      intro n27
      induction n27 using Nat.strongRecOn with
      | _ n27 ih27 =>
      intro x  hx hp hmu27
      refine g_aload (q := 29) B dJ40_putTreeVal_27 rfl rfl (rv_r _) ?_
      refine g_getSM (v := .int (hs x)) (q := 32) B (ci := 25) (k := 2) (j := 2) in_J40 rfl dJ40_putTreeVal_29 rfl rfl (TNG.mem hw2 hx) (Nat.le_of_ble_eq_true rfl) q1677 q1678 rfl ?_
      refine g_dup (q := 33) B dJ40_putTreeVal_32 rfl rfl ?_
      refine g_istore (q := 35) (lv2 := [some (.ref a), some (.ref h), some (.ref tl), some (.int hh), some (.ref k), some (.ref v), some (.null), some (.int (nI 0)), some (.ref root), some (.ref x), none, some (.int (hs x)), none, none, none, none]) B dJ40_putTreeVal_33 rfl (Nat.le_of_ble_eq_true rfl) rfl ?_
      refine g_iload_n (q := 36) B dJ40_putTreeVal_35 rfl rfl ?_
      refine g_icmp_le (tgt := 45) (q := 39) B dJ40_putTreeVal_36 rfl (by decide) (Iff.rfl) (fun c36 => ?_) (fun c36 => ?_)
      · skip
        refine g_iload (q := 47) B dJ40_putTreeVal_45 rfl rfl ?_
        refine g_iload_n (q := 48) B dJ40_putTreeVal_47 rfl rfl ?_
        refine g_icmp_ge (tgt := 57) (q := 51) B dJ40_putTreeVal_48 rfl (by decide) (Iff.rfl) (fun c48 => ?_) (fun c48 => ?_)
        · skip
          exact absurd (Int32.le_antisymm c36 (by simpa using c48)) (hno x hx)
        · skip
          refine g_iconst (v := nI 1) (q := 52) B dJ40_putTreeVal_51 rfl (by decide) ?_
          refine g_istore (q := 54) (lv2 := [some (.ref a), some (.ref h), some (.ref tl), some (.int hh), some (.ref k), some (.ref v), some (.null), some (.int (nI 0)), some (.ref root), some (.ref x), some (.int (nI 1)), some (.int (hs x)), none, none, none, none]) B dJ40_putTreeVal_52 rfl (Nat.le_of_ble_eq_true rfl) rfl ?_
          refine g_goto (tgt := 193) B dJ40_putTreeVal_54 (by decide) ?_
          refine g_aload (q := 195) B dJ40_putTreeVal_193 rfl rfl (rv_r _) ?_
          refine g_astore (q := 197) (lv2 := [some (.ref a), some (.ref h), some (.ref tl), some (.int hh), some (.ref k), some (.ref v), some (.null), some (.int (nI 0)), some (.ref root), some (.ref x), some (.int (nI 1)), some (.int (hs x)), none, some (.ref x), none, none]) B dJ40_putTreeVal_195 rfl (Nat.le_of_ble_eq_true rfl) (rv_r _) rfl ?_
          refine g_iload (q := 199) B dJ40_putTreeVal_197 rfl rfl ?_
          refine g_if_gt (tgt := 210) (q := 202) B dJ40_putTreeVal_199 rfl (by decide) (iff_true_intro (by decide)) (fun _ => ?_) (fun z => absurd trivial z)
          refine g_aload (q := 212) B dJ40_putTreeVal_210 rfl rfl (rv_r _) ?_
          refine g_getM (v := va_rf (rg x)) (q := 215) B (ci := 25) (k := 2) (j := 8) in_J40 rfl dJ40_putTreeVal_212 rfl rfl (TNG.mem hw2 hx) (Nat.le_of_ble_eq_true rfl) q1744 rfl rfl ?_
          refine g_dup (q := 216) B dJ40_putTreeVal_215 rfl (rv_c (rv_o _)) ?_
          refine g_astore (q := 218) (lv2 := [some (.ref a), some (.ref h), some (.ref tl), some (.int hh), some (.ref k), some (.ref v), some (.null), some (.int (nI 0)), some (.ref root), some (va_rf (rg x)), some (.int (nI 1)), some (.int (hs x)), none, some (.ref x), none, none]) B dJ40_putTreeVal_216 rfl (Nat.le_of_ble_eq_true rfl) (rv_o _) rfl ?_
          refine g_ifnonnull_o (tgt := 311) (q := 221) B dJ40_putTreeVal_218 rfl (by decide) (fun rgx_a218 c218 => ?_) (fun c218 => ?_)
          · skip
            rw [c218]
            refine (show Go g κ 311 [some (.ref a), some (.ref h), some (.ref tl), some (.int hh), some (.ref k), some (.ref v), some (.null), some (.int (nI 0)), some (.ref root), some (.ref rgx_a218), some (.int (nI 1)), some (.int (hs x)), none, some (.ref x), none, none] [] [[(h, .inr (23, [.null, .null, va_rf otl, .null, .int (nI n), .int (nI md), .int (nI thr), .float lfac]))], [(tl, .inl (g.2.1 6, cap, .inr (.inr (.inr (.inr tab)))))], w2] 1 11 from ?_)
            refine g_goto (tgt := 27) B dJ40_putTreeVal_311 (by decide) ?_
            refine g_fg 10 rfl ?_
            refine g_fg 11 rfl ?_
            refine g_fg 13 rfl ?_
            exact ih27 _ (by rw [← hmu27, ← c218]; first | exact wid_l hT hx | exact wid_r hT hx) rgx_a218 (tr_rm hT hx c218) (by have z := hT.2.2.2.2.2.1 x hx _ c218; have z2 := (not_congr hrk_le).mp c48; exact ⟨z.1, by rw [z.2.2.1]; show hrk (hs x) + 1 ≤ hrk hh; omega, by rw [z.2.2.2]; exact hp.2.2⟩) rfl
          · skip
            rw [c218]
            refine (show Go g κ 221 [some (.ref a), some (.ref h), some (.ref tl), some (.int hh), some (.ref k), some (.ref v), some (.null), some (.int (nI 0)), some (.ref root), some (.null), some (.int (nI 1)), some (.int (hs x)), none, some (.ref x), none, none] [] [[(h, .inr (23, [.null, .null, va_rf otl, .null, .int (nI n), .int (nI md), .int (nI thr), .float lfac]))], [(tl, .inl (g.2.1 6, cap, .inr (.inr (.inr (.inr tab)))))], w2] 1 11 from ?_)
            refine g_aload (q := 223) B dJ40_putTreeVal_221 rfl rfl (rv_r _) ?_
            refine g_getSM (v := va_rf (nx x)) (q := 226) B (ci := 25) (k := 2) (j := 5) in_J40 rfl dJ40_putTreeVal_223 rfl rfl (TNG.mem hw2 hx) (Nat.le_of_ble_eq_true rfl) q1690 q1691 rfl ?_
            refine g_astore (q := 228) (lv2 := [some (.ref a), some (.ref h), some (.ref tl), some (.int hh), some (.ref k), some (.ref v), some (.null), some (.int (nI 0)), some (.ref root), some (.null), some (.int (nI 1)), some (.int (hs x)), none, some (.ref x), some (va_rf (nx x)), none]) B dJ40_putTreeVal_226 rfl (Nat.le_of_ble_eq_true rfl) (rv_o _) rfl ?_
            refine g_aload_n (q := 229) B dJ40_putTreeVal_228 rfl rfl (rv_r _) ?_
            refine g_iload_n (q := 230) B dJ40_putTreeVal_229 rfl rfl ?_
            refine g_aload (q := 232) B dJ40_putTreeVal_230 rfl rfl (rv_r _) ?_
            refine g_aload (q := 234) B dJ40_putTreeVal_232 rfl rfl (rv_r _) ?_
            refine g_aload (q := 236) B dJ40_putTreeVal_234 rfl rfl (rv_o _) ?_
            refine g_callV (q := 239) (is := []) (kc2 := 0) (ks2 := 0) B [.int hh, .ref k, .ref v, va_rf (nx x)] (ct_J4_newTreeNode g J (h := h) (hh := hh) (k := k) (v := v) (x := nx x)  ) dJ40_putTreeVal_236 rfl (rc_at B (ci := 23) rfl (k := 0) rfl) rfl q1730 q1731 q1732 q83 q1733 rfl rfl moJ4_newTreeNode rfl rfl (by decide) (by decide) (Nat.le_of_ble_eq_true rfl) (Nat.le_of_ble_eq_true rfl) (Nat.le_of_ble_eq_true rfl) (fun _ _ hx => noX_x hx) (fun v236 L1 hp236 => ?_)
            obtain ⟨a236, rfl, rfl⟩ := hp236
            refine (show Go g κ 239 [some (.ref a), some (.ref h), some (.ref tl), some (.int hh), some (.ref k), some (.ref v), some (.null), some (.int (nI 0)), some (.ref root), some (.null), some (.int (nI 1)), some (.int (hs x)), none, some (.ref x), some (va_rf (nx x)), none] [.ref a236] [[(h, .inr (23, [.null, .null, va_rf otl, .null, .int (nI n), .int (nI md), .int (nI thr), .float lfac]))], [(tl, .inl (g.2.1 6, cap, .inr (.inr (.inr (.inr tab)))))], w2, [(a236, .inr (25, [.null, .null, .int hh, .ref k, .ref v, va_rf (nx x), .null, .null, .null, .null, .int (nI 0)]))]] 0 0 from ?_)
            refine g_astore (q := 241) (lv2 := [some (.ref a), some (.ref h), some (.ref tl), some (.int hh), some (.ref k), some (.ref v), some (.null), some (.int (nI 0)), some (.ref root), some (.null), some (.int (nI 1)), some (.int (hs x)), none, some (.ref x), some (va_rf (nx x)), some (.ref a236)]) B dJ40_putTreeVal_239 rfl (Nat.le_of_ble_eq_true rfl) (rv_r _) (by simp only [lst1, lclr_o]) ?_
            refine g_nin (wa := [(a236, .inr (25, [.null, .null, .int hh, .ref k, .ref v, va_rf (nx x), .null, .null, .null, .null, .int (nI 0)]))]) (wb := w2) 3 2 rfl List.mem_cons_self (fun hap => ?_)
            have hnn : a236 ∉ ns := fun hm => hap a236 _ (TNG.mem hw2 hm) rfl
            have hxm : x ≠ a236 := fun e => hnn (e ▸ hx)
            obtain ⟨wc_13, ewc_13⟩ : ∃ w : va_W, w = ([[(a236, .inr (25, [.null, .null, .int hh, .ref k, .ref v, va_rf (nx x), .null, .null, .null, .null, .int (nI 0)]))], w2] : List va_W).flatten := ⟨_, rfl⟩
            have hwc_13 : TNG g (a236 :: ns) (fup hs a236 hh) (fup ky a236 k) (fup vl a236 v) (fup nx a236 (nx x)) (fup pp a236 none) (fup lf a236 none) (fup rg a236 none) (fup pv a236 none) (fup rd a236 false) wc_13 := by
              rw [ewc_13]
              exact TNG.cons (x10 := false) hw2 hnn
            refine g_close (w := wc_13) [3, 2] rfl ewc_13 rfl ?_
            refine (show Go g κ 241 [some (.ref a), some (.ref h), some (.ref tl), some (.int hh), some (.ref k), some (.ref v), some (.null), some (.int (nI 0)), some (.ref root), some (.null), some (.int (nI 1)), some (.int (hs x)), none, some (.ref x), some (va_rf (nx x)), some (.ref a236)] [] [[(h, .inr (23, [.null, .null, va_rf otl, .null, .int (nI n), .int (nI md), .int (nI thr), .float lfac]))], [(tl, .inl (g.2.1 6, cap, .inr (.inr (.inr (.inr tab)))))], wc_13] 0 0 from ?_)
            obtain ⟨u0, v0, hcs⟩ := ins_spl ((hM x).mpr hx)
            subst hcs
            have hnm0 : a236 ∉ u0 ++ x :: v0 := fun e => hnn ((hM _).mp e)
            have hnx : nx x = v0.head? := ch_head (ch_at hC)
            refine g_iload (q := 243) B dJ40_putTreeVal_241 rfl rfl ?_
            refine g_if_gt (tgt := 256) (q := 246) B dJ40_putTreeVal_243 rfl (by decide) (iff_true_intro (by decide)) (fun _ => ?_) (fun z => absurd trivial z)
            refine g_aload (q := 258) B dJ40_putTreeVal_256 rfl rfl (rv_r _) ?_
            refine g_aload (q := 260) B dJ40_putTreeVal_258 rfl rfl (rv_r _) ?_
            refine g_putTNG8 (q := 263) (k := 2) (x := some a236) B hwc_13 (List.mem_cons_of_mem _ hx) dJ40_putTreeVal_260 rfl rfl q1744 (Or.inl rfl) (fun wa_14_260 hwa_14_260 => ?_)
            refine (show Go g κ 263 [some (.ref a), some (.ref h), some (.ref tl), some (.int hh), some (.ref k), some (.ref v), some (.null), some (.int (nI 0)), some (.ref root), some (.null), some (.int (nI 1)), some (.int (hs x)), none, some (.ref x), some (va_rf (nx x)), some (.ref a236)] [] [[(h, .inr (23, [.null, .null, va_rf otl, .null, .int (nI n), .int (nI md), .int (nI thr), .float lfac]))], [(tl, .inl (g.2.1 6, cap, .inr (.inr (.inr (.inr tab)))))], wa_14_260] 0 0 from ?_)
            refine g_aload (q := 265) B dJ40_putTreeVal_263 rfl rfl (rv_r _) ?_
            refine g_aload (q := 267) B dJ40_putTreeVal_265 rfl rfl (rv_r _) ?_
            refine g_putTNG5 (q := 270) (k := 2) (x := some a236) B hwa_14_260 (List.mem_cons_of_mem _ hx) dJ40_putTreeVal_267 rfl rfl q1690 (Or.inr q1691) (fun wa_15_267 hwa_15_267 => ?_)
            refine (show Go g κ 270 [some (.ref a), some (.ref h), some (.ref tl), some (.int hh), some (.ref k), some (.ref v), some (.null), some (.int (nI 0)), some (.ref root), some (.null), some (.int (nI 1)), some (.int (hs x)), none, some (.ref x), some (va_rf (nx x)), some (.ref a236)] [] [[(h, .inr (23, [.null, .null, va_rf otl, .null, .int (nI n), .int (nI md), .int (nI thr), .float lfac]))], [(tl, .inl (g.2.1 6, cap, .inr (.inr (.inr (.inr tab)))))], wa_15_267] 0 0 from ?_)
            refine g_aload (q := 272) B dJ40_putTreeVal_270 rfl rfl (rv_r _) ?_
            refine g_aload (q := 274) B dJ40_putTreeVal_272 rfl rfl (rv_r _) ?_
            refine g_aload (q := 276) B dJ40_putTreeVal_274 rfl rfl (rv_r _) ?_
            refine g_dup_x1 (q := 277) B dJ40_putTreeVal_276 rfl rfl rfl ?_
            refine g_putTNG9 (q := 280) (k := 2) (x := some x) B hwa_15_267 List.mem_cons_self dJ40_putTreeVal_277 rfl rfl q1745 (Or.inl rfl) (fun wa_16_277 hwa_16_277 => ?_)
            refine (show Go g κ 280 [some (.ref a), some (.ref h), some (.ref tl), some (.int hh), some (.ref k), some (.ref v), some (.null), some (.int (nI 0)), some (.ref root), some (.null), some (.int (nI 1)), some (.int (hs x)), none, some (.ref x), some (va_rf (nx x)), some (.ref a236)] [.ref x, .ref a236] [[(h, .inr (23, [.null, .null, va_rf otl, .null, .int (nI n), .int (nI md), .int (nI thr), .float lfac]))], [(tl, .inl (g.2.1 6, cap, .inr (.inr (.inr (.inr tab)))))], wa_16_277] 0 0 from ?_)
            refine g_putTNG6 (q := 283) (k := 2) (x := some x) B hwa_16_277 List.mem_cons_self dJ40_putTreeVal_280 rfl rfl q1742 (Or.inl rfl) (fun wa_17_280 hwa_17_280 => ?_)
            refine (show Go g κ 283 [some (.ref a), some (.ref h), some (.ref tl), some (.int hh), some (.ref k), some (.ref v), some (.null), some (.int (nI 0)), some (.ref root), some (.null), some (.int (nI 1)), some (.int (hs x)), none, some (.ref x), some (va_rf (nx x)), some (.ref a236)] [] [[(h, .inr (23, [.null, .null, va_rf otl, .null, .int (nI n), .int (nI md), .int (nI thr), .float lfac]))], [(tl, .inl (g.2.1 6, cap, .inr (.inr (.inr (.inr tab)))))], wa_17_280] 0 0 from ?_)
            refine g_aload (q := 285) B dJ40_putTreeVal_283 rfl rfl (rv_o _) ?_
            refine g_ifnull_o (tgt := 298) (q := 288) B dJ40_putTreeVal_285 rfl (by decide) (fun c285 => ?_) (fun nxx_a285 c285 => ?_)
            · skip
              rw [c285]
              refine (show Go g κ 298 [some (.ref a), some (.ref h), some (.ref tl), some (.int hh), some (.ref k), some (.ref v), some (.null), some (.int (nI 0)), some (.ref root), some (.null), some (.int (nI 1)), some (.int (hs x)), none, some (.ref x), some (.null), some (.ref a236)] [] [[(h, .inr (23, [.null, .null, va_rf otl, .null, .int (nI n), .int (nI md), .int (nI thr), .float lfac]))], [(tl, .inl (g.2.1 6, cap, .inr (.inr (.inr (.inr tab)))))], wa_17_280] 0 0 from ?_)
              refine g_aload_n (q := 299) B dJ40_putTreeVal_298 rfl rfl (rv_r _) ?_
              refine g_aload (q := 301) B dJ40_putTreeVal_299 rfl rfl (rv_r _) ?_
              have hfin : TNG g (a236 :: ns) (fup hs a236 hh) (fup ky a236 k) (fup vl a236 v) (fup (fup nx a236 (nx x)) x (some a236)) (fup pp a236 (some x)) (fup lf a236 none) (fup (fup rg a236 none) x (some a236)) (pvH (fup pv a236 (some x)) v0.head? (some a236)) (fup rd a236 false) wa_17_280 := TNG.congr hwa_17_280 (fun e he => by
                refine ⟨rfl, rfl, rfl, ?_, ?_, rfl, rfl, ?_, rfl⟩
                · first | rfl | (rw [c285])
                · rw [fup_fup]
                · rw [← hnx, c285]; first | (simp only [pvH, fup_fup]) | rfl)
              have hTn := tr_insR hT hnn hx c218 (by show hrk (hs x) < hrk hh; have := (not_congr hrk_le).mp c48; omega) hp.2.2
              rw [hk_fup] at hTn
              have hCn := ch_ins (x := a236) hC hN hnm0
              have hPn := pc_ins (x := a236) hP hN hnm0
              have hNn := nd_ins hN hnm0
              refine g_aload (q := 303) B dJ40_putTreeVal_301 rfl rfl (rv_r _) ?_
              refine g_callS (q := 306) (is := [2]) (kc2 := 0) (ks2 := 0) B [.ref root, .ref a236] (ct_J40_balanceInsertion g J (ns := (a236 :: ns)) (hs := (fup hs a236 hh)) (ky := (fup ky a236 k)) (vl := (fup vl a236 v)) (nx := (fup (fup nx a236 (nx x)) x (some a236))) (pp := (fup pp a236 (some x))) (lf := (fup lf a236 none)) (rg := (fup (fup rg a236 none) x (some a236))) (pv := (pvH (fup pv a236 (some x)) v0.head? (some a236))) (rd := (fup rd a236 false)) (key := (fun a => hrk (fup hs a236 hh a))) (lo := _) (hi := _) (root := root) (x := a236) hfin (hTn) (List.mem_cons_self)) dJ40_putTreeVal_303 rfl q1708 q1709 q131 q1710 rfl rfl moJ40_balanceInsertion rfl rfl (by decide) (by decide) (Nat.le_of_ble_eq_true rfl) (Nat.le_of_ble_eq_true rfl) (Nat.le_of_ble_eq_true rfl) (fun _ _ hx => noX_x hx) (fun v303 L1 hp303 => ?_)
              obtain ⟨root2303, lf2303, rg2303, pp2303, rd2303, lo2303, hi2303, u0_303, rfl, rfl, hu0_303, hT2_303⟩ := hp303
              refine (show Go g κ 306 [some (.ref a), some (.ref h), some (.ref tl), some (.int hh), some (.ref k), some (.ref v), some (.null), some (.int (nI 0)), some (.ref root), some (.null), some (.int (nI 1)), some (.int (hs x)), none, some (.ref x), some (.null), some (.ref a236)] [.ref root2303, .ref tl] [[(h, .inr (23, [.null, .null, va_rf otl, .null, .int (nI n), .int (nI md), .int (nI thr), .float lfac]))], [(tl, .inl (g.2.1 6, cap, .inr (.inr (.inr (.inr tab)))))], u0_303] 0 0 from ?_)
              refine g_callS (q := 309) (is := [1, 1]) (kc2 := 0) (ks2 := 0) B [.ref tl, .ref root2303] (ct_J40_moveRootToFront g J (tl := tl) (cap := cap) (tab := tab) (ix := ix) (cs := (u0 ++ x :: a236 :: v0)) (ns := (a236 :: ns)) (hs := (fup hs a236 hh)) (ky := (fup ky a236 k)) (vl := (fup vl a236 v)) (nx := (fup (fup nx a236 (nx x)) x (some a236))) (pp := pp2303) (lf := lf2303) (rg := rg2303) (pv := (pvH (fup pv a236 (some x)) v0.head? (some a236))) (rd := rd2303) (root := root2303) hu0_303 (by first | assumption | omega | rfl) (by first | assumption | omega | rfl) (by
                  have hz := tr_tm hT2_303 rfl
                  rcases List.mem_cons.mp hz with e | e
                  · rw [e, fup_s]; exact hixn
                  · rw [fup_n (fun (q : _ = a236) => hnn (q ▸ e))]; exact hix _ e) (by first | assumption | omega | rfl) (tr_tm hT2_303 rfl) (hCn) (hPn) (hNn.1) (fun a => by rw [hNn.2, List.mem_cons]; exact or_congr Iff.rfl (hM a))) dJ40_putTreeVal_306 rfl q1717 q1718 q131 q1719 rfl rfl moJ40_moveRootToFront rfl rfl (by decide) (by decide) (Nat.le_of_ble_eq_true rfl) (Nat.le_of_ble_eq_true rfl) (Nat.le_of_ble_eq_true rfl) (fun _ _ hx => noX_x hx) (fun v306 L1 hp306 => ?_)
              obtain ⟨nx2306, pv2306, u1_306, rfl, rfl, hu1_306, hC2_306⟩ := hp306
              refine (show Go g κ 309 [some (.ref a), some (.ref h), some (.ref tl), some (.int hh), some (.ref k), some (.ref v), some (.null), some (.int (nI 0)), some (.ref root), some (.null), some (.int (nI 1)), some (.int (hs x)), none, some (.ref x), some (.null), some (.ref a236)] [] [[(h, .inr (23, [.null, .null, va_rf otl, .null, .int (nI n), .int (nI md), .int (nI thr), .float lfac]))], [(tl, .inl (g.2.1 6, cap, .inr (.inr (.inr (.inr (va_up tab ix (some root2303)))))))], u1_306] 0 0 from ?_)
              have hrm : root2303 ∈ u0 ++ x :: a236 :: v0 := (hNn.2 _).mpr (by have hz := tr_tm hT2_303 rfl; rcases List.mem_cons.mp hz with e | e; exact Or.inl e; exact Or.inr ((hM _).mpr e))
              refine g_aconst_null (q := 310) B dJ40_putTreeVal_309 rfl ?_
              exact g_aret B E dJ40_putTreeVal_310 (by first | exact Or.inl ⟨_, rfl⟩ | exact Or.inr ⟨_, rfl⟩) rv_n (⟨a236, nx2306, pv2306, lf2303, rg2303, pp2303, rd2303, lo2303, hi2303, root2303, _, _, rfl, rfl, hu1_306, hnn, hT2_303, hC2_306.1, hC2_306.2, (nd_front hNn.1 hrm).1, fun a => ((nd_front hNn.1 hrm).2 a).trans (by rw [hNn.2, List.mem_cons]; exact or_congr Iff.rfl (hM a))⟩)
            · skip
              rw [c285]
              refine (show Go g κ 288 [some (.ref a), some (.ref h), some (.ref tl), some (.int hh), some (.ref k), some (.ref v), some (.null), some (.int (nI 0)), some (.ref root), some (.null), some (.int (nI 1)), some (.int (hs x)), none, some (.ref x), some (.ref nxx_a285), some (.ref a236)] [] [[(h, .inr (23, [.null, .null, va_rf otl, .null, .int (nI n), .int (nI md), .int (nI thr), .float lfac]))], [(tl, .inl (g.2.1 6, cap, .inr (.inr (.inr (.inr tab)))))], wa_17_280] 0 0 from ?_)
              have hyv : v0.head? = some nxx_a285 := by rw [← hnx]; exact c285
              have hyn : nxx_a285 ∈ ns := (hM nxx_a285).mp (by have := List.mem_of_mem_head? (show nxx_a285 ∈ v0.head? by rw [hyv]; rfl); simp [this])
              have hym : nxx_a285 ≠ a236 := fun e => hnn (e ▸ hyn)
              refine g_aload (q := 290) B dJ40_putTreeVal_288 rfl rfl (rv_r _) ?_
              refine g_castRS (ci := 25) (q := 293) B rfl (rc_in B (ci := 25) rfl (k := 2) rfl ⟨_, TNG.mem hwa_17_280 (List.mem_cons_of_mem _ hyn)⟩) dJ40_putTreeVal_290 rfl q1662 ?_
              refine g_aload (q := 295) B dJ40_putTreeVal_293 rfl rfl (rv_r _) ?_
              refine g_putTNG9 (q := 298) (k := 2) (x := some a236) B hwa_17_280 (List.mem_cons_of_mem _ hyn) dJ40_putTreeVal_295 rfl rfl q1745 (Or.inl rfl) (fun wa_18_295 hwa_18_295 => ?_)
              refine (show Go g κ 298 [some (.ref a), some (.ref h), some (.ref tl), some (.int hh), some (.ref k), some (.ref v), some (.null), some (.int (nI 0)), some (.ref root), some (.null), some (.int (nI 1)), some (.int (hs x)), none, some (.ref x), some (.ref nxx_a285), some (.ref a236)] [] [[(h, .inr (23, [.null, .null, va_rf otl, .null, .int (nI n), .int (nI md), .int (nI thr), .float lfac]))], [(tl, .inl (g.2.1 6, cap, .inr (.inr (.inr (.inr tab)))))], wa_18_295] 0 0 from ?_)
              refine g_aload_n (q := 299) B dJ40_putTreeVal_298 rfl rfl (rv_r _) ?_
              refine g_aload (q := 301) B dJ40_putTreeVal_299 rfl rfl (rv_r _) ?_
              have hfin : TNG g (a236 :: ns) (fup hs a236 hh) (fup ky a236 k) (fup vl a236 v) (fup (fup nx a236 (nx x)) x (some a236)) (fup pp a236 (some x)) (fup lf a236 none) (fup (fup rg a236 none) x (some a236)) (pvH (fup pv a236 (some x)) v0.head? (some a236)) (fup rd a236 false) wa_18_295 := TNG.congr hwa_18_295 (fun e he => by
                refine ⟨rfl, rfl, rfl, ?_, ?_, rfl, rfl, ?_, rfl⟩
                · first | rfl | (rw [c285])
                · rw [fup_fup]
                · rw [← hnx, c285]; first | (simp only [pvH, fup_fup]) | rfl)
              have hTn := tr_insR hT hnn hx c218 (by show hrk (hs x) < hrk hh; have := (not_congr hrk_le).mp c48; omega) hp.2.2
              rw [hk_fup] at hTn
              have hCn := ch_ins (x := a236) hC hN hnm0
              have hPn := pc_ins (x := a236) hP hN hnm0
              have hNn := nd_ins hN hnm0
              refine g_aload (q := 303) B dJ40_putTreeVal_301 rfl rfl (rv_r _) ?_
              refine g_callS (q := 306) (is := [2]) (kc2 := 0) (ks2 := 0) B [.ref root, .ref a236] (ct_J40_balanceInsertion g J (ns := (a236 :: ns)) (hs := (fup hs a236 hh)) (ky := (fup ky a236 k)) (vl := (fup vl a236 v)) (nx := (fup (fup nx a236 (nx x)) x (some a236))) (pp := (fup pp a236 (some x))) (lf := (fup lf a236 none)) (rg := (fup (fup rg a236 none) x (some a236))) (pv := (pvH (fup pv a236 (some x)) v0.head? (some a236))) (rd := (fup rd a236 false)) (key := (fun a => hrk (fup hs a236 hh a))) (lo := _) (hi := _) (root := root) (x := a236) hfin (hTn) (List.mem_cons_self)) dJ40_putTreeVal_303 rfl q1708 q1709 q131 q1710 rfl rfl moJ40_balanceInsertion rfl rfl (by decide) (by decide) (Nat.le_of_ble_eq_true rfl) (Nat.le_of_ble_eq_true rfl) (Nat.le_of_ble_eq_true rfl) (fun _ _ hx => noX_x hx) (fun v303 L1 hp303 => ?_)
              obtain ⟨root2303, lf2303, rg2303, pp2303, rd2303, lo2303, hi2303, u0_303, rfl, rfl, hu0_303, hT2_303⟩ := hp303
              refine (show Go g κ 306 [some (.ref a), some (.ref h), some (.ref tl), some (.int hh), some (.ref k), some (.ref v), some (.null), some (.int (nI 0)), some (.ref root), some (.null), some (.int (nI 1)), some (.int (hs x)), none, some (.ref x), some (.ref nxx_a285), some (.ref a236)] [.ref root2303, .ref tl] [[(h, .inr (23, [.null, .null, va_rf otl, .null, .int (nI n), .int (nI md), .int (nI thr), .float lfac]))], [(tl, .inl (g.2.1 6, cap, .inr (.inr (.inr (.inr tab)))))], u0_303] 0 0 from ?_)
              refine g_callS (q := 309) (is := [1, 1]) (kc2 := 0) (ks2 := 0) B [.ref tl, .ref root2303] (ct_J40_moveRootToFront g J (tl := tl) (cap := cap) (tab := tab) (ix := ix) (cs := (u0 ++ x :: a236 :: v0)) (ns := (a236 :: ns)) (hs := (fup hs a236 hh)) (ky := (fup ky a236 k)) (vl := (fup vl a236 v)) (nx := (fup (fup nx a236 (nx x)) x (some a236))) (pp := pp2303) (lf := lf2303) (rg := rg2303) (pv := (pvH (fup pv a236 (some x)) v0.head? (some a236))) (rd := rd2303) (root := root2303) hu0_303 (by first | assumption | omega | rfl) (by first | assumption | omega | rfl) (by
                  have hz := tr_tm hT2_303 rfl
                  rcases List.mem_cons.mp hz with e | e
                  · rw [e, fup_s]; exact hixn
                  · rw [fup_n (fun (q : _ = a236) => hnn (q ▸ e))]; exact hix _ e) (by first | assumption | omega | rfl) (tr_tm hT2_303 rfl) (hCn) (hPn) (hNn.1) (fun a => by rw [hNn.2, List.mem_cons]; exact or_congr Iff.rfl (hM a))) dJ40_putTreeVal_306 rfl q1717 q1718 q131 q1719 rfl rfl moJ40_moveRootToFront rfl rfl (by decide) (by decide) (Nat.le_of_ble_eq_true rfl) (Nat.le_of_ble_eq_true rfl) (Nat.le_of_ble_eq_true rfl) (fun _ _ hx => noX_x hx) (fun v306 L1 hp306 => ?_)
              obtain ⟨nx2306, pv2306, u1_306, rfl, rfl, hu1_306, hC2_306⟩ := hp306
              refine (show Go g κ 309 [some (.ref a), some (.ref h), some (.ref tl), some (.int hh), some (.ref k), some (.ref v), some (.null), some (.int (nI 0)), some (.ref root), some (.null), some (.int (nI 1)), some (.int (hs x)), none, some (.ref x), some (.ref nxx_a285), some (.ref a236)] [] [[(h, .inr (23, [.null, .null, va_rf otl, .null, .int (nI n), .int (nI md), .int (nI thr), .float lfac]))], [(tl, .inl (g.2.1 6, cap, .inr (.inr (.inr (.inr (va_up tab ix (some root2303)))))))], u1_306] 0 0 from ?_)
              have hrm : root2303 ∈ u0 ++ x :: a236 :: v0 := (hNn.2 _).mpr (by have hz := tr_tm hT2_303 rfl; rcases List.mem_cons.mp hz with e | e; exact Or.inl e; exact Or.inr ((hM _).mpr e))
              refine g_aconst_null (q := 310) B dJ40_putTreeVal_309 rfl ?_
              exact g_aret B E dJ40_putTreeVal_310 (by first | exact Or.inl ⟨_, rfl⟩ | exact Or.inr ⟨_, rfl⟩) rv_n (⟨a236, nx2306, pv2306, lf2303, rg2303, pp2303, rd2303, lo2303, hi2303, root2303, _, _, rfl, rfl, hu1_306, hnn, hT2_303, hC2_306.1, hC2_306.2, (nd_front hNn.1 hrm).1, fun a => ((nd_front hNn.1 hrm).2 a).trans (by rw [hNn.2, List.mem_cons]; exact or_congr Iff.rfl (hM a))⟩)
      · skip
        refine g_iconst (v := -1) (q := 40) B dJ40_putTreeVal_39 rfl (by decide) ?_
        refine g_istore (q := 42) (lv2 := [some (.ref a), some (.ref h), some (.ref tl), some (.int hh), some (.ref k), some (.ref v), some (.null), some (.int (nI 0)), some (.ref root), some (.ref x), some (.int (-1)), some (.int (hs x)), none, none, none, none]) B dJ40_putTreeVal_40 rfl (Nat.le_of_ble_eq_true rfl) rfl ?_
        refine g_goto (tgt := 193) B dJ40_putTreeVal_42 (by decide) ?_
        refine g_aload (q := 195) B dJ40_putTreeVal_193 rfl rfl (rv_r _) ?_
        refine g_astore (q := 197) (lv2 := [some (.ref a), some (.ref h), some (.ref tl), some (.int hh), some (.ref k), some (.ref v), some (.null), some (.int (nI 0)), some (.ref root), some (.ref x), some (.int (-1)), some (.int (hs x)), none, some (.ref x), none, none]) B dJ40_putTreeVal_195 rfl (Nat.le_of_ble_eq_true rfl) (rv_r _) rfl ?_
        refine g_iload (q := 199) B dJ40_putTreeVal_197 rfl rfl ?_
        refine g_if_gt (tgt := 210) (q := 202) B dJ40_putTreeVal_199 rfl (by decide) (iff_false_intro (by decide)) (fun z => z.elim) (fun _ => ?_)
        refine g_aload (q := 204) B dJ40_putTreeVal_202 rfl rfl (rv_r _) ?_
        refine g_getM (v := va_rf (lf x)) (q := 207) B (ci := 25) (k := 2) (j := 7) in_J40 rfl dJ40_putTreeVal_204 rfl rfl (TNG.mem hw2 hx) (Nat.le_of_ble_eq_true rfl) q1743 rfl rfl ?_
        refine g_goto (tgt := 215) B dJ40_putTreeVal_207 (by decide) ?_
        refine g_dup (q := 216) B dJ40_putTreeVal_215 rfl (rv_c (rv_o _)) ?_
        refine g_astore (q := 218) (lv2 := [some (.ref a), some (.ref h), some (.ref tl), some (.int hh), some (.ref k), some (.ref v), some (.null), some (.int (nI 0)), some (.ref root), some (va_rf (lf x)), some (.int (-1)), some (.int (hs x)), none, some (.ref x), none, none]) B dJ40_putTreeVal_216 rfl (Nat.le_of_ble_eq_true rfl) (rv_o _) rfl ?_
        refine g_ifnonnull_o (tgt := 311) (q := 221) B dJ40_putTreeVal_218 rfl (by decide) (fun lfx_a218 c218 => ?_) (fun c218 => ?_)
        · skip
          rw [c218]
          refine (show Go g κ 311 [some (.ref a), some (.ref h), some (.ref tl), some (.int hh), some (.ref k), some (.ref v), some (.null), some (.int (nI 0)), some (.ref root), some (.ref lfx_a218), some (.int (-1)), some (.int (hs x)), none, some (.ref x), none, none] [] [[(h, .inr (23, [.null, .null, va_rf otl, .null, .int (nI n), .int (nI md), .int (nI thr), .float lfac]))], [(tl, .inl (g.2.1 6, cap, .inr (.inr (.inr (.inr tab)))))], w2] 1 11 from ?_)
          refine g_goto (tgt := 27) B dJ40_putTreeVal_311 (by decide) ?_
          refine g_fg 10 rfl ?_
          refine g_fg 11 rfl ?_
          refine g_fg 13 rfl ?_
          exact ih27 _ (by rw [← hmu27, ← c218]; first | exact wid_l hT hx | exact wid_r hT hx) lfx_a218 (tr_lm hT hx c218) (by have z := hT.2.2.2.1 x hx _ c218; have z2 := (not_congr hrk_le).mp c36; exact ⟨z.1, by rw [z.2.2.1]; exact hp.2.1, by rw [z.2.2.2]; show hrk hh < hrk (hs x); omega⟩) rfl
        · skip
          rw [c218]
          refine (show Go g κ 221 [some (.ref a), some (.ref h), some (.ref tl), some (.int hh), some (.ref k), some (.ref v), some (.null), some (.int (nI 0)), some (.ref root), some (.null), some (.int (-1)), some (.int (hs x)), none, some (.ref x), none, none] [] [[(h, .inr (23, [.null, .null, va_rf otl, .null, .int (nI n), .int (nI md), .int (nI thr), .float lfac]))], [(tl, .inl (g.2.1 6, cap, .inr (.inr (.inr (.inr tab)))))], w2] 1 11 from ?_)
          refine g_aload (q := 223) B dJ40_putTreeVal_221 rfl rfl (rv_r _) ?_
          refine g_getSM (v := va_rf (nx x)) (q := 226) B (ci := 25) (k := 2) (j := 5) in_J40 rfl dJ40_putTreeVal_223 rfl rfl (TNG.mem hw2 hx) (Nat.le_of_ble_eq_true rfl) q1690 q1691 rfl ?_
          refine g_astore (q := 228) (lv2 := [some (.ref a), some (.ref h), some (.ref tl), some (.int hh), some (.ref k), some (.ref v), some (.null), some (.int (nI 0)), some (.ref root), some (.null), some (.int (-1)), some (.int (hs x)), none, some (.ref x), some (va_rf (nx x)), none]) B dJ40_putTreeVal_226 rfl (Nat.le_of_ble_eq_true rfl) (rv_o _) rfl ?_
          refine g_aload_n (q := 229) B dJ40_putTreeVal_228 rfl rfl (rv_r _) ?_
          refine g_iload_n (q := 230) B dJ40_putTreeVal_229 rfl rfl ?_
          refine g_aload (q := 232) B dJ40_putTreeVal_230 rfl rfl (rv_r _) ?_
          refine g_aload (q := 234) B dJ40_putTreeVal_232 rfl rfl (rv_r _) ?_
          refine g_aload (q := 236) B dJ40_putTreeVal_234 rfl rfl (rv_o _) ?_
          refine g_callV (q := 239) (is := []) (kc2 := 0) (ks2 := 0) B [.int hh, .ref k, .ref v, va_rf (nx x)] (ct_J4_newTreeNode g J (h := h) (hh := hh) (k := k) (v := v) (x := nx x)  ) dJ40_putTreeVal_236 rfl (rc_at B (ci := 23) rfl (k := 0) rfl) rfl q1730 q1731 q1732 q83 q1733 rfl rfl moJ4_newTreeNode rfl rfl (by decide) (by decide) (Nat.le_of_ble_eq_true rfl) (Nat.le_of_ble_eq_true rfl) (Nat.le_of_ble_eq_true rfl) (fun _ _ hx => noX_x hx) (fun v236 L1 hp236 => ?_)
          obtain ⟨a236, rfl, rfl⟩ := hp236
          refine (show Go g κ 239 [some (.ref a), some (.ref h), some (.ref tl), some (.int hh), some (.ref k), some (.ref v), some (.null), some (.int (nI 0)), some (.ref root), some (.null), some (.int (-1)), some (.int (hs x)), none, some (.ref x), some (va_rf (nx x)), none] [.ref a236] [[(h, .inr (23, [.null, .null, va_rf otl, .null, .int (nI n), .int (nI md), .int (nI thr), .float lfac]))], [(tl, .inl (g.2.1 6, cap, .inr (.inr (.inr (.inr tab)))))], w2, [(a236, .inr (25, [.null, .null, .int hh, .ref k, .ref v, va_rf (nx x), .null, .null, .null, .null, .int (nI 0)]))]] 0 0 from ?_)
          refine g_astore (q := 241) (lv2 := [some (.ref a), some (.ref h), some (.ref tl), some (.int hh), some (.ref k), some (.ref v), some (.null), some (.int (nI 0)), some (.ref root), some (.null), some (.int (-1)), some (.int (hs x)), none, some (.ref x), some (va_rf (nx x)), some (.ref a236)]) B dJ40_putTreeVal_239 rfl (Nat.le_of_ble_eq_true rfl) (rv_r _) (by simp only [lst1, lclr_o]) ?_
          refine g_nin (wa := [(a236, .inr (25, [.null, .null, .int hh, .ref k, .ref v, va_rf (nx x), .null, .null, .null, .null, .int (nI 0)]))]) (wb := w2) 3 2 rfl List.mem_cons_self (fun hap => ?_)
          have hnn : a236 ∉ ns := fun hm => hap a236 _ (TNG.mem hw2 hm) rfl
          have hxm : x ≠ a236 := fun e => hnn (e ▸ hx)
          obtain ⟨wc_19, ewc_19⟩ : ∃ w : va_W, w = ([[(a236, .inr (25, [.null, .null, .int hh, .ref k, .ref v, va_rf (nx x), .null, .null, .null, .null, .int (nI 0)]))], w2] : List va_W).flatten := ⟨_, rfl⟩
          have hwc_19 : TNG g (a236 :: ns) (fup hs a236 hh) (fup ky a236 k) (fup vl a236 v) (fup nx a236 (nx x)) (fup pp a236 none) (fup lf a236 none) (fup rg a236 none) (fup pv a236 none) (fup rd a236 false) wc_19 := by
            rw [ewc_19]
            exact TNG.cons (x10 := false) hw2 hnn
          refine g_close (w := wc_19) [3, 2] rfl ewc_19 rfl ?_
          refine (show Go g κ 241 [some (.ref a), some (.ref h), some (.ref tl), some (.int hh), some (.ref k), some (.ref v), some (.null), some (.int (nI 0)), some (.ref root), some (.null), some (.int (-1)), some (.int (hs x)), none, some (.ref x), some (va_rf (nx x)), some (.ref a236)] [] [[(h, .inr (23, [.null, .null, va_rf otl, .null, .int (nI n), .int (nI md), .int (nI thr), .float lfac]))], [(tl, .inl (g.2.1 6, cap, .inr (.inr (.inr (.inr tab)))))], wc_19] 0 0 from ?_)
          obtain ⟨u0, v0, hcs⟩ := ins_spl ((hM x).mpr hx)
          subst hcs
          have hnm0 : a236 ∉ u0 ++ x :: v0 := fun e => hnn ((hM _).mp e)
          have hnx : nx x = v0.head? := ch_head (ch_at hC)
          refine g_iload (q := 243) B dJ40_putTreeVal_241 rfl rfl ?_
          refine g_if_gt (tgt := 256) (q := 246) B dJ40_putTreeVal_243 rfl (by decide) (iff_false_intro (by decide)) (fun z => z.elim) (fun _ => ?_)
          refine g_aload (q := 248) B dJ40_putTreeVal_246 rfl rfl (rv_r _) ?_
          refine g_aload (q := 250) B dJ40_putTreeVal_248 rfl rfl (rv_r _) ?_
          refine g_putTNG7 (q := 253) (k := 2) (x := some a236) B hwc_19 (List.mem_cons_of_mem _ hx) dJ40_putTreeVal_250 rfl rfl q1743 (Or.inl rfl) (fun wa_20_250 hwa_20_250 => ?_)
          refine (show Go g κ 253 [some (.ref a), some (.ref h), some (.ref tl), some (.int hh), some (.ref k), some (.ref v), some (.null), some (.int (nI 0)), some (.ref root), some (.null), some (.int (-1)), some (.int (hs x)), none, some (.ref x), some (va_rf (nx x)), some (.ref a236)] [] [[(h, .inr (23, [.null, .null, va_rf otl, .null, .int (nI n), .int (nI md), .int (nI thr), .float lfac]))], [(tl, .inl (g.2.1 6, cap, .inr (.inr (.inr (.inr tab)))))], wa_20_250] 0 0 from ?_)
          refine g_goto (tgt := 263) B dJ40_putTreeVal_253 (by decide) ?_
          refine g_aload (q := 265) B dJ40_putTreeVal_263 rfl rfl (rv_r _) ?_
          refine g_aload (q := 267) B dJ40_putTreeVal_265 rfl rfl (rv_r _) ?_
          refine g_putTNG5 (q := 270) (k := 2) (x := some a236) B hwa_20_250 (List.mem_cons_of_mem _ hx) dJ40_putTreeVal_267 rfl rfl q1690 (Or.inr q1691) (fun wa_21_267 hwa_21_267 => ?_)
          refine (show Go g κ 270 [some (.ref a), some (.ref h), some (.ref tl), some (.int hh), some (.ref k), some (.ref v), some (.null), some (.int (nI 0)), some (.ref root), some (.null), some (.int (-1)), some (.int (hs x)), none, some (.ref x), some (va_rf (nx x)), some (.ref a236)] [] [[(h, .inr (23, [.null, .null, va_rf otl, .null, .int (nI n), .int (nI md), .int (nI thr), .float lfac]))], [(tl, .inl (g.2.1 6, cap, .inr (.inr (.inr (.inr tab)))))], wa_21_267] 0 0 from ?_)
          refine g_aload (q := 272) B dJ40_putTreeVal_270 rfl rfl (rv_r _) ?_
          refine g_aload (q := 274) B dJ40_putTreeVal_272 rfl rfl (rv_r _) ?_
          refine g_aload (q := 276) B dJ40_putTreeVal_274 rfl rfl (rv_r _) ?_
          refine g_dup_x1 (q := 277) B dJ40_putTreeVal_276 rfl rfl rfl ?_
          refine g_putTNG9 (q := 280) (k := 2) (x := some x) B hwa_21_267 List.mem_cons_self dJ40_putTreeVal_277 rfl rfl q1745 (Or.inl rfl) (fun wa_22_277 hwa_22_277 => ?_)
          refine (show Go g κ 280 [some (.ref a), some (.ref h), some (.ref tl), some (.int hh), some (.ref k), some (.ref v), some (.null), some (.int (nI 0)), some (.ref root), some (.null), some (.int (-1)), some (.int (hs x)), none, some (.ref x), some (va_rf (nx x)), some (.ref a236)] [.ref x, .ref a236] [[(h, .inr (23, [.null, .null, va_rf otl, .null, .int (nI n), .int (nI md), .int (nI thr), .float lfac]))], [(tl, .inl (g.2.1 6, cap, .inr (.inr (.inr (.inr tab)))))], wa_22_277] 0 0 from ?_)
          refine g_putTNG6 (q := 283) (k := 2) (x := some x) B hwa_22_277 List.mem_cons_self dJ40_putTreeVal_280 rfl rfl q1742 (Or.inl rfl) (fun wa_23_280 hwa_23_280 => ?_)
          refine (show Go g κ 283 [some (.ref a), some (.ref h), some (.ref tl), some (.int hh), some (.ref k), some (.ref v), some (.null), some (.int (nI 0)), some (.ref root), some (.null), some (.int (-1)), some (.int (hs x)), none, some (.ref x), some (va_rf (nx x)), some (.ref a236)] [] [[(h, .inr (23, [.null, .null, va_rf otl, .null, .int (nI n), .int (nI md), .int (nI thr), .float lfac]))], [(tl, .inl (g.2.1 6, cap, .inr (.inr (.inr (.inr tab)))))], wa_23_280] 0 0 from ?_)
          refine g_aload (q := 285) B dJ40_putTreeVal_283 rfl rfl (rv_o _) ?_
          refine g_ifnull_o (tgt := 298) (q := 288) B dJ40_putTreeVal_285 rfl (by decide) (fun c285 => ?_) (fun nxx_a285 c285 => ?_)
          · skip
            rw [c285]
            refine (show Go g κ 298 [some (.ref a), some (.ref h), some (.ref tl), some (.int hh), some (.ref k), some (.ref v), some (.null), some (.int (nI 0)), some (.ref root), some (.null), some (.int (-1)), some (.int (hs x)), none, some (.ref x), some (.null), some (.ref a236)] [] [[(h, .inr (23, [.null, .null, va_rf otl, .null, .int (nI n), .int (nI md), .int (nI thr), .float lfac]))], [(tl, .inl (g.2.1 6, cap, .inr (.inr (.inr (.inr tab)))))], wa_23_280] 0 0 from ?_)
            refine g_aload_n (q := 299) B dJ40_putTreeVal_298 rfl rfl (rv_r _) ?_
            refine g_aload (q := 301) B dJ40_putTreeVal_299 rfl rfl (rv_r _) ?_
            have hfin : TNG g (a236 :: ns) (fup hs a236 hh) (fup ky a236 k) (fup vl a236 v) (fup (fup nx a236 (nx x)) x (some a236)) (fup pp a236 (some x)) (fup (fup lf a236 none) x (some a236)) (fup rg a236 none) (pvH (fup pv a236 (some x)) v0.head? (some a236)) (fup rd a236 false) wa_23_280 := TNG.congr hwa_23_280 (fun e he => by
              refine ⟨rfl, rfl, rfl, ?_, ?_, rfl, rfl, ?_, rfl⟩
              · first | rfl | (rw [c285])
              · rw [fup_fup]
              · rw [← hnx, c285]; first | (simp only [pvH, fup_fup]) | rfl)
            have hTn := tr_insL hT hnn hx c218 hp.2.1 (by show hrk hh < hrk (hs x); have := (not_congr hrk_le).mp c36; omega)
            rw [hk_fup] at hTn
            have hCn := ch_ins (x := a236) hC hN hnm0
            have hPn := pc_ins (x := a236) hP hN hnm0
            have hNn := nd_ins hN hnm0
            refine g_aload (q := 303) B dJ40_putTreeVal_301 rfl rfl (rv_r _) ?_
            refine g_callS (q := 306) (is := [2]) (kc2 := 0) (ks2 := 0) B [.ref root, .ref a236] (ct_J40_balanceInsertion g J (ns := (a236 :: ns)) (hs := (fup hs a236 hh)) (ky := (fup ky a236 k)) (vl := (fup vl a236 v)) (nx := (fup (fup nx a236 (nx x)) x (some a236))) (pp := (fup pp a236 (some x))) (lf := (fup (fup lf a236 none) x (some a236))) (rg := (fup rg a236 none)) (pv := (pvH (fup pv a236 (some x)) v0.head? (some a236))) (rd := (fup rd a236 false)) (key := (fun a => hrk (fup hs a236 hh a))) (lo := _) (hi := _) (root := root) (x := a236) hfin (hTn) (List.mem_cons_self)) dJ40_putTreeVal_303 rfl q1708 q1709 q131 q1710 rfl rfl moJ40_balanceInsertion rfl rfl (by decide) (by decide) (Nat.le_of_ble_eq_true rfl) (Nat.le_of_ble_eq_true rfl) (Nat.le_of_ble_eq_true rfl) (fun _ _ hx => noX_x hx) (fun v303 L1 hp303 => ?_)
            obtain ⟨root2303, lf2303, rg2303, pp2303, rd2303, lo2303, hi2303, u0_303, rfl, rfl, hu0_303, hT2_303⟩ := hp303
            refine (show Go g κ 306 [some (.ref a), some (.ref h), some (.ref tl), some (.int hh), some (.ref k), some (.ref v), some (.null), some (.int (nI 0)), some (.ref root), some (.null), some (.int (-1)), some (.int (hs x)), none, some (.ref x), some (.null), some (.ref a236)] [.ref root2303, .ref tl] [[(h, .inr (23, [.null, .null, va_rf otl, .null, .int (nI n), .int (nI md), .int (nI thr), .float lfac]))], [(tl, .inl (g.2.1 6, cap, .inr (.inr (.inr (.inr tab)))))], u0_303] 0 0 from ?_)
            refine g_callS (q := 309) (is := [1, 1]) (kc2 := 0) (ks2 := 0) B [.ref tl, .ref root2303] (ct_J40_moveRootToFront g J (tl := tl) (cap := cap) (tab := tab) (ix := ix) (cs := (u0 ++ x :: a236 :: v0)) (ns := (a236 :: ns)) (hs := (fup hs a236 hh)) (ky := (fup ky a236 k)) (vl := (fup vl a236 v)) (nx := (fup (fup nx a236 (nx x)) x (some a236))) (pp := pp2303) (lf := lf2303) (rg := rg2303) (pv := (pvH (fup pv a236 (some x)) v0.head? (some a236))) (rd := rd2303) (root := root2303) hu0_303 (by first | assumption | omega | rfl) (by first | assumption | omega | rfl) (by
                have hz := tr_tm hT2_303 rfl
                rcases List.mem_cons.mp hz with e | e
                · rw [e, fup_s]; exact hixn
                · rw [fup_n (fun (q : _ = a236) => hnn (q ▸ e))]; exact hix _ e) (by first | assumption | omega | rfl) (tr_tm hT2_303 rfl) (hCn) (hPn) (hNn.1) (fun a => by rw [hNn.2, List.mem_cons]; exact or_congr Iff.rfl (hM a))) dJ40_putTreeVal_306 rfl q1717 q1718 q131 q1719 rfl rfl moJ40_moveRootToFront rfl rfl (by decide) (by decide) (Nat.le_of_ble_eq_true rfl) (Nat.le_of_ble_eq_true rfl) (Nat.le_of_ble_eq_true rfl) (fun _ _ hx => noX_x hx) (fun v306 L1 hp306 => ?_)
            obtain ⟨nx2306, pv2306, u1_306, rfl, rfl, hu1_306, hC2_306⟩ := hp306
            refine (show Go g κ 309 [some (.ref a), some (.ref h), some (.ref tl), some (.int hh), some (.ref k), some (.ref v), some (.null), some (.int (nI 0)), some (.ref root), some (.null), some (.int (-1)), some (.int (hs x)), none, some (.ref x), some (.null), some (.ref a236)] [] [[(h, .inr (23, [.null, .null, va_rf otl, .null, .int (nI n), .int (nI md), .int (nI thr), .float lfac]))], [(tl, .inl (g.2.1 6, cap, .inr (.inr (.inr (.inr (va_up tab ix (some root2303)))))))], u1_306] 0 0 from ?_)
            have hrm : root2303 ∈ u0 ++ x :: a236 :: v0 := (hNn.2 _).mpr (by have hz := tr_tm hT2_303 rfl; rcases List.mem_cons.mp hz with e | e; exact Or.inl e; exact Or.inr ((hM _).mpr e))
            refine g_aconst_null (q := 310) B dJ40_putTreeVal_309 rfl ?_
            exact g_aret B E dJ40_putTreeVal_310 (by first | exact Or.inl ⟨_, rfl⟩ | exact Or.inr ⟨_, rfl⟩) rv_n (⟨a236, nx2306, pv2306, lf2303, rg2303, pp2303, rd2303, lo2303, hi2303, root2303, _, _, rfl, rfl, hu1_306, hnn, hT2_303, hC2_306.1, hC2_306.2, (nd_front hNn.1 hrm).1, fun a => ((nd_front hNn.1 hrm).2 a).trans (by rw [hNn.2, List.mem_cons]; exact or_congr Iff.rfl (hM a))⟩)
          · skip
            rw [c285]
            refine (show Go g κ 288 [some (.ref a), some (.ref h), some (.ref tl), some (.int hh), some (.ref k), some (.ref v), some (.null), some (.int (nI 0)), some (.ref root), some (.null), some (.int (-1)), some (.int (hs x)), none, some (.ref x), some (.ref nxx_a285), some (.ref a236)] [] [[(h, .inr (23, [.null, .null, va_rf otl, .null, .int (nI n), .int (nI md), .int (nI thr), .float lfac]))], [(tl, .inl (g.2.1 6, cap, .inr (.inr (.inr (.inr tab)))))], wa_23_280] 0 0 from ?_)
            have hyv : v0.head? = some nxx_a285 := by rw [← hnx]; exact c285
            have hyn : nxx_a285 ∈ ns := (hM nxx_a285).mp (by have := List.mem_of_mem_head? (show nxx_a285 ∈ v0.head? by rw [hyv]; rfl); simp [this])
            have hym : nxx_a285 ≠ a236 := fun e => hnn (e ▸ hyn)
            refine g_aload (q := 290) B dJ40_putTreeVal_288 rfl rfl (rv_r _) ?_
            refine g_castRS (ci := 25) (q := 293) B rfl (rc_in B (ci := 25) rfl (k := 2) rfl ⟨_, TNG.mem hwa_23_280 (List.mem_cons_of_mem _ hyn)⟩) dJ40_putTreeVal_290 rfl q1662 ?_
            refine g_aload (q := 295) B dJ40_putTreeVal_293 rfl rfl (rv_r _) ?_
            refine g_putTNG9 (q := 298) (k := 2) (x := some a236) B hwa_23_280 (List.mem_cons_of_mem _ hyn) dJ40_putTreeVal_295 rfl rfl q1745 (Or.inl rfl) (fun wa_24_295 hwa_24_295 => ?_)
            refine (show Go g κ 298 [some (.ref a), some (.ref h), some (.ref tl), some (.int hh), some (.ref k), some (.ref v), some (.null), some (.int (nI 0)), some (.ref root), some (.null), some (.int (-1)), some (.int (hs x)), none, some (.ref x), some (.ref nxx_a285), some (.ref a236)] [] [[(h, .inr (23, [.null, .null, va_rf otl, .null, .int (nI n), .int (nI md), .int (nI thr), .float lfac]))], [(tl, .inl (g.2.1 6, cap, .inr (.inr (.inr (.inr tab)))))], wa_24_295] 0 0 from ?_)
            refine g_aload_n (q := 299) B dJ40_putTreeVal_298 rfl rfl (rv_r _) ?_
            refine g_aload (q := 301) B dJ40_putTreeVal_299 rfl rfl (rv_r _) ?_
            have hfin : TNG g (a236 :: ns) (fup hs a236 hh) (fup ky a236 k) (fup vl a236 v) (fup (fup nx a236 (nx x)) x (some a236)) (fup pp a236 (some x)) (fup (fup lf a236 none) x (some a236)) (fup rg a236 none) (pvH (fup pv a236 (some x)) v0.head? (some a236)) (fup rd a236 false) wa_24_295 := TNG.congr hwa_24_295 (fun e he => by
              refine ⟨rfl, rfl, rfl, ?_, ?_, rfl, rfl, ?_, rfl⟩
              · first | rfl | (rw [c285])
              · rw [fup_fup]
              · rw [← hnx, c285]; first | (simp only [pvH, fup_fup]) | rfl)
            have hTn := tr_insL hT hnn hx c218 hp.2.1 (by show hrk hh < hrk (hs x); have := (not_congr hrk_le).mp c36; omega)
            rw [hk_fup] at hTn
            have hCn := ch_ins (x := a236) hC hN hnm0
            have hPn := pc_ins (x := a236) hP hN hnm0
            have hNn := nd_ins hN hnm0
            refine g_aload (q := 303) B dJ40_putTreeVal_301 rfl rfl (rv_r _) ?_
            refine g_callS (q := 306) (is := [2]) (kc2 := 0) (ks2 := 0) B [.ref root, .ref a236] (ct_J40_balanceInsertion g J (ns := (a236 :: ns)) (hs := (fup hs a236 hh)) (ky := (fup ky a236 k)) (vl := (fup vl a236 v)) (nx := (fup (fup nx a236 (nx x)) x (some a236))) (pp := (fup pp a236 (some x))) (lf := (fup (fup lf a236 none) x (some a236))) (rg := (fup rg a236 none)) (pv := (pvH (fup pv a236 (some x)) v0.head? (some a236))) (rd := (fup rd a236 false)) (key := (fun a => hrk (fup hs a236 hh a))) (lo := _) (hi := _) (root := root) (x := a236) hfin (hTn) (List.mem_cons_self)) dJ40_putTreeVal_303 rfl q1708 q1709 q131 q1710 rfl rfl moJ40_balanceInsertion rfl rfl (by decide) (by decide) (Nat.le_of_ble_eq_true rfl) (Nat.le_of_ble_eq_true rfl) (Nat.le_of_ble_eq_true rfl) (fun _ _ hx => noX_x hx) (fun v303 L1 hp303 => ?_)
            obtain ⟨root2303, lf2303, rg2303, pp2303, rd2303, lo2303, hi2303, u0_303, rfl, rfl, hu0_303, hT2_303⟩ := hp303
            refine (show Go g κ 306 [some (.ref a), some (.ref h), some (.ref tl), some (.int hh), some (.ref k), some (.ref v), some (.null), some (.int (nI 0)), some (.ref root), some (.null), some (.int (-1)), some (.int (hs x)), none, some (.ref x), some (.ref nxx_a285), some (.ref a236)] [.ref root2303, .ref tl] [[(h, .inr (23, [.null, .null, va_rf otl, .null, .int (nI n), .int (nI md), .int (nI thr), .float lfac]))], [(tl, .inl (g.2.1 6, cap, .inr (.inr (.inr (.inr tab)))))], u0_303] 0 0 from ?_)
            refine g_callS (q := 309) (is := [1, 1]) (kc2 := 0) (ks2 := 0) B [.ref tl, .ref root2303] (ct_J40_moveRootToFront g J (tl := tl) (cap := cap) (tab := tab) (ix := ix) (cs := (u0 ++ x :: a236 :: v0)) (ns := (a236 :: ns)) (hs := (fup hs a236 hh)) (ky := (fup ky a236 k)) (vl := (fup vl a236 v)) (nx := (fup (fup nx a236 (nx x)) x (some a236))) (pp := pp2303) (lf := lf2303) (rg := rg2303) (pv := (pvH (fup pv a236 (some x)) v0.head? (some a236))) (rd := rd2303) (root := root2303) hu0_303 (by first | assumption | omega | rfl) (by first | assumption | omega | rfl) (by
                have hz := tr_tm hT2_303 rfl
                rcases List.mem_cons.mp hz with e | e
                · rw [e, fup_s]; exact hixn
                · rw [fup_n (fun (q : _ = a236) => hnn (q ▸ e))]; exact hix _ e) (by first | assumption | omega | rfl) (tr_tm hT2_303 rfl) (hCn) (hPn) (hNn.1) (fun a => by rw [hNn.2, List.mem_cons]; exact or_congr Iff.rfl (hM a))) dJ40_putTreeVal_306 rfl q1717 q1718 q131 q1719 rfl rfl moJ40_moveRootToFront rfl rfl (by decide) (by decide) (Nat.le_of_ble_eq_true rfl) (Nat.le_of_ble_eq_true rfl) (Nat.le_of_ble_eq_true rfl) (fun _ _ hx => noX_x hx) (fun v306 L1 hp306 => ?_)
            obtain ⟨nx2306, pv2306, u1_306, rfl, rfl, hu1_306, hC2_306⟩ := hp306
            refine (show Go g κ 309 [some (.ref a), some (.ref h), some (.ref tl), some (.int hh), some (.ref k), some (.ref v), some (.null), some (.int (nI 0)), some (.ref root), some (.null), some (.int (-1)), some (.int (hs x)), none, some (.ref x), some (.ref nxx_a285), some (.ref a236)] [] [[(h, .inr (23, [.null, .null, va_rf otl, .null, .int (nI n), .int (nI md), .int (nI thr), .float lfac]))], [(tl, .inl (g.2.1 6, cap, .inr (.inr (.inr (.inr (va_up tab ix (some root2303)))))))], u1_306] 0 0 from ?_)
            have hrm : root2303 ∈ u0 ++ x :: a236 :: v0 := (hNn.2 _).mpr (by have hz := tr_tm hT2_303 rfl; rcases List.mem_cons.mp hz with e | e; exact Or.inl e; exact Or.inr ((hM _).mpr e))
            refine g_aconst_null (q := 310) B dJ40_putTreeVal_309 rfl ?_
            exact g_aret B E dJ40_putTreeVal_310 (by first | exact Or.inl ⟨_, rfl⟩ | exact Or.inr ⟨_, rfl⟩) rv_n (⟨a236, nx2306, pv2306, lf2303, rg2303, pp2303, rd2303, lo2303, hi2303, root2303, _, _, rfl, rfl, hu1_306, hnn, hT2_303, hC2_306.1, hC2_306.2, (nd_front hNn.1 hrm).1, fun a => ((nd_front hNn.1 hrm).2 a).trans (by rw [hNn.2, List.mem_cons]; exact or_congr Iff.rfl (hM a))⟩)
    exact lp27 _ root (tr_tm hT rfl) (by have z := hT.2.2.2.2.2.2.2.2.2 root rfl; exact ⟨z.1, by omega, by rw [z.2.2.2]; exact hrk_lt _⟩) rfl
