set_option maxRecDepth 100000
theorem ct_J10_parentOf_r (g : Gv) (J : Jd g) {ns : List Nat} {key : Nat → Nat} {val : Nat → Nat} {l : Nat → Option Nat} {r : Nat → Option Nat} {p : Nat → Option Nat} {col : Nat → Bool} {a : Nat} {w0 : va_W} (hw0 : EntG g ns key val l r p col w0) (ha : a ∈ ns) : Ct g yJ10_parentOf (ws_ yJ10_parentOf cJ10_parentOf 1 (some (.object "java/util/TreeMap$Entry"))) 0 0 0 [.ref a] [w0] (fun (rv_ : Option Value) (rL_ : List va_W) => rv_ = some (va_rf (p a)) ∧ rL_ = [w0]) noX := by
  refine Ct.of "java/util/TreeMap" [some (.ref a)] rfl (by decide) rfl (Nat.le_of_ble_eq_true rfl) rfl ?_
  intro κ B E tb
  refine g_aload_n (q := 1) B dJ10_parentOf_0 rfl rfl (rv_r _) ?_
  refine g_ifnonnull_r (tgt := 8) B dJ10_parentOf_1 (by decide) ?_
  refine g_aload_n (q := 9) B dJ10_parentOf_8 rfl rfl (rv_r _) ?_
  refine g_getM (v := va_rf (p a)) (q := 12) B (ci := 28) (k := 0) (j := 4) in_J37 rfl dJ10_parentOf_9 rfl rfl (EntG.mem hw0 ha) (Nat.le_of_ble_eq_true rfl) q2117 rfl rfl ?_
  exact g_aret B E dJ10_parentOf_12 (by first | exact Or.inl ⟨_, rfl⟩ | exact Or.inr ⟨_, rfl⟩) (rv_o _) (⟨rfl, rfl⟩)
theorem ct_J10_parentOf_n (g : Gv) (J : Jd g)  : Ct g yJ10_parentOf (ws_ yJ10_parentOf cJ10_parentOf 1 (some (.object "java/util/TreeMap$Entry"))) 0 0 0 [.null] [] (fun (rv_ : Option Value) (rL_ : List va_W) => rv_ = some (.null) ∧ rL_ = []) noX := by
  refine Ct.of "java/util/TreeMap" [some (.null)] rfl (by decide) rfl (Nat.le_of_ble_eq_true rfl) rfl ?_
  intro κ B E tb
  refine g_aload_n (q := 1) B dJ10_parentOf_0 rfl rfl rv_n ?_
  refine g_ifnonnull_n (q := 4) B dJ10_parentOf_1 rfl ?_
  refine g_aconst_null (q := 5) B dJ10_parentOf_4 rfl ?_
  refine g_goto (tgt := 12) B dJ10_parentOf_5 (by decide) ?_
  exact g_aret B E dJ10_parentOf_12 (by first | exact Or.inl ⟨_, rfl⟩ | exact Or.inr ⟨_, rfl⟩) rv_n (⟨rfl, rfl⟩)
theorem ct_J10_leftOf_r (g : Gv) (J : Jd g) {ns : List Nat} {key : Nat → Nat} {val : Nat → Nat} {l : Nat → Option Nat} {r : Nat → Option Nat} {p : Nat → Option Nat} {col : Nat → Bool} {a : Nat} {w0 : va_W} (hw0 : EntG g ns key val l r p col w0) (ha : a ∈ ns) : Ct g yJ10_leftOf (ws_ yJ10_leftOf cJ10_leftOf 1 (some (.object "java/util/TreeMap$Entry"))) 0 0 0 [.ref a] [w0] (fun (rv_ : Option Value) (rL_ : List va_W) => rv_ = some (va_rf (l a)) ∧ rL_ = [w0]) noX := by
  refine Ct.of "java/util/TreeMap" [some (.ref a)] rfl (by decide) rfl (Nat.le_of_ble_eq_true rfl) rfl ?_
  intro κ B E tb
  refine g_aload_n (q := 1) B dJ10_leftOf_0 rfl rfl (rv_r _) ?_
  refine g_ifnonnull_r (tgt := 8) B dJ10_leftOf_1 (by decide) ?_
  refine g_aload_n (q := 9) B dJ10_leftOf_8 rfl rfl (rv_r _) ?_
  refine g_getM (v := va_rf (l a)) (q := 12) B (ci := 28) (k := 0) (j := 2) in_J37 rfl dJ10_leftOf_9 rfl rfl (EntG.mem hw0 ha) (Nat.le_of_ble_eq_true rfl) q2113 rfl rfl ?_
  exact g_aret B E dJ10_leftOf_12 (by first | exact Or.inl ⟨_, rfl⟩ | exact Or.inr ⟨_, rfl⟩) (rv_o _) (⟨rfl, rfl⟩)
theorem ct_J10_leftOf_n (g : Gv) (J : Jd g)  : Ct g yJ10_leftOf (ws_ yJ10_leftOf cJ10_leftOf 1 (some (.object "java/util/TreeMap$Entry"))) 0 0 0 [.null] [] (fun (rv_ : Option Value) (rL_ : List va_W) => rv_ = some (.null) ∧ rL_ = []) noX := by
  refine Ct.of "java/util/TreeMap" [some (.null)] rfl (by decide) rfl (Nat.le_of_ble_eq_true rfl) rfl ?_
  intro κ B E tb
  refine g_aload_n (q := 1) B dJ10_leftOf_0 rfl rfl rv_n ?_
  refine g_ifnonnull_n (q := 4) B dJ10_leftOf_1 rfl ?_
  refine g_aconst_null (q := 5) B dJ10_leftOf_4 rfl ?_
  refine g_goto (tgt := 12) B dJ10_leftOf_5 (by decide) ?_
  exact g_aret B E dJ10_leftOf_12 (by first | exact Or.inl ⟨_, rfl⟩ | exact Or.inr ⟨_, rfl⟩) rv_n (⟨rfl, rfl⟩)
theorem ct_J10_rightOf_r (g : Gv) (J : Jd g) {ns : List Nat} {key : Nat → Nat} {val : Nat → Nat} {l : Nat → Option Nat} {r : Nat → Option Nat} {p : Nat → Option Nat} {col : Nat → Bool} {a : Nat} {w0 : va_W} (hw0 : EntG g ns key val l r p col w0) (ha : a ∈ ns) : Ct g yJ10_rightOf (ws_ yJ10_rightOf cJ10_rightOf 1 (some (.object "java/util/TreeMap$Entry"))) 0 0 0 [.ref a] [w0] (fun (rv_ : Option Value) (rL_ : List va_W) => rv_ = some (va_rf (r a)) ∧ rL_ = [w0]) noX := by
  refine Ct.of "java/util/TreeMap" [some (.ref a)] rfl (by decide) rfl (Nat.le_of_ble_eq_true rfl) rfl ?_
  intro κ B E tb
  refine g_aload_n (q := 1) B dJ10_rightOf_0 rfl rfl (rv_r _) ?_
  refine g_ifnonnull_r (tgt := 8) B dJ10_rightOf_1 (by decide) ?_
  refine g_aload_n (q := 9) B dJ10_rightOf_8 rfl rfl (rv_r _) ?_
  refine g_getM (v := va_rf (r a)) (q := 12) B (ci := 28) (k := 0) (j := 3) in_J37 rfl dJ10_rightOf_9 rfl rfl (EntG.mem hw0 ha) (Nat.le_of_ble_eq_true rfl) q2115 rfl rfl ?_
  exact g_aret B E dJ10_rightOf_12 (by first | exact Or.inl ⟨_, rfl⟩ | exact Or.inr ⟨_, rfl⟩) (rv_o _) (⟨rfl, rfl⟩)
theorem ct_J10_rightOf_n (g : Gv) (J : Jd g)  : Ct g yJ10_rightOf (ws_ yJ10_rightOf cJ10_rightOf 1 (some (.object "java/util/TreeMap$Entry"))) 0 0 0 [.null] [] (fun (rv_ : Option Value) (rL_ : List va_W) => rv_ = some (.null) ∧ rL_ = []) noX := by
  refine Ct.of "java/util/TreeMap" [some (.null)] rfl (by decide) rfl (Nat.le_of_ble_eq_true rfl) rfl ?_
  intro κ B E tb
  refine g_aload_n (q := 1) B dJ10_rightOf_0 rfl rfl rv_n ?_
  refine g_ifnonnull_n (q := 4) B dJ10_rightOf_1 rfl ?_
  refine g_aconst_null (q := 5) B dJ10_rightOf_4 rfl ?_
  refine g_goto (tgt := 12) B dJ10_rightOf_5 (by decide) ?_
  exact g_aret B E dJ10_rightOf_12 (by first | exact Or.inl ⟨_, rfl⟩ | exact Or.inr ⟨_, rfl⟩) rv_n (⟨rfl, rfl⟩)
theorem ct_J10_colorOf_r (g : Gv) (J : Jd g) {ns : List Nat} {key : Nat → Nat} {val : Nat → Nat} {l : Nat → Option Nat} {r : Nat → Option Nat} {p : Nat → Option Nat} {col : Nat → Bool} {a : Nat} {w0 : va_W} (hw0 : EntG g ns key val l r p col w0) (ha : a ∈ ns) : Ct g yJ10_colorOf (ws_ yJ10_colorOf cJ10_colorOf 1 (some .boolean)) 0 0 0 [.ref a] [w0] (fun (rv_ : Option Value) (rL_ : List va_W) => rv_ = some (.int (nI (if col a = true then 1 else 0))) ∧ rL_ = [w0]) noX := by
  refine Ct.of "java/util/TreeMap" [some (.ref a)] rfl (by decide) rfl (Nat.le_of_ble_eq_true rfl) rfl ?_
  intro κ B E tb
  refine g_aload_n (q := 1) B dJ10_colorOf_0 rfl rfl (rv_r _) ?_
  refine g_ifnonnull_r (tgt := 8) B dJ10_colorOf_1 (by decide) ?_
  refine g_aload_n (q := 9) B dJ10_colorOf_8 rfl rfl (rv_r _) ?_
  refine g_getM (v := .int (nI (if col a = true then 1 else 0))) (q := 12) B (ci := 28) (k := 0) (j := 5) in_J37 rfl dJ10_colorOf_9 rfl rfl (EntG.mem hw0 ha) (Nat.le_of_ble_eq_true rfl) q2119 rfl rfl ?_
  exact g_zret B E dJ10_colorOf_12 (by cases col a <;> rfl) (⟨rfl, rfl⟩)
theorem ct_J10_colorOf_n (g : Gv) (J : Jd g)  : Ct g yJ10_colorOf (ws_ yJ10_colorOf cJ10_colorOf 1 (some .boolean)) 0 0 0 [.null] [] (fun (rv_ : Option Value) (rL_ : List va_W) => rv_ = some (.int (nI 1)) ∧ rL_ = []) noX := by
  refine Ct.of "java/util/TreeMap" [some (.null)] rfl (by decide) rfl (Nat.le_of_ble_eq_true rfl) rfl ?_
  intro κ B E tb
  refine g_aload_n (q := 1) B dJ10_colorOf_0 rfl rfl rv_n ?_
  refine g_ifnonnull_n (q := 4) B dJ10_colorOf_1 rfl ?_
  refine g_iconst (v := nI 1) (q := 5) B dJ10_colorOf_4 rfl (by decide) ?_
  refine g_goto (tgt := 12) B dJ10_colorOf_5 (by decide) ?_
  exact g_zret B E dJ10_colorOf_12 (by decide) (⟨rfl, rfl⟩)
theorem ct_J10_setColor_r (g : Gv) (J : Jd g) {ns : List Nat} {key : Nat → Nat} {val : Nat → Nat} {l : Nat → Option Nat} {r : Nat → Option Nat} {p : Nat → Option Nat} {col : Nat → Bool} {a : Nat} {c : Bool} {w0 : va_W} (hw0 : EntG g ns key val l r p col w0) (ha : a ∈ ns) : Ct g yJ10_setColor (ws_ yJ10_setColor cJ10_setColor 2 none) 0 0 0 [.ref a, .int (nI (if c = true then 1 else 0))] [w0] (fun (rv_ : Option Value) (rL_ : List va_W) => ∃ (u0 : va_W), rv_ = none ∧ rL_ = [u0] ∧ EntG g ns key val l r p (fup col a c) u0) noX := by
  refine Ct.of "java/util/TreeMap" [some (.ref a), some (.int (nI (if c = true then 1 else 0)))] rfl (by decide) rfl (Nat.le_of_ble_eq_true rfl) rfl ?_
  intro κ B E tb
  refine g_aload_n (q := 1) B dJ10_setColor_0 rfl rfl (rv_r _) ?_
  refine g_ifnull_r (q := 4) B dJ10_setColor_1 rfl ?_
  refine g_aload_n (q := 5) B dJ10_setColor_4 rfl rfl (rv_r _) ?_
  refine g_iload_n (q := 6) B dJ10_setColor_5 rfl rfl ?_
  refine g_putE5 (q := 9) (k := 0) (x := c) B hw0 ha dJ10_setColor_6 rfl rfl q2119 (fun we_1_6 hwe_1_6 => ?_)
  refine (show Go g κ 9 [some (.ref a), some (.int (nI (if c = true then 1 else 0)))] [] [we_1_6] 0 0 from ?_)
  exact g_vret B E dJ10_setColor_9 (⟨we_1_6, rfl, rfl, hwe_1_6⟩)
theorem ct_J10_setColor_n (g : Gv) (J : Jd g) {c : Bool} : Ct g yJ10_setColor (ws_ yJ10_setColor cJ10_setColor 2 none) 0 0 0 [.null, .int (nI (if c = true then 1 else 0))] [] (fun (rv_ : Option Value) (rL_ : List va_W) => rv_ = none ∧ rL_ = []) noX := by
  refine Ct.of "java/util/TreeMap" [some (.null), some (.int (nI (if c = true then 1 else 0)))] rfl (by decide) rfl (Nat.le_of_ble_eq_true rfl) rfl ?_
  intro κ B E tb
  refine g_aload_n (q := 1) B dJ10_setColor_0 rfl rfl rv_n ?_
  refine g_ifnull_n (tgt := 9) B dJ10_setColor_1 (by decide) ?_
  exact g_vret B E dJ10_setColor_9 (⟨rfl, rfl⟩)
theorem ct_J10_rotateLeft (g : Gv) (J : Jd g) {t : Nat} {vs : Option Nat} {n : Nat} {md : Nat} {es : Option Nat} {nk : Option Nat} {ns : List Nat} {key : Nat → Nat} {val : Nat → Nat} {l : Nat → Option Nat} {r : Nat → Option Nat} {p : Nat → Option Nat} {col : Nat → Bool} {lo : Nat → Nat} {hi : Nat → Nat} {root : Option Nat} {M : Nat} {kc : Nat → Nat} {a : Nat} {b : Nat} {w1 : va_W} (hw1 : EntG g ns kc val l r p col w1) (hT : Tr ns key l r p lo hi root M) (ha : a ∈ ns) (hb : r a = some b) : Ct g yJ10_rotateLeft (ws_ yJ10_rotateLeft cJ10_rotateLeft 3 none) 0 0 0 [.ref t, .ref a] [[(t, .inr (27, [.null, va_rf vs, .null, va_rf root, .int (nI n), .int (nI md), va_rf es, va_rf nk, .null]))], w1] (fun (rv_ : Option Value) (rL_ : List va_W) => ∃ (u1 : va_W), rv_ = none ∧ rL_ = [[(t, .inr (27, [.null, va_rf vs, .null, va_rf (rlRoot root a b), .int (nI n), .int (nI md), va_rf es, va_rf nk, .null]))], u1] ∧ EntG g ns kc val (rlL l a b) (rlR l r a b) (rlP l p a b) col u1 ∧ (Tr ns key (rlL l a b) (rlR l r a b) (rlP l p a b) (fup lo b (lo a)) (fup (fup hi b (hi a)) a (key b)) (rlRoot root a b) M)) noX := by
  refine Ct.of "java/util/TreeMap" [some (.ref t), some (.ref a), none] rfl (by decide) rfl (Nat.le_of_ble_eq_true rfl) rfl ?_
  intro κ B E tb
  obtain ⟨h1, h2, h3, h4, h5, h6, h7, h8, h9, h10⟩ := id hT
  have q1 := h6 a ha b hb
  have q2 := h2 a ha
  have q3 := h2 b q1.1
  have hab : a ≠ b := by rintro rfl; omega
  refine g_aload_n (q := 1) B dJ10_rotateLeft_0 rfl rfl (rv_r _) ?_
  refine g_ifnull_r (q := 4) B dJ10_rotateLeft_1 rfl ?_
  refine g_aload_n (q := 5) B dJ10_rotateLeft_4 rfl rfl (rv_r _) ?_
  refine g_getM (v := .ref b) (q := 8) B (ci := 28) (k := 1) (j := 3) in_J37 rfl dJ10_rotateLeft_5 rfl rfl (EntG.mem hw1 ha) (Nat.le_of_ble_eq_true rfl) q2115 rfl (congrArg some (congrArg va_rf hb)) ?_
  refine g_astore_n (q := 9) (lv2 := [some (.ref t), some (.ref a), some (.ref b)]) B dJ10_rotateLeft_8 rfl (Nat.le_of_ble_eq_true rfl) (rv_r _) rfl ?_
  refine g_aload_n (q := 10) B dJ10_rotateLeft_9 rfl rfl (rv_r _) ?_
  refine g_aload_n (q := 11) B dJ10_rotateLeft_10 rfl rfl (rv_r _) ?_
  refine g_getM (v := va_rf (l b)) (q := 14) B (ci := 28) (k := 1) (j := 2) in_J37 rfl dJ10_rotateLeft_11 rfl rfl (EntG.mem hw1 q1.1) (Nat.le_of_ble_eq_true rfl) q2113 rfl rfl ?_
  refine g_putE3 (q := 17) (k := 1) (x := l b) B hw1 ha dJ10_rotateLeft_14 rfl rfl q2115 (fun we_1_14 hwe_1_14 => ?_)
  refine (show Go g κ 17 [some (.ref t), some (.ref a), some (.ref b)] [] [[(t, .inr (27, [.null, va_rf vs, .null, va_rf root, .int (nI n), .int (nI md), va_rf es, va_rf nk, .null]))], we_1_14] 0 0 from ?_)
  refine g_aload_n (q := 18) B dJ10_rotateLeft_17 rfl rfl (rv_r _) ?_
  refine g_getM (v := va_rf (l b)) (q := 21) B (ci := 28) (k := 1) (j := 2) in_J37 rfl dJ10_rotateLeft_18 rfl rfl (EntG.mem hwe_1_14 q1.1) (Nat.le_of_ble_eq_true rfl) q2113 rfl rfl ?_
  refine g_ifnull_o (tgt := 32) (q := 24) B dJ10_rotateLeft_21 rfl (by decide) (fun c21 => ?_) (fun lb_a21 c21 => ?_)
  · skip
    refine g_aload_n (q := 33) B dJ10_rotateLeft_32 rfl rfl (rv_r _) ?_
    refine g_aload_n (q := 34) B dJ10_rotateLeft_33 rfl rfl (rv_r _) ?_
    refine g_getM (v := va_rf (p a)) (q := 37) B (ci := 28) (k := 1) (j := 4) in_J37 rfl dJ10_rotateLeft_34 rfl rfl (EntG.mem hwe_1_14 ha) (Nat.le_of_ble_eq_true rfl) q2117 rfl rfl ?_
    refine g_putE4 (q := 40) (k := 1) (x := p a) B hwe_1_14 q1.1 dJ10_rotateLeft_37 rfl rfl q2117 (fun we_2_37 hwe_2_37 => ?_)
    refine (show Go g κ 40 [some (.ref t), some (.ref a), some (.ref b)] [] [[(t, .inr (27, [.null, va_rf vs, .null, va_rf root, .int (nI n), .int (nI md), va_rf es, va_rf nk, .null]))], we_2_37] 0 0 from ?_)
    refine g_aload_n (q := 41) B dJ10_rotateLeft_40 rfl rfl (rv_r _) ?_
    refine g_getM (v := va_rf (p a)) (q := 44) B (ci := 28) (k := 1) (j := 4) in_J37 rfl dJ10_rotateLeft_41 rfl rfl (EntG.mem hwe_2_37 ha) (Nat.le_of_ble_eq_true rfl) q2117 rfl (congrArg some (congrArg va_rf (fup_n hab))) ?_
    refine g_ifnonnull_o (tgt := 55) (q := 47) B dJ10_rotateLeft_44 rfl (by decide) (fun pa_a44 c44 => ?_) (fun c44 => ?_)
    · skip
      have q6 := h8 a ha pa_a44 c44
      have q7 := h2 pa_a44 q6.1
      have q8 := h4 pa_a44 q6.1
      have q9 := h6 pa_a44 q6.1
      have hpa : pa_a44 ≠ a := by rintro rfl; grind
      have hpb : pa_a44 ≠ b := by rintro rfl; grind
      refine g_aload_n (q := 56) B dJ10_rotateLeft_55 rfl rfl (rv_r _) ?_
      refine g_getM (v := .ref pa_a44) (q := 59) B (ci := 28) (k := 1) (j := 4) in_J37 rfl dJ10_rotateLeft_56 rfl rfl (EntG.mem hwe_2_37 ha) (Nat.le_of_ble_eq_true rfl) q2117 rfl (congrArg some (congrArg va_rf ((fup_n hab).trans c44))) ?_
      refine g_getM (v := va_rf (l pa_a44)) (q := 62) B (ci := 28) (k := 1) (j := 2) in_J37 rfl dJ10_rotateLeft_59 rfl rfl (EntG.mem hwe_2_37 (tr_pm hT ha c44)) (Nat.le_of_ble_eq_true rfl) q2113 rfl rfl ?_
      refine g_aload_n (q := 63) B dJ10_rotateLeft_62 rfl rfl (rv_r _) ?_
      refine g_acmp_ne (rx := l pa_a44) (ry := some a) (tgt := 77) (q := 66) B dJ10_rotateLeft_63 rfl (by decide) rfl rfl (Iff.rfl) (fun c63 => ?_) (fun c63 => ?_)
      · skip
        refine g_aload_n (q := 78) B dJ10_rotateLeft_77 rfl rfl (rv_r _) ?_
        refine g_getM (v := .ref pa_a44) (q := 81) B (ci := 28) (k := 1) (j := 4) in_J37 rfl dJ10_rotateLeft_78 rfl rfl (EntG.mem hwe_2_37 ha) (Nat.le_of_ble_eq_true rfl) q2117 rfl (congrArg some (congrArg va_rf ((fup_n hab).trans c44))) ?_
        refine g_aload_n (q := 82) B dJ10_rotateLeft_81 rfl rfl (rv_r _) ?_
        refine g_putE3 (q := 85) (k := 1) (x := some b) B hwe_2_37 (tr_pm hT ha c44) dJ10_rotateLeft_82 rfl rfl q2115 (fun we_3_82 hwe_3_82 => ?_)
        refine (show Go g κ 85 [some (.ref t), some (.ref a), some (.ref b)] [] [[(t, .inr (27, [.null, va_rf vs, .null, va_rf root, .int (nI n), .int (nI md), va_rf es, va_rf nk, .null]))], we_3_82] 0 0 from ?_)
        refine g_aload_n (q := 86) B dJ10_rotateLeft_85 rfl rfl (rv_r _) ?_
        refine g_aload_n (q := 87) B dJ10_rotateLeft_86 rfl rfl (rv_r _) ?_
        refine g_putE2 (q := 90) (k := 1) (x := some a) B hwe_3_82 q1.1 dJ10_rotateLeft_87 rfl rfl q2113 (fun we_4_87 hwe_4_87 => ?_)
        refine (show Go g κ 90 [some (.ref t), some (.ref a), some (.ref b)] [] [[(t, .inr (27, [.null, va_rf vs, .null, va_rf root, .int (nI n), .int (nI md), va_rf es, va_rf nk, .null]))], we_4_87] 0 0 from ?_)
        refine g_aload_n (q := 91) B dJ10_rotateLeft_90 rfl rfl (rv_r _) ?_
        refine g_aload_n (q := 92) B dJ10_rotateLeft_91 rfl rfl (rv_r _) ?_
        refine g_putE4 (q := 95) (k := 1) (x := some b) B hwe_4_87 ha dJ10_rotateLeft_92 rfl rfl q2117 (fun we_5_92 hwe_5_92 => ?_)
        refine (show Go g κ 95 [some (.ref t), some (.ref a), some (.ref b)] [] [[(t, .inr (27, [.null, va_rf vs, .null, va_rf root, .int (nI n), .int (nI md), va_rf es, va_rf nk, .null]))], we_5_92] 0 0 from ?_)
        have hrt : rlRoot root a b = root := by
          unfold rlRoot; grind
        have hl1 : ∀ d ∈ ns, l d = some a → p a = some d := fun d hd e => (h4 d hd a e).2.1
        have hr1 : ∀ d ∈ ns, r d = some a → p a = some d := fun d hd e => (h6 d hd a e).2.1
        have hfin : EntG g ns kc val (rlL l a b) (rlR l r a b) (rlP l p a b) col we_5_92 := EntG.congr hwe_5_92 (fun d hd => by
          have z1 := hl1 d hd
          have z2 := hr1 d hd
          refine ⟨rfl, rfl, ?_, ?_, ?_, rfl⟩ <;> grind [fup, rlL, rlR, rlP])
        exact g_vret B E dJ10_rotateLeft_95 (⟨we_5_92, rfl, by rw [hrt] <;> rfl, hfin, tr_rotL hT ha hb⟩)
      · skip
        refine g_aload_n (q := 67) B dJ10_rotateLeft_66 rfl rfl (rv_r _) ?_
        refine g_getM (v := .ref pa_a44) (q := 70) B (ci := 28) (k := 1) (j := 4) in_J37 rfl dJ10_rotateLeft_67 rfl rfl (EntG.mem hwe_2_37 ha) (Nat.le_of_ble_eq_true rfl) q2117 rfl (congrArg some (congrArg va_rf ((fup_n hab).trans c44))) ?_
        refine g_aload_n (q := 71) B dJ10_rotateLeft_70 rfl rfl (rv_r _) ?_
        refine g_putE2 (q := 74) (k := 1) (x := some b) B hwe_2_37 (tr_pm hT ha c44) dJ10_rotateLeft_71 rfl rfl q2113 (fun we_6_71 hwe_6_71 => ?_)
        refine (show Go g κ 74 [some (.ref t), some (.ref a), some (.ref b)] [] [[(t, .inr (27, [.null, va_rf vs, .null, va_rf root, .int (nI n), .int (nI md), va_rf es, va_rf nk, .null]))], we_6_71] 0 0 from ?_)
        refine g_goto (tgt := 85) B dJ10_rotateLeft_74 (by decide) ?_
        refine g_aload_n (q := 86) B dJ10_rotateLeft_85 rfl rfl (rv_r _) ?_
        refine g_aload_n (q := 87) B dJ10_rotateLeft_86 rfl rfl (rv_r _) ?_
        refine g_putE2 (q := 90) (k := 1) (x := some a) B hwe_6_71 q1.1 dJ10_rotateLeft_87 rfl rfl q2113 (fun we_7_87 hwe_7_87 => ?_)
        refine (show Go g κ 90 [some (.ref t), some (.ref a), some (.ref b)] [] [[(t, .inr (27, [.null, va_rf vs, .null, va_rf root, .int (nI n), .int (nI md), va_rf es, va_rf nk, .null]))], we_7_87] 0 0 from ?_)
        refine g_aload_n (q := 91) B dJ10_rotateLeft_90 rfl rfl (rv_r _) ?_
        refine g_aload_n (q := 92) B dJ10_rotateLeft_91 rfl rfl (rv_r _) ?_
        refine g_putE4 (q := 95) (k := 1) (x := some b) B hwe_7_87 ha dJ10_rotateLeft_92 rfl rfl q2117 (fun we_8_92 hwe_8_92 => ?_)
        refine (show Go g κ 95 [some (.ref t), some (.ref a), some (.ref b)] [] [[(t, .inr (27, [.null, va_rf vs, .null, va_rf root, .int (nI n), .int (nI md), va_rf es, va_rf nk, .null]))], we_8_92] 0 0 from ?_)
        have hrt : rlRoot root a b = root := by
          unfold rlRoot; grind
        have hl1 : ∀ d ∈ ns, l d = some a → p a = some d := fun d hd e => (h4 d hd a e).2.1
        have hr1 : ∀ d ∈ ns, r d = some a → p a = some d := fun d hd e => (h6 d hd a e).2.1
        have hfin : EntG g ns kc val (rlL l a b) (rlR l r a b) (rlP l p a b) col we_8_92 := EntG.congr hwe_8_92 (fun d hd => by
          have z1 := hl1 d hd
          have z2 := hr1 d hd
          refine ⟨rfl, rfl, ?_, ?_, ?_, rfl⟩ <;> grind [fup, rlL, rlR, rlP])
        exact g_vret B E dJ10_rotateLeft_95 (⟨we_8_92, rfl, by rw [hrt] <;> rfl, hfin, tr_rotL hT ha hb⟩)
    · skip
      refine g_aload_n (q := 48) B dJ10_rotateLeft_47 rfl rfl (rv_r _) ?_
      refine g_aload_n (q := 49) B dJ10_rotateLeft_48 rfl rfl (rv_r _) ?_
      refine g_put (q := 52) (L2 := [[(t, .inr (27, [.null, va_rf vs, .null, .ref b, .int (nI n), .int (nI md), va_rf es, va_rf nk, .null]))], we_2_37]) B (ci := 27) (k := 0) (j := 3) in_J10 tyJ10 tyJ10_ok nmJ10 rfl dJ10_rotateLeft_49 rfl rfl (Nat.le_of_ble_eq_true rfl) q1871 rfl rfl rfl rfl (Nat.le_of_ble_eq_true rfl) rfl ?_
      refine g_goto (tgt := 85) B dJ10_rotateLeft_52 (by decide) ?_
      refine g_aload_n (q := 86) B dJ10_rotateLeft_85 rfl rfl (rv_r _) ?_
      refine g_aload_n (q := 87) B dJ10_rotateLeft_86 rfl rfl (rv_r _) ?_
      refine g_putE2 (q := 90) (k := 1) (x := some a) B hwe_2_37 q1.1 dJ10_rotateLeft_87 rfl rfl q2113 (fun we_9_87 hwe_9_87 => ?_)
      refine (show Go g κ 90 [some (.ref t), some (.ref a), some (.ref b)] [] [[(t, .inr (27, [.null, va_rf vs, .null, .ref b, .int (nI n), .int (nI md), va_rf es, va_rf nk, .null]))], we_9_87] 0 0 from ?_)
      refine g_aload_n (q := 91) B dJ10_rotateLeft_90 rfl rfl (rv_r _) ?_
      refine g_aload_n (q := 92) B dJ10_rotateLeft_91 rfl rfl (rv_r _) ?_
      refine g_putE4 (q := 95) (k := 1) (x := some b) B hwe_9_87 ha dJ10_rotateLeft_92 rfl rfl q2117 (fun we_10_92 hwe_10_92 => ?_)
      refine (show Go g κ 95 [some (.ref t), some (.ref a), some (.ref b)] [] [[(t, .inr (27, [.null, va_rf vs, .null, .ref b, .int (nI n), .int (nI md), va_rf es, va_rf nk, .null]))], we_10_92] 0 0 from ?_)
      have hrt : rlRoot root a b = some b := by
        unfold rlRoot; grind
      have hl1 : ∀ d ∈ ns, l d = some a → p a = some d := fun d hd e => (h4 d hd a e).2.1
      have hr1 : ∀ d ∈ ns, r d = some a → p a = some d := fun d hd e => (h6 d hd a e).2.1
      have hfin : EntG g ns kc val (rlL l a b) (rlR l r a b) (rlP l p a b) col we_10_92 := EntG.congr hwe_10_92 (fun d hd => by
        have z1 := hl1 d hd
        have z2 := hr1 d hd
        refine ⟨rfl, rfl, ?_, ?_, ?_, rfl⟩ <;> grind [fup, rlL, rlR, rlP])
      exact g_vret B E dJ10_rotateLeft_95 (⟨we_10_92, rfl, by rw [hrt] <;> rfl, hfin, tr_rotL hT ha hb⟩)
  · skip
    have q4 := h4 b q1.1 lb_a21 c21
    have q5 := h2 lb_a21 q4.1
    have hca : lb_a21 ≠ a := by rintro rfl; omega
    have hcb : lb_a21 ≠ b := by rintro rfl; omega
    refine g_aload_n (q := 25) B dJ10_rotateLeft_24 rfl rfl (rv_r _) ?_
    refine g_getM (v := .ref lb_a21) (q := 28) B (ci := 28) (k := 1) (j := 2) in_J37 rfl dJ10_rotateLeft_25 rfl rfl (EntG.mem hwe_1_14 q1.1) (Nat.le_of_ble_eq_true rfl) q2113 rfl (congrArg some (congrArg va_rf c21)) ?_
    refine g_aload_n (q := 29) B dJ10_rotateLeft_28 rfl rfl (rv_r _) ?_
    refine g_putE4 (q := 32) (k := 1) (x := some a) B hwe_1_14 (tr_lm hT q1.1 c21) dJ10_rotateLeft_29 rfl rfl q2117 (fun we_11_29 hwe_11_29 => ?_)
    refine (show Go g κ 32 [some (.ref t), some (.ref a), some (.ref b)] [] [[(t, .inr (27, [.null, va_rf vs, .null, va_rf root, .int (nI n), .int (nI md), va_rf es, va_rf nk, .null]))], we_11_29] 0 0 from ?_)
    refine g_aload_n (q := 33) B dJ10_rotateLeft_32 rfl rfl (rv_r _) ?_
    refine g_aload_n (q := 34) B dJ10_rotateLeft_33 rfl rfl (rv_r _) ?_
    refine g_getM (v := va_rf (p a)) (q := 37) B (ci := 28) (k := 1) (j := 4) in_J37 rfl dJ10_rotateLeft_34 rfl rfl (EntG.mem hwe_11_29 ha) (Nat.le_of_ble_eq_true rfl) q2117 rfl (congrArg some (congrArg va_rf (fup_n (Ne.symm hca)))) ?_
    refine g_putE4 (q := 40) (k := 1) (x := p a) B hwe_11_29 q1.1 dJ10_rotateLeft_37 rfl rfl q2117 (fun we_12_37 hwe_12_37 => ?_)
    refine (show Go g κ 40 [some (.ref t), some (.ref a), some (.ref b)] [] [[(t, .inr (27, [.null, va_rf vs, .null, va_rf root, .int (nI n), .int (nI md), va_rf es, va_rf nk, .null]))], we_12_37] 0 0 from ?_)
    refine g_aload_n (q := 41) B dJ10_rotateLeft_40 rfl rfl (rv_r _) ?_
    refine g_getM (v := va_rf (p a)) (q := 44) B (ci := 28) (k := 1) (j := 4) in_J37 rfl dJ10_rotateLeft_41 rfl rfl (EntG.mem hwe_12_37 ha) (Nat.le_of_ble_eq_true rfl) q2117 rfl (congrArg some (congrArg va_rf ((fup_n hab).trans (fup_n (Ne.symm hca))))) ?_
    refine g_ifnonnull_o (tgt := 55) (q := 47) B dJ10_rotateLeft_44 rfl (by decide) (fun pa_a44 c44 => ?_) (fun c44 => ?_)
    · skip
      have q6 := h8 a ha pa_a44 c44
      have q7 := h2 pa_a44 q6.1
      have q8 := h4 pa_a44 q6.1
      have q9 := h6 pa_a44 q6.1
      have hpa : pa_a44 ≠ a := by rintro rfl; grind
      have hpb : pa_a44 ≠ b := by rintro rfl; grind
      have hpc : pa_a44 ≠ lb_a21 := by rintro rfl; grind
      refine g_aload_n (q := 56) B dJ10_rotateLeft_55 rfl rfl (rv_r _) ?_
      refine g_getM (v := .ref pa_a44) (q := 59) B (ci := 28) (k := 1) (j := 4) in_J37 rfl dJ10_rotateLeft_56 rfl rfl (EntG.mem hwe_12_37 ha) (Nat.le_of_ble_eq_true rfl) q2117 rfl (congrArg some (congrArg va_rf ((fup_n hab).trans ((fup_n (Ne.symm hca)).trans c44)))) ?_
      refine g_getM (v := va_rf (l pa_a44)) (q := 62) B (ci := 28) (k := 1) (j := 2) in_J37 rfl dJ10_rotateLeft_59 rfl rfl (EntG.mem hwe_12_37 (tr_pm hT ha c44)) (Nat.le_of_ble_eq_true rfl) q2113 rfl rfl ?_
      refine g_aload_n (q := 63) B dJ10_rotateLeft_62 rfl rfl (rv_r _) ?_
      refine g_acmp_ne (rx := l pa_a44) (ry := some a) (tgt := 77) (q := 66) B dJ10_rotateLeft_63 rfl (by decide) rfl rfl (Iff.rfl) (fun c63 => ?_) (fun c63 => ?_)
      · skip
        refine g_aload_n (q := 78) B dJ10_rotateLeft_77 rfl rfl (rv_r _) ?_
        refine g_getM (v := .ref pa_a44) (q := 81) B (ci := 28) (k := 1) (j := 4) in_J37 rfl dJ10_rotateLeft_78 rfl rfl (EntG.mem hwe_12_37 ha) (Nat.le_of_ble_eq_true rfl) q2117 rfl (congrArg some (congrArg va_rf ((fup_n hab).trans ((fup_n (Ne.symm hca)).trans c44)))) ?_
        refine g_aload_n (q := 82) B dJ10_rotateLeft_81 rfl rfl (rv_r _) ?_
        refine g_putE3 (q := 85) (k := 1) (x := some b) B hwe_12_37 (tr_pm hT ha c44) dJ10_rotateLeft_82 rfl rfl q2115 (fun we_13_82 hwe_13_82 => ?_)
        refine (show Go g κ 85 [some (.ref t), some (.ref a), some (.ref b)] [] [[(t, .inr (27, [.null, va_rf vs, .null, va_rf root, .int (nI n), .int (nI md), va_rf es, va_rf nk, .null]))], we_13_82] 0 0 from ?_)
        refine g_aload_n (q := 86) B dJ10_rotateLeft_85 rfl rfl (rv_r _) ?_
        refine g_aload_n (q := 87) B dJ10_rotateLeft_86 rfl rfl (rv_r _) ?_
        refine g_putE2 (q := 90) (k := 1) (x := some a) B hwe_13_82 q1.1 dJ10_rotateLeft_87 rfl rfl q2113 (fun we_14_87 hwe_14_87 => ?_)
        refine (show Go g κ 90 [some (.ref t), some (.ref a), some (.ref b)] [] [[(t, .inr (27, [.null, va_rf vs, .null, va_rf root, .int (nI n), .int (nI md), va_rf es, va_rf nk, .null]))], we_14_87] 0 0 from ?_)
        refine g_aload_n (q := 91) B dJ10_rotateLeft_90 rfl rfl (rv_r _) ?_
        refine g_aload_n (q := 92) B dJ10_rotateLeft_91 rfl rfl (rv_r _) ?_
        refine g_putE4 (q := 95) (k := 1) (x := some b) B hwe_14_87 ha dJ10_rotateLeft_92 rfl rfl q2117 (fun we_15_92 hwe_15_92 => ?_)
        refine (show Go g κ 95 [some (.ref t), some (.ref a), some (.ref b)] [] [[(t, .inr (27, [.null, va_rf vs, .null, va_rf root, .int (nI n), .int (nI md), va_rf es, va_rf nk, .null]))], we_15_92] 0 0 from ?_)
        have hrt : rlRoot root a b = root := by
          unfold rlRoot; grind
        have hl1 : ∀ d ∈ ns, l d = some a → p a = some d := fun d hd e => (h4 d hd a e).2.1
        have hr1 : ∀ d ∈ ns, r d = some a → p a = some d := fun d hd e => (h6 d hd a e).2.1
        have hfin : EntG g ns kc val (rlL l a b) (rlR l r a b) (rlP l p a b) col we_15_92 := EntG.congr hwe_15_92 (fun d hd => by
          have z1 := hl1 d hd
          have z2 := hr1 d hd
          refine ⟨rfl, rfl, ?_, ?_, ?_, rfl⟩ <;> grind [fup, rlL, rlR, rlP])
        exact g_vret B E dJ10_rotateLeft_95 (⟨we_15_92, rfl, by rw [hrt] <;> rfl, hfin, tr_rotL hT ha hb⟩)
      · skip
        refine g_aload_n (q := 67) B dJ10_rotateLeft_66 rfl rfl (rv_r _) ?_
        refine g_getM (v := .ref pa_a44) (q := 70) B (ci := 28) (k := 1) (j := 4) in_J37 rfl dJ10_rotateLeft_67 rfl rfl (EntG.mem hwe_12_37 ha) (Nat.le_of_ble_eq_true rfl) q2117 rfl (congrArg some (congrArg va_rf ((fup_n hab).trans ((fup_n (Ne.symm hca)).trans c44)))) ?_
        refine g_aload_n (q := 71) B dJ10_rotateLeft_70 rfl rfl (rv_r _) ?_
        refine g_putE2 (q := 74) (k := 1) (x := some b) B hwe_12_37 (tr_pm hT ha c44) dJ10_rotateLeft_71 rfl rfl q2113 (fun we_16_71 hwe_16_71 => ?_)
        refine (show Go g κ 74 [some (.ref t), some (.ref a), some (.ref b)] [] [[(t, .inr (27, [.null, va_rf vs, .null, va_rf root, .int (nI n), .int (nI md), va_rf es, va_rf nk, .null]))], we_16_71] 0 0 from ?_)
        refine g_goto (tgt := 85) B dJ10_rotateLeft_74 (by decide) ?_
        refine g_aload_n (q := 86) B dJ10_rotateLeft_85 rfl rfl (rv_r _) ?_
        refine g_aload_n (q := 87) B dJ10_rotateLeft_86 rfl rfl (rv_r _) ?_
        refine g_putE2 (q := 90) (k := 1) (x := some a) B hwe_16_71 q1.1 dJ10_rotateLeft_87 rfl rfl q2113 (fun we_17_87 hwe_17_87 => ?_)
        refine (show Go g κ 90 [some (.ref t), some (.ref a), some (.ref b)] [] [[(t, .inr (27, [.null, va_rf vs, .null, va_rf root, .int (nI n), .int (nI md), va_rf es, va_rf nk, .null]))], we_17_87] 0 0 from ?_)
        refine g_aload_n (q := 91) B dJ10_rotateLeft_90 rfl rfl (rv_r _) ?_
        refine g_aload_n (q := 92) B dJ10_rotateLeft_91 rfl rfl (rv_r _) ?_
        refine g_putE4 (q := 95) (k := 1) (x := some b) B hwe_17_87 ha dJ10_rotateLeft_92 rfl rfl q2117 (fun we_18_92 hwe_18_92 => ?_)
        refine (show Go g κ 95 [some (.ref t), some (.ref a), some (.ref b)] [] [[(t, .inr (27, [.null, va_rf vs, .null, va_rf root, .int (nI n), .int (nI md), va_rf es, va_rf nk, .null]))], we_18_92] 0 0 from ?_)
        have hrt : rlRoot root a b = root := by
          unfold rlRoot; grind
        have hl1 : ∀ d ∈ ns, l d = some a → p a = some d := fun d hd e => (h4 d hd a e).2.1
        have hr1 : ∀ d ∈ ns, r d = some a → p a = some d := fun d hd e => (h6 d hd a e).2.1
        have hfin : EntG g ns kc val (rlL l a b) (rlR l r a b) (rlP l p a b) col we_18_92 := EntG.congr hwe_18_92 (fun d hd => by
          have z1 := hl1 d hd
          have z2 := hr1 d hd
          refine ⟨rfl, rfl, ?_, ?_, ?_, rfl⟩ <;> grind [fup, rlL, rlR, rlP])
        exact g_vret B E dJ10_rotateLeft_95 (⟨we_18_92, rfl, by rw [hrt] <;> rfl, hfin, tr_rotL hT ha hb⟩)
    · skip
      refine g_aload_n (q := 48) B dJ10_rotateLeft_47 rfl rfl (rv_r _) ?_
      refine g_aload_n (q := 49) B dJ10_rotateLeft_48 rfl rfl (rv_r _) ?_
      refine g_put (q := 52) (L2 := [[(t, .inr (27, [.null, va_rf vs, .null, .ref b, .int (nI n), .int (nI md), va_rf es, va_rf nk, .null]))], we_12_37]) B (ci := 27) (k := 0) (j := 3) in_J10 tyJ10 tyJ10_ok nmJ10 rfl dJ10_rotateLeft_49 rfl rfl (Nat.le_of_ble_eq_true rfl) q1871 rfl rfl rfl rfl (Nat.le_of_ble_eq_true rfl) rfl ?_
      refine g_goto (tgt := 85) B dJ10_rotateLeft_52 (by decide) ?_
      refine g_aload_n (q := 86) B dJ10_rotateLeft_85 rfl rfl (rv_r _) ?_
      refine g_aload_n (q := 87) B dJ10_rotateLeft_86 rfl rfl (rv_r _) ?_
      refine g_putE2 (q := 90) (k := 1) (x := some a) B hwe_12_37 q1.1 dJ10_rotateLeft_87 rfl rfl q2113 (fun we_19_87 hwe_19_87 => ?_)
      refine (show Go g κ 90 [some (.ref t), some (.ref a), some (.ref b)] [] [[(t, .inr (27, [.null, va_rf vs, .null, .ref b, .int (nI n), .int (nI md), va_rf es, va_rf nk, .null]))], we_19_87] 0 0 from ?_)
      refine g_aload_n (q := 91) B dJ10_rotateLeft_90 rfl rfl (rv_r _) ?_
      refine g_aload_n (q := 92) B dJ10_rotateLeft_91 rfl rfl (rv_r _) ?_
      refine g_putE4 (q := 95) (k := 1) (x := some b) B hwe_19_87 ha dJ10_rotateLeft_92 rfl rfl q2117 (fun we_20_92 hwe_20_92 => ?_)
      refine (show Go g κ 95 [some (.ref t), some (.ref a), some (.ref b)] [] [[(t, .inr (27, [.null, va_rf vs, .null, .ref b, .int (nI n), .int (nI md), va_rf es, va_rf nk, .null]))], we_20_92] 0 0 from ?_)
      have hrt : rlRoot root a b = some b := by
        unfold rlRoot; grind
      have hl1 : ∀ d ∈ ns, l d = some a → p a = some d := fun d hd e => (h4 d hd a e).2.1
      have hr1 : ∀ d ∈ ns, r d = some a → p a = some d := fun d hd e => (h6 d hd a e).2.1
      have hfin : EntG g ns kc val (rlL l a b) (rlR l r a b) (rlP l p a b) col we_20_92 := EntG.congr hwe_20_92 (fun d hd => by
        have z1 := hl1 d hd
        have z2 := hr1 d hd
        refine ⟨rfl, rfl, ?_, ?_, ?_, rfl⟩ <;> grind [fup, rlL, rlR, rlP])
      exact g_vret B E dJ10_rotateLeft_95 (⟨we_20_92, rfl, by rw [hrt] <;> rfl, hfin, tr_rotL hT ha hb⟩)
theorem ct_J10_rotateRight (g : Gv) (J : Jd g) {t : Nat} {vs : Option Nat} {n : Nat} {md : Nat} {es : Option Nat} {nk : Option Nat} {ns : List Nat} {key : Nat → Nat} {val : Nat → Nat} {l : Nat → Option Nat} {r : Nat → Option Nat} {p : Nat → Option Nat} {col : Nat → Bool} {lo : Nat → Nat} {hi : Nat → Nat} {root : Option Nat} {M : Nat} {kc : Nat → Nat} {a : Nat} {b : Nat} {w1 : va_W} (hw1 : EntG g ns kc val l r p col w1) (hT : Tr ns key l r p lo hi root M) (ha : a ∈ ns) (hb : l a = some b) : Ct g yJ10_rotateRight (ws_ yJ10_rotateRight cJ10_rotateRight 3 none) 0 0 0 [.ref t, .ref a] [[(t, .inr (27, [.null, va_rf vs, .null, va_rf root, .int (nI n), .int (nI md), va_rf es, va_rf nk, .null]))], w1] (fun (rv_ : Option Value) (rL_ : List va_W) => ∃ (u1 : va_W), rv_ = none ∧ rL_ = [[(t, .inr (27, [.null, va_rf vs, .null, va_rf (rlRoot root a b), .int (nI n), .int (nI md), va_rf es, va_rf nk, .null]))], u1] ∧ EntG g ns kc val (rrL l r a b) (rrR r a b) (rrP r p a b) col u1 ∧ (Tr ns key (rrL l r a b) (rrR r a b) (rrP r p a b) (fup (fup lo b (lo a)) a (key b + 1)) (fup hi b (hi a)) (rlRoot root a b) M)) noX := by
  refine Ct.of "java/util/TreeMap" [some (.ref t), some (.ref a), none] rfl (by decide) rfl (Nat.le_of_ble_eq_true rfl) rfl ?_
  intro κ B E tb
  obtain ⟨h1, h2, h3, h4, h5, h6, h7, h8, h9, h10⟩ := id hT
  have q1 := h4 a ha b hb
  have q2 := h2 a ha
  have q3 := h2 b q1.1
  have hab : a ≠ b := by rintro rfl; omega
  refine g_aload_n (q := 1) B dJ10_rotateRight_0 rfl rfl (rv_r _) ?_
  refine g_ifnull_r (q := 4) B dJ10_rotateRight_1 rfl ?_
  refine g_aload_n (q := 5) B dJ10_rotateRight_4 rfl rfl (rv_r _) ?_
  refine g_getM (v := .ref b) (q := 8) B (ci := 28) (k := 1) (j := 2) in_J37 rfl dJ10_rotateRight_5 rfl rfl (EntG.mem hw1 ha) (Nat.le_of_ble_eq_true rfl) q2113 rfl (congrArg some (congrArg va_rf hb)) ?_
  refine g_astore_n (q := 9) (lv2 := [some (.ref t), some (.ref a), some (.ref b)]) B dJ10_rotateRight_8 rfl (Nat.le_of_ble_eq_true rfl) (rv_r _) rfl ?_
  refine g_aload_n (q := 10) B dJ10_rotateRight_9 rfl rfl (rv_r _) ?_
  refine g_aload_n (q := 11) B dJ10_rotateRight_10 rfl rfl (rv_r _) ?_
  refine g_getM (v := va_rf (r b)) (q := 14) B (ci := 28) (k := 1) (j := 3) in_J37 rfl dJ10_rotateRight_11 rfl rfl (EntG.mem hw1 q1.1) (Nat.le_of_ble_eq_true rfl) q2115 rfl rfl ?_
  refine g_putE2 (q := 17) (k := 1) (x := r b) B hw1 ha dJ10_rotateRight_14 rfl rfl q2113 (fun we_1_14 hwe_1_14 => ?_)
  refine (show Go g κ 17 [some (.ref t), some (.ref a), some (.ref b)] [] [[(t, .inr (27, [.null, va_rf vs, .null, va_rf root, .int (nI n), .int (nI md), va_rf es, va_rf nk, .null]))], we_1_14] 0 0 from ?_)
  refine g_aload_n (q := 18) B dJ10_rotateRight_17 rfl rfl (rv_r _) ?_
  refine g_getM (v := va_rf (r b)) (q := 21) B (ci := 28) (k := 1) (j := 3) in_J37 rfl dJ10_rotateRight_18 rfl rfl (EntG.mem hwe_1_14 q1.1) (Nat.le_of_ble_eq_true rfl) q2115 rfl rfl ?_
  refine g_ifnull_o (tgt := 32) (q := 24) B dJ10_rotateRight_21 rfl (by decide) (fun c21 => ?_) (fun rb_a21 c21 => ?_)
  · skip
    refine g_aload_n (q := 33) B dJ10_rotateRight_32 rfl rfl (rv_r _) ?_
    refine g_aload_n (q := 34) B dJ10_rotateRight_33 rfl rfl (rv_r _) ?_
    refine g_getM (v := va_rf (p a)) (q := 37) B (ci := 28) (k := 1) (j := 4) in_J37 rfl dJ10_rotateRight_34 rfl rfl (EntG.mem hwe_1_14 ha) (Nat.le_of_ble_eq_true rfl) q2117 rfl rfl ?_
    refine g_putE4 (q := 40) (k := 1) (x := p a) B hwe_1_14 q1.1 dJ10_rotateRight_37 rfl rfl q2117 (fun we_2_37 hwe_2_37 => ?_)
    refine (show Go g κ 40 [some (.ref t), some (.ref a), some (.ref b)] [] [[(t, .inr (27, [.null, va_rf vs, .null, va_rf root, .int (nI n), .int (nI md), va_rf es, va_rf nk, .null]))], we_2_37] 0 0 from ?_)
    refine g_aload_n (q := 41) B dJ10_rotateRight_40 rfl rfl (rv_r _) ?_
    refine g_getM (v := va_rf (p a)) (q := 44) B (ci := 28) (k := 1) (j := 4) in_J37 rfl dJ10_rotateRight_41 rfl rfl (EntG.mem hwe_2_37 ha) (Nat.le_of_ble_eq_true rfl) q2117 rfl (congrArg some (congrArg va_rf (fup_n hab))) ?_
    refine g_ifnonnull_o (tgt := 55) (q := 47) B dJ10_rotateRight_44 rfl (by decide) (fun pa_a44 c44 => ?_) (fun c44 => ?_)
    · skip
      have q6 := h8 a ha pa_a44 c44
      have q7 := h2 pa_a44 q6.1
      have q8 := h4 pa_a44 q6.1
      have q9 := h6 pa_a44 q6.1
      have hpa : pa_a44 ≠ a := by rintro rfl; grind
      have hpb : pa_a44 ≠ b := by rintro rfl; grind
      refine g_aload_n (q := 56) B dJ10_rotateRight_55 rfl rfl (rv_r _) ?_
      refine g_getM (v := .ref pa_a44) (q := 59) B (ci := 28) (k := 1) (j := 4) in_J37 rfl dJ10_rotateRight_56 rfl rfl (EntG.mem hwe_2_37 ha) (Nat.le_of_ble_eq_true rfl) q2117 rfl (congrArg some (congrArg va_rf ((fup_n hab).trans c44))) ?_
      refine g_getM (v := va_rf (r pa_a44)) (q := 62) B (ci := 28) (k := 1) (j := 3) in_J37 rfl dJ10_rotateRight_59 rfl rfl (EntG.mem hwe_2_37 (tr_pm hT ha c44)) (Nat.le_of_ble_eq_true rfl) q2115 rfl rfl ?_
      refine g_aload_n (q := 63) B dJ10_rotateRight_62 rfl rfl (rv_r _) ?_
      refine g_acmp_ne (rx := r pa_a44) (ry := some a) (tgt := 77) (q := 66) B dJ10_rotateRight_63 rfl (by decide) rfl rfl (Iff.rfl) (fun c63 => ?_) (fun c63 => ?_)
      · skip
        refine g_aload_n (q := 78) B dJ10_rotateRight_77 rfl rfl (rv_r _) ?_
        refine g_getM (v := .ref pa_a44) (q := 81) B (ci := 28) (k := 1) (j := 4) in_J37 rfl dJ10_rotateRight_78 rfl rfl (EntG.mem hwe_2_37 ha) (Nat.le_of_ble_eq_true rfl) q2117 rfl (congrArg some (congrArg va_rf ((fup_n hab).trans c44))) ?_
        refine g_aload_n (q := 82) B dJ10_rotateRight_81 rfl rfl (rv_r _) ?_
        refine g_putE2 (q := 85) (k := 1) (x := some b) B hwe_2_37 (tr_pm hT ha c44) dJ10_rotateRight_82 rfl rfl q2113 (fun we_3_82 hwe_3_82 => ?_)
        refine (show Go g κ 85 [some (.ref t), some (.ref a), some (.ref b)] [] [[(t, .inr (27, [.null, va_rf vs, .null, va_rf root, .int (nI n), .int (nI md), va_rf es, va_rf nk, .null]))], we_3_82] 0 0 from ?_)
        refine g_aload_n (q := 86) B dJ10_rotateRight_85 rfl rfl (rv_r _) ?_
        refine g_aload_n (q := 87) B dJ10_rotateRight_86 rfl rfl (rv_r _) ?_
        refine g_putE3 (q := 90) (k := 1) (x := some a) B hwe_3_82 q1.1 dJ10_rotateRight_87 rfl rfl q2115 (fun we_4_87 hwe_4_87 => ?_)
        refine (show Go g κ 90 [some (.ref t), some (.ref a), some (.ref b)] [] [[(t, .inr (27, [.null, va_rf vs, .null, va_rf root, .int (nI n), .int (nI md), va_rf es, va_rf nk, .null]))], we_4_87] 0 0 from ?_)
        refine g_aload_n (q := 91) B dJ10_rotateRight_90 rfl rfl (rv_r _) ?_
        refine g_aload_n (q := 92) B dJ10_rotateRight_91 rfl rfl (rv_r _) ?_
        refine g_putE4 (q := 95) (k := 1) (x := some b) B hwe_4_87 ha dJ10_rotateRight_92 rfl rfl q2117 (fun we_5_92 hwe_5_92 => ?_)
        refine (show Go g κ 95 [some (.ref t), some (.ref a), some (.ref b)] [] [[(t, .inr (27, [.null, va_rf vs, .null, va_rf root, .int (nI n), .int (nI md), va_rf es, va_rf nk, .null]))], we_5_92] 0 0 from ?_)
        have hrt : rlRoot root a b = root := by
          unfold rlRoot; grind
        have hl1 : ∀ d ∈ ns, l d = some a → p a = some d := fun d hd e => (h4 d hd a e).2.1
        have hr1 : ∀ d ∈ ns, r d = some a → p a = some d := fun d hd e => (h6 d hd a e).2.1
        have hfin : EntG g ns kc val (rrL l r a b) (rrR r a b) (rrP r p a b) col we_5_92 := EntG.congr hwe_5_92 (fun d hd => by
          have z1 := hl1 d hd
          have z2 := hr1 d hd
          refine ⟨rfl, rfl, ?_, ?_, ?_, rfl⟩ <;> grind [fup, rrL, rrR, rrP])
        exact g_vret B E dJ10_rotateRight_95 (⟨we_5_92, rfl, by rw [hrt] <;> rfl, hfin, tr_rotR hT ha hb⟩)
      · skip
        refine g_aload_n (q := 67) B dJ10_rotateRight_66 rfl rfl (rv_r _) ?_
        refine g_getM (v := .ref pa_a44) (q := 70) B (ci := 28) (k := 1) (j := 4) in_J37 rfl dJ10_rotateRight_67 rfl rfl (EntG.mem hwe_2_37 ha) (Nat.le_of_ble_eq_true rfl) q2117 rfl (congrArg some (congrArg va_rf ((fup_n hab).trans c44))) ?_
        refine g_aload_n (q := 71) B dJ10_rotateRight_70 rfl rfl (rv_r _) ?_
        refine g_putE3 (q := 74) (k := 1) (x := some b) B hwe_2_37 (tr_pm hT ha c44) dJ10_rotateRight_71 rfl rfl q2115 (fun we_6_71 hwe_6_71 => ?_)
        refine (show Go g κ 74 [some (.ref t), some (.ref a), some (.ref b)] [] [[(t, .inr (27, [.null, va_rf vs, .null, va_rf root, .int (nI n), .int (nI md), va_rf es, va_rf nk, .null]))], we_6_71] 0 0 from ?_)
        refine g_goto (tgt := 85) B dJ10_rotateRight_74 (by decide) ?_
        refine g_aload_n (q := 86) B dJ10_rotateRight_85 rfl rfl (rv_r _) ?_
        refine g_aload_n (q := 87) B dJ10_rotateRight_86 rfl rfl (rv_r _) ?_
        refine g_putE3 (q := 90) (k := 1) (x := some a) B hwe_6_71 q1.1 dJ10_rotateRight_87 rfl rfl q2115 (fun we_7_87 hwe_7_87 => ?_)
        refine (show Go g κ 90 [some (.ref t), some (.ref a), some (.ref b)] [] [[(t, .inr (27, [.null, va_rf vs, .null, va_rf root, .int (nI n), .int (nI md), va_rf es, va_rf nk, .null]))], we_7_87] 0 0 from ?_)
        refine g_aload_n (q := 91) B dJ10_rotateRight_90 rfl rfl (rv_r _) ?_
        refine g_aload_n (q := 92) B dJ10_rotateRight_91 rfl rfl (rv_r _) ?_
        refine g_putE4 (q := 95) (k := 1) (x := some b) B hwe_7_87 ha dJ10_rotateRight_92 rfl rfl q2117 (fun we_8_92 hwe_8_92 => ?_)
        refine (show Go g κ 95 [some (.ref t), some (.ref a), some (.ref b)] [] [[(t, .inr (27, [.null, va_rf vs, .null, va_rf root, .int (nI n), .int (nI md), va_rf es, va_rf nk, .null]))], we_8_92] 0 0 from ?_)
        have hrt : rlRoot root a b = root := by
          unfold rlRoot; grind
        have hl1 : ∀ d ∈ ns, l d = some a → p a = some d := fun d hd e => (h4 d hd a e).2.1
        have hr1 : ∀ d ∈ ns, r d = some a → p a = some d := fun d hd e => (h6 d hd a e).2.1
        have hfin : EntG g ns kc val (rrL l r a b) (rrR r a b) (rrP r p a b) col we_8_92 := EntG.congr hwe_8_92 (fun d hd => by
          have z1 := hl1 d hd
          have z2 := hr1 d hd
          refine ⟨rfl, rfl, ?_, ?_, ?_, rfl⟩ <;> grind [fup, rrL, rrR, rrP])
        exact g_vret B E dJ10_rotateRight_95 (⟨we_8_92, rfl, by rw [hrt] <;> rfl, hfin, tr_rotR hT ha hb⟩)
    · skip
      refine g_aload_n (q := 48) B dJ10_rotateRight_47 rfl rfl (rv_r _) ?_
      refine g_aload_n (q := 49) B dJ10_rotateRight_48 rfl rfl (rv_r _) ?_
      refine g_put (q := 52) (L2 := [[(t, .inr (27, [.null, va_rf vs, .null, .ref b, .int (nI n), .int (nI md), va_rf es, va_rf nk, .null]))], we_2_37]) B (ci := 27) (k := 0) (j := 3) in_J10 tyJ10 tyJ10_ok nmJ10 rfl dJ10_rotateRight_49 rfl rfl (Nat.le_of_ble_eq_true rfl) q1871 rfl rfl rfl rfl (Nat.le_of_ble_eq_true rfl) rfl ?_
      refine g_goto (tgt := 85) B dJ10_rotateRight_52 (by decide) ?_
      refine g_aload_n (q := 86) B dJ10_rotateRight_85 rfl rfl (rv_r _) ?_
      refine g_aload_n (q := 87) B dJ10_rotateRight_86 rfl rfl (rv_r _) ?_
      refine g_putE3 (q := 90) (k := 1) (x := some a) B hwe_2_37 q1.1 dJ10_rotateRight_87 rfl rfl q2115 (fun we_9_87 hwe_9_87 => ?_)
      refine (show Go g κ 90 [some (.ref t), some (.ref a), some (.ref b)] [] [[(t, .inr (27, [.null, va_rf vs, .null, .ref b, .int (nI n), .int (nI md), va_rf es, va_rf nk, .null]))], we_9_87] 0 0 from ?_)
      refine g_aload_n (q := 91) B dJ10_rotateRight_90 rfl rfl (rv_r _) ?_
      refine g_aload_n (q := 92) B dJ10_rotateRight_91 rfl rfl (rv_r _) ?_
      refine g_putE4 (q := 95) (k := 1) (x := some b) B hwe_9_87 ha dJ10_rotateRight_92 rfl rfl q2117 (fun we_10_92 hwe_10_92 => ?_)
      refine (show Go g κ 95 [some (.ref t), some (.ref a), some (.ref b)] [] [[(t, .inr (27, [.null, va_rf vs, .null, .ref b, .int (nI n), .int (nI md), va_rf es, va_rf nk, .null]))], we_10_92] 0 0 from ?_)
      have hrt : rlRoot root a b = some b := by
        unfold rlRoot; grind
      have hl1 : ∀ d ∈ ns, l d = some a → p a = some d := fun d hd e => (h4 d hd a e).2.1
      have hr1 : ∀ d ∈ ns, r d = some a → p a = some d := fun d hd e => (h6 d hd a e).2.1
      have hfin : EntG g ns kc val (rrL l r a b) (rrR r a b) (rrP r p a b) col we_10_92 := EntG.congr hwe_10_92 (fun d hd => by
        have z1 := hl1 d hd
        have z2 := hr1 d hd
        refine ⟨rfl, rfl, ?_, ?_, ?_, rfl⟩ <;> grind [fup, rrL, rrR, rrP])
      exact g_vret B E dJ10_rotateRight_95 (⟨we_10_92, rfl, by rw [hrt] <;> rfl, hfin, tr_rotR hT ha hb⟩)
  · skip
    have q4 := h6 b q1.1 rb_a21 c21
    have q5 := h2 rb_a21 q4.1
    have hca : rb_a21 ≠ a := by rintro rfl; omega
    have hcb : rb_a21 ≠ b := by rintro rfl; omega
    refine g_aload_n (q := 25) B dJ10_rotateRight_24 rfl rfl (rv_r _) ?_
    refine g_getM (v := .ref rb_a21) (q := 28) B (ci := 28) (k := 1) (j := 3) in_J37 rfl dJ10_rotateRight_25 rfl rfl (EntG.mem hwe_1_14 q1.1) (Nat.le_of_ble_eq_true rfl) q2115 rfl (congrArg some (congrArg va_rf c21)) ?_
    refine g_aload_n (q := 29) B dJ10_rotateRight_28 rfl rfl (rv_r _) ?_
    refine g_putE4 (q := 32) (k := 1) (x := some a) B hwe_1_14 (tr_rm hT q1.1 c21) dJ10_rotateRight_29 rfl rfl q2117 (fun we_11_29 hwe_11_29 => ?_)
    refine (show Go g κ 32 [some (.ref t), some (.ref a), some (.ref b)] [] [[(t, .inr (27, [.null, va_rf vs, .null, va_rf root, .int (nI n), .int (nI md), va_rf es, va_rf nk, .null]))], we_11_29] 0 0 from ?_)
    refine g_aload_n (q := 33) B dJ10_rotateRight_32 rfl rfl (rv_r _) ?_
    refine g_aload_n (q := 34) B dJ10_rotateRight_33 rfl rfl (rv_r _) ?_
    refine g_getM (v := va_rf (p a)) (q := 37) B (ci := 28) (k := 1) (j := 4) in_J37 rfl dJ10_rotateRight_34 rfl rfl (EntG.mem hwe_11_29 ha) (Nat.le_of_ble_eq_true rfl) q2117 rfl (congrArg some (congrArg va_rf (fup_n (Ne.symm hca)))) ?_
    refine g_putE4 (q := 40) (k := 1) (x := p a) B hwe_11_29 q1.1 dJ10_rotateRight_37 rfl rfl q2117 (fun we_12_37 hwe_12_37 => ?_)
    refine (show Go g κ 40 [some (.ref t), some (.ref a), some (.ref b)] [] [[(t, .inr (27, [.null, va_rf vs, .null, va_rf root, .int (nI n), .int (nI md), va_rf es, va_rf nk, .null]))], we_12_37] 0 0 from ?_)
    refine g_aload_n (q := 41) B dJ10_rotateRight_40 rfl rfl (rv_r _) ?_
    refine g_getM (v := va_rf (p a)) (q := 44) B (ci := 28) (k := 1) (j := 4) in_J37 rfl dJ10_rotateRight_41 rfl rfl (EntG.mem hwe_12_37 ha) (Nat.le_of_ble_eq_true rfl) q2117 rfl (congrArg some (congrArg va_rf ((fup_n hab).trans (fup_n (Ne.symm hca))))) ?_
    refine g_ifnonnull_o (tgt := 55) (q := 47) B dJ10_rotateRight_44 rfl (by decide) (fun pa_a44 c44 => ?_) (fun c44 => ?_)
    · skip
      have q6 := h8 a ha pa_a44 c44
      have q7 := h2 pa_a44 q6.1
      have q8 := h4 pa_a44 q6.1
      have q9 := h6 pa_a44 q6.1
      have hpa : pa_a44 ≠ a := by rintro rfl; grind
      have hpb : pa_a44 ≠ b := by rintro rfl; grind
      have hpc : pa_a44 ≠ rb_a21 := by rintro rfl; grind
      refine g_aload_n (q := 56) B dJ10_rotateRight_55 rfl rfl (rv_r _) ?_
      refine g_getM (v := .ref pa_a44) (q := 59) B (ci := 28) (k := 1) (j := 4) in_J37 rfl dJ10_rotateRight_56 rfl rfl (EntG.mem hwe_12_37 ha) (Nat.le_of_ble_eq_true rfl) q2117 rfl (congrArg some (congrArg va_rf ((fup_n hab).trans ((fup_n (Ne.symm hca)).trans c44)))) ?_
      refine g_getM (v := va_rf (r pa_a44)) (q := 62) B (ci := 28) (k := 1) (j := 3) in_J37 rfl dJ10_rotateRight_59 rfl rfl (EntG.mem hwe_12_37 (tr_pm hT ha c44)) (Nat.le_of_ble_eq_true rfl) q2115 rfl rfl ?_
      refine g_aload_n (q := 63) B dJ10_rotateRight_62 rfl rfl (rv_r _) ?_
      refine g_acmp_ne (rx := r pa_a44) (ry := some a) (tgt := 77) (q := 66) B dJ10_rotateRight_63 rfl (by decide) rfl rfl (Iff.rfl) (fun c63 => ?_) (fun c63 => ?_)
      · skip
        refine g_aload_n (q := 78) B dJ10_rotateRight_77 rfl rfl (rv_r _) ?_
        refine g_getM (v := .ref pa_a44) (q := 81) B (ci := 28) (k := 1) (j := 4) in_J37 rfl dJ10_rotateRight_78 rfl rfl (EntG.mem hwe_12_37 ha) (Nat.le_of_ble_eq_true rfl) q2117 rfl (congrArg some (congrArg va_rf ((fup_n hab).trans ((fup_n (Ne.symm hca)).trans c44)))) ?_
        refine g_aload_n (q := 82) B dJ10_rotateRight_81 rfl rfl (rv_r _) ?_
        refine g_putE2 (q := 85) (k := 1) (x := some b) B hwe_12_37 (tr_pm hT ha c44) dJ10_rotateRight_82 rfl rfl q2113 (fun we_13_82 hwe_13_82 => ?_)
        refine (show Go g κ 85 [some (.ref t), some (.ref a), some (.ref b)] [] [[(t, .inr (27, [.null, va_rf vs, .null, va_rf root, .int (nI n), .int (nI md), va_rf es, va_rf nk, .null]))], we_13_82] 0 0 from ?_)
        refine g_aload_n (q := 86) B dJ10_rotateRight_85 rfl rfl (rv_r _) ?_
        refine g_aload_n (q := 87) B dJ10_rotateRight_86 rfl rfl (rv_r _) ?_
        refine g_putE3 (q := 90) (k := 1) (x := some a) B hwe_13_82 q1.1 dJ10_rotateRight_87 rfl rfl q2115 (fun we_14_87 hwe_14_87 => ?_)
        refine (show Go g κ 90 [some (.ref t), some (.ref a), some (.ref b)] [] [[(t, .inr (27, [.null, va_rf vs, .null, va_rf root, .int (nI n), .int (nI md), va_rf es, va_rf nk, .null]))], we_14_87] 0 0 from ?_)
        refine g_aload_n (q := 91) B dJ10_rotateRight_90 rfl rfl (rv_r _) ?_
        refine g_aload_n (q := 92) B dJ10_rotateRight_91 rfl rfl (rv_r _) ?_
        refine g_putE4 (q := 95) (k := 1) (x := some b) B hwe_14_87 ha dJ10_rotateRight_92 rfl rfl q2117 (fun we_15_92 hwe_15_92 => ?_)
        refine (show Go g κ 95 [some (.ref t), some (.ref a), some (.ref b)] [] [[(t, .inr (27, [.null, va_rf vs, .null, va_rf root, .int (nI n), .int (nI md), va_rf es, va_rf nk, .null]))], we_15_92] 0 0 from ?_)
        have hrt : rlRoot root a b = root := by
          unfold rlRoot; grind
        have hl1 : ∀ d ∈ ns, l d = some a → p a = some d := fun d hd e => (h4 d hd a e).2.1
        have hr1 : ∀ d ∈ ns, r d = some a → p a = some d := fun d hd e => (h6 d hd a e).2.1
        have hfin : EntG g ns kc val (rrL l r a b) (rrR r a b) (rrP r p a b) col we_15_92 := EntG.congr hwe_15_92 (fun d hd => by
          have z1 := hl1 d hd
          have z2 := hr1 d hd
          refine ⟨rfl, rfl, ?_, ?_, ?_, rfl⟩ <;> grind [fup, rrL, rrR, rrP])
        exact g_vret B E dJ10_rotateRight_95 (⟨we_15_92, rfl, by rw [hrt] <;> rfl, hfin, tr_rotR hT ha hb⟩)
      · skip
        refine g_aload_n (q := 67) B dJ10_rotateRight_66 rfl rfl (rv_r _) ?_
        refine g_getM (v := .ref pa_a44) (q := 70) B (ci := 28) (k := 1) (j := 4) in_J37 rfl dJ10_rotateRight_67 rfl rfl (EntG.mem hwe_12_37 ha) (Nat.le_of_ble_eq_true rfl) q2117 rfl (congrArg some (congrArg va_rf ((fup_n hab).trans ((fup_n (Ne.symm hca)).trans c44)))) ?_
        refine g_aload_n (q := 71) B dJ10_rotateRight_70 rfl rfl (rv_r _) ?_
        refine g_putE3 (q := 74) (k := 1) (x := some b) B hwe_12_37 (tr_pm hT ha c44) dJ10_rotateRight_71 rfl rfl q2115 (fun we_16_71 hwe_16_71 => ?_)
        refine (show Go g κ 74 [some (.ref t), some (.ref a), some (.ref b)] [] [[(t, .inr (27, [.null, va_rf vs, .null, va_rf root, .int (nI n), .int (nI md), va_rf es, va_rf nk, .null]))], we_16_71] 0 0 from ?_)
        refine g_goto (tgt := 85) B dJ10_rotateRight_74 (by decide) ?_
        refine g_aload_n (q := 86) B dJ10_rotateRight_85 rfl rfl (rv_r _) ?_
        refine g_aload_n (q := 87) B dJ10_rotateRight_86 rfl rfl (rv_r _) ?_
        refine g_putE3 (q := 90) (k := 1) (x := some a) B hwe_16_71 q1.1 dJ10_rotateRight_87 rfl rfl q2115 (fun we_17_87 hwe_17_87 => ?_)
        refine (show Go g κ 90 [some (.ref t), some (.ref a), some (.ref b)] [] [[(t, .inr (27, [.null, va_rf vs, .null, va_rf root, .int (nI n), .int (nI md), va_rf es, va_rf nk, .null]))], we_17_87] 0 0 from ?_)
        refine g_aload_n (q := 91) B dJ10_rotateRight_90 rfl rfl (rv_r _) ?_
        refine g_aload_n (q := 92) B dJ10_rotateRight_91 rfl rfl (rv_r _) ?_
        refine g_putE4 (q := 95) (k := 1) (x := some b) B hwe_17_87 ha dJ10_rotateRight_92 rfl rfl q2117 (fun we_18_92 hwe_18_92 => ?_)
        refine (show Go g κ 95 [some (.ref t), some (.ref a), some (.ref b)] [] [[(t, .inr (27, [.null, va_rf vs, .null, va_rf root, .int (nI n), .int (nI md), va_rf es, va_rf nk, .null]))], we_18_92] 0 0 from ?_)
        have hrt : rlRoot root a b = root := by
          unfold rlRoot; grind
        have hl1 : ∀ d ∈ ns, l d = some a → p a = some d := fun d hd e => (h4 d hd a e).2.1
        have hr1 : ∀ d ∈ ns, r d = some a → p a = some d := fun d hd e => (h6 d hd a e).2.1
        have hfin : EntG g ns kc val (rrL l r a b) (rrR r a b) (rrP r p a b) col we_18_92 := EntG.congr hwe_18_92 (fun d hd => by
          have z1 := hl1 d hd
          have z2 := hr1 d hd
          refine ⟨rfl, rfl, ?_, ?_, ?_, rfl⟩ <;> grind [fup, rrL, rrR, rrP])
        exact g_vret B E dJ10_rotateRight_95 (⟨we_18_92, rfl, by rw [hrt] <;> rfl, hfin, tr_rotR hT ha hb⟩)
    · skip
      refine g_aload_n (q := 48) B dJ10_rotateRight_47 rfl rfl (rv_r _) ?_
      refine g_aload_n (q := 49) B dJ10_rotateRight_48 rfl rfl (rv_r _) ?_
      refine g_put (q := 52) (L2 := [[(t, .inr (27, [.null, va_rf vs, .null, .ref b, .int (nI n), .int (nI md), va_rf es, va_rf nk, .null]))], we_12_37]) B (ci := 27) (k := 0) (j := 3) in_J10 tyJ10 tyJ10_ok nmJ10 rfl dJ10_rotateRight_49 rfl rfl (Nat.le_of_ble_eq_true rfl) q1871 rfl rfl rfl rfl (Nat.le_of_ble_eq_true rfl) rfl ?_
      refine g_goto (tgt := 85) B dJ10_rotateRight_52 (by decide) ?_
      refine g_aload_n (q := 86) B dJ10_rotateRight_85 rfl rfl (rv_r _) ?_
      refine g_aload_n (q := 87) B dJ10_rotateRight_86 rfl rfl (rv_r _) ?_
      refine g_putE3 (q := 90) (k := 1) (x := some a) B hwe_12_37 q1.1 dJ10_rotateRight_87 rfl rfl q2115 (fun we_19_87 hwe_19_87 => ?_)
      refine (show Go g κ 90 [some (.ref t), some (.ref a), some (.ref b)] [] [[(t, .inr (27, [.null, va_rf vs, .null, .ref b, .int (nI n), .int (nI md), va_rf es, va_rf nk, .null]))], we_19_87] 0 0 from ?_)
      refine g_aload_n (q := 91) B dJ10_rotateRight_90 rfl rfl (rv_r _) ?_
      refine g_aload_n (q := 92) B dJ10_rotateRight_91 rfl rfl (rv_r _) ?_
      refine g_putE4 (q := 95) (k := 1) (x := some b) B hwe_19_87 ha dJ10_rotateRight_92 rfl rfl q2117 (fun we_20_92 hwe_20_92 => ?_)
      refine (show Go g κ 95 [some (.ref t), some (.ref a), some (.ref b)] [] [[(t, .inr (27, [.null, va_rf vs, .null, .ref b, .int (nI n), .int (nI md), va_rf es, va_rf nk, .null]))], we_20_92] 0 0 from ?_)
      have hrt : rlRoot root a b = some b := by
        unfold rlRoot; grind
      have hl1 : ∀ d ∈ ns, l d = some a → p a = some d := fun d hd e => (h4 d hd a e).2.1
      have hr1 : ∀ d ∈ ns, r d = some a → p a = some d := fun d hd e => (h6 d hd a e).2.1
      have hfin : EntG g ns kc val (rrL l r a b) (rrR r a b) (rrP r p a b) col we_20_92 := EntG.congr hwe_20_92 (fun d hd => by
        have z1 := hl1 d hd
        have z2 := hr1 d hd
        refine ⟨rfl, rfl, ?_, ?_, ?_, rfl⟩ <;> grind [fup, rrL, rrR, rrP])
      exact g_vret B E dJ10_rotateRight_95 (⟨we_20_92, rfl, by rw [hrt] <;> rfl, hfin, tr_rotR hT ha hb⟩)
theorem ct_J10_rotateLeft_n (g : Gv) (J : Jd g) {t : Nat} : Ct g yJ10_rotateLeft (ws_ yJ10_rotateLeft cJ10_rotateLeft 3 none) 0 0 0 [.ref t, .null] [] (fun (rv_ : Option Value) (rL_ : List va_W) => rv_ = none ∧ rL_ = []) noX := by
  refine Ct.of "java/util/TreeMap" [some (.ref t), some (.null), none] rfl (by decide) rfl (Nat.le_of_ble_eq_true rfl) rfl ?_
  intro κ B E tb
  refine g_aload_n (q := 1) B dJ10_rotateLeft_0 rfl rfl rv_n ?_
  refine g_ifnull_n (tgt := 95) B dJ10_rotateLeft_1 (by decide) ?_
  exact g_vret B E dJ10_rotateLeft_95 (⟨rfl, rfl⟩)
theorem ct_J10_rotateRight_n (g : Gv) (J : Jd g) {t : Nat} : Ct g yJ10_rotateRight (ws_ yJ10_rotateRight cJ10_rotateRight 3 none) 0 0 0 [.ref t, .null] [] (fun (rv_ : Option Value) (rL_ : List va_W) => rv_ = none ∧ rL_ = []) noX := by
  refine Ct.of "java/util/TreeMap" [some (.ref t), some (.null), none] rfl (by decide) rfl (Nat.le_of_ble_eq_true rfl) rfl ?_
  intro κ B E tb
  refine g_aload_n (q := 1) B dJ10_rotateRight_0 rfl rfl rv_n ?_
  refine g_ifnull_n (tgt := 95) B dJ10_rotateRight_1 (by decide) ?_
  exact g_vret B E dJ10_rotateRight_95 (⟨rfl, rfl⟩)
