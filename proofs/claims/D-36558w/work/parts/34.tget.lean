set_option maxRecDepth 100000
theorem cmp_ge {a b : Nat} (ha : a < 128) (hb : b < 128) : 0 ≤ cmpI (nI a) (nI b) ↔ b ≤ a := by
  unfold cmpI
  rcases Nat.lt_trichotomy a b with h | h | h
  · rw [if_pos ((nI_ltI (by omega) (by omega)).mpr h)]
    exact ⟨fun z => absurd z (by decide), fun z => by omega⟩
  · rw [if_neg (fun z => by have := (nI_ltI (by omega) (by omega)).mp z; omega), if_pos (by rw [h])]
    exact ⟨fun _ => by omega, fun _ => by decide⟩
  · rw [if_neg (fun z => by have := (nI_ltI (by omega) (by omega)).mp z; omega), if_neg (fun z => by have := (nI_eq (by omega) (by omega)).mp z; omega)]
    exact ⟨fun _ => by omega, fun _ => by decide⟩
theorem cmp_le {a b : Nat} (ha : a < 128) (hb : b < 128) : cmpI (nI a) (nI b) ≤ 0 ↔ a ≤ b := by
  unfold cmpI
  rcases Nat.lt_trichotomy a b with h | h | h
  · rw [if_pos ((nI_ltI (by omega) (by omega)).mpr h)]
    exact ⟨fun _ => by omega, fun _ => by decide⟩
  · rw [if_neg (fun z => by have := (nI_ltI (by omega) (by omega)).mp z; omega), if_pos (by rw [h])]
    exact ⟨fun _ => by omega, fun _ => by decide⟩
  · rw [if_neg (fun z => by have := (nI_ltI (by omega) (by omega)).mp z; omega), if_neg (fun z => by have := (nI_eq (by omega) (by omega)).mp z; omega)]
    exact ⟨fun z => absurd z (by decide), fun z => by omega⟩
theorem tr_k {ns : List Nat} {key : Nat → Nat} {l r p : Nat → Option Nat} {lo hi : Nat → Nat} {root : Option Nat} {M : Nat} (h : Tr ns key l r p lo hi root M) {a : Nat} (ha : a ∈ ns) : key a < M := by have := h.2.1 a ha; omega
theorem ct_J17_requireNonNull (g : Gv) (J : Jd g) {a : Nat} : Ct g yJ17_requireNonNull (ws_ yJ17_requireNonNull cJ17_requireNonNull 1 (some (.object "java/lang/Object"))) 0 0 0 [.ref a] [] (fun (rv_ : Option Value) (rL_ : List va_W) => rv_ = some (.ref a) ∧ rL_ = []) noX := by
  refine Ct.of "java/util/Objects" [some (.ref a)] rfl (by decide) rfl (Nat.le_of_ble_eq_true rfl) rfl ?_
  intro κ B E tb
  refine g_aload_n (q := 1) B dJ17_requireNonNull_0 rfl rfl (rv_r _) ?_
  refine g_ifnonnull_r (tgt := 12) B dJ17_requireNonNull_1 (by decide) ?_
  refine g_aload_n (q := 13) B dJ17_requireNonNull_12 rfl rfl (rv_r _) ?_
  exact g_aret B E dJ17_requireNonNull_13 (by first | exact Or.inl ⟨_, rfl⟩ | exact Or.inr ⟨_, rfl⟩) (rv_r _) (⟨rfl, rfl⟩)
theorem moJ17_requireNonNull : Mo yJ17_requireNonNull 1 := by
  refine ⟨by decide, by decide, by decide +kernel⟩
theorem mojava_lang_Comparable_compareTo__Ljava_lang_Object__I : Mo ⟨"java/lang/Comparable", "compareTo", "(Ljava/lang/Object;)I"⟩ 1 := by
  refine ⟨by decide, by decide, by decide +kernel⟩
theorem ct_J10_getEntry (g : Gv) (J : Jd g) {t : Nat} {vs : Option Nat} {n : Nat} {md : Nat} {es : Option Nat} {nk : Option Nat} {ns : List Nat} {key : Nat → Nat} {val : Nat → Nat} {l : Nat → Option Nat} {r : Nat → Option Nat} {p : Nat → Option Nat} {col : Nat → Bool} {lo : Nat → Nat} {hi : Nat → Nat} {root : Option Nat} {k : Nat} {w1 : va_W} (hw1 : EntG g ns key val l r p col w1) (hT : Tr ns key l r p lo hi root 128) (hk : k < 128) : Ct g yJ10_getEntry (ws_ yJ10_getEntry cJ10_getEntry 5 (some (.object "java/util/TreeMap$Entry"))) 3 0 0 [.ref t, .ref (kI g k)] [[(t, .inr (27, [.null, va_rf vs, .null, va_rf root, .int (nI n), .int (nI md), va_rf es, va_rf nk, .null]))], w1] (fun (rv_ : Option Value) (rL_ : List va_W) => ∃ (e : Option Nat), rv_ = some (va_rf e) ∧ rL_ = [[(t, .inr (27, [.null, va_rf vs, .null, va_rf root, .int (nI n), .int (nI md), va_rf es, va_rf nk, .null]))], w1] ∧ (∀ a, e = some a → a ∈ ns ∧ key a = k) ∧ (e = none → ∀ b ∈ ns, key b ≠ k)) noX := by
  refine Ct.of "java/util/TreeMap" [some (.ref t), some (.ref (kI g k)), none, none, none] rfl (by decide) rfl (Nat.le_of_ble_eq_true rfl) rfl ?_
  intro κ B E tb
  refine g_aload_n (q := 1) B dJ10_getEntry_0 rfl rfl (rv_r _) ?_
  refine g_get (q := 4) B (ci := 27) (k := 0) (j := 2) in_J10 rfl dJ10_getEntry_1 rfl rfl (Nat.le_of_ble_eq_true rfl) q1870 rfl rfl ?_
  refine g_ifnull_n (tgt := 13) B dJ10_getEntry_4 (by decide) ?_
  obtain ⟨wc_1, ewc_1⟩ : ∃ w : va_W, w = ([] : List va_W).flatten := ⟨_, rfl⟩
  have hwc_1 : BoxP g (kI g k) (nI k) wc_1 := by
    rw [ewc_1]
    exact kI_box g (hk)
  refine g_close (w := wc_1) [] rfl ewc_1 rfl ?_
  refine (show Go g κ 13 [some (.ref t), some (.ref (kI g k)), none, none, none] [] [[(t, .inr (27, [.null, va_rf vs, .null, va_rf root, .int (nI n), .int (nI md), va_rf es, va_rf nk, .null]))], w1, wc_1] 0 0 from ?_)
  refine g_aload_n (q := 14) B dJ10_getEntry_13 rfl rfl (rv_r _) ?_
  refine g_callS (q := 17) (is := []) (kc2 := 0) (ks2 := 0) B [.ref (kI g k)] (ct_J17_requireNonNull g J (a := (kI g k))  ) dJ10_getEntry_14 rfl q1819 q1820 q100 q1821 rfl rfl moJ17_requireNonNull rfl rfl (by decide) (by decide) (Nat.le_of_ble_eq_true rfl) (Nat.le_of_ble_eq_true rfl) (Nat.le_of_ble_eq_true rfl) (fun _ _ hx => noX_x hx) (fun v14 L1 hp14 => ?_)
  obtain ⟨rfl, rfl⟩ := hp14
  refine (show Go g κ 17 [some (.ref t), some (.ref (kI g k)), none, none, none] [.ref (kI g k)] [[(t, .inr (27, [.null, va_rf vs, .null, va_rf root, .int (nI n), .int (nI md), va_rf es, va_rf nk, .null]))], w1, wc_1] 0 0 from ?_)
  refine g_pop (q := 18) B dJ10_getEntry_17 rfl rfl ?_
  refine g_aload_n (q := 19) B dJ10_getEntry_18 rfl rfl (rv_r _) ?_
  refine g_castR (q := 22) B (rc_box B J (k := 2) rfl hwc_1) dJ10_getEntry_19 rfl q1822 q1435 ?_
  refine g_astore_n (q := 23) (lv2 := [some (.ref t), some (.ref (kI g k)), some (.ref (kI g k)), none, none]) B dJ10_getEntry_22 rfl (Nat.le_of_ble_eq_true rfl) (rv_r _) rfl ?_
  refine g_pk [0, 0] rfl rfl ?_
  refine (show Go g κ 23 [some (.ref t), some (.ref (kI g k)), some (.ref (kI g k)), none, none] [] [[(t, .inr (27, [.null, va_rf vs, .null, va_rf root, .int (nI n), .int (nI md), va_rf es, va_rf nk, .null]))], w1] 0 0 from ?_)
  refine g_aload_n (q := 24) B dJ10_getEntry_23 rfl rfl (rv_r _) ?_
  refine g_get (q := 27) B (ci := 27) (k := 0) (j := 3) in_J10 rfl dJ10_getEntry_24 rfl rfl (Nat.le_of_ble_eq_true rfl) q1871 rfl rfl ?_
  refine g_astore_n (q := 28) (lv2 := [some (.ref t), some (.ref (kI g k)), some (.ref (kI g k)), some (va_rf root), none]) B dJ10_getEntry_27 rfl (Nat.le_of_ble_eq_true rfl) (rv_o _) rfl ?_
  have lp28 : ∀ (n28 : Nat) (x : Option Nat) , (Sk ns key lo hi k x) → wid lo hi x = n28 → Go g κ 28 [some (.ref t), some (.ref (kI g k)), some (.ref (kI g k)), some (va_rf x), none] [] [[(t, .inr (27, [.null, va_rf vs, .null, va_rf root, .int (nI n), .int (nI md), va_rf es, va_rf nk, .null]))], w1] 0 0 := by
    intro n28
    induction n28 using Nat.strongRecOn with
    | _ n28 ih28 =>
    intro x  hs hmu28
    refine g_aload_n (q := 29) B dJ10_getEntry_28 rfl rfl (rv_o _) ?_
    refine g_ifnull_o (tgt := 75) (q := 32) B dJ10_getEntry_29 rfl (by decide) (fun c29 => ?_) (fun x_a29 c29 => ?_)
    · skip
      subst c29
      refine g_aconst_null (q := 76) B dJ10_getEntry_75 rfl ?_
      exact g_aret B E dJ10_getEntry_76 (by first | exact Or.inl ⟨_, rfl⟩ | exact Or.inr ⟨_, rfl⟩) rv_n (⟨none, rfl, rfl, (fun a e => by cases e), fun _ => hs.2 rfl⟩)
    · skip
      subst c29
      have ham := (hs.1 x_a29 rfl).1
      have hkm := tr_k hT ham
      refine g_aload_n (q := 33) B dJ10_getEntry_32 rfl rfl (rv_r _) ?_
      refine g_aload_n (q := 34) B dJ10_getEntry_33 rfl rfl (rv_r _) ?_
      refine g_getM (v := .ref (kI g (key x_a29))) (q := 37) B (ci := 28) (k := 1) (j := 0) in_J37 rfl dJ10_getEntry_34 rfl rfl (EntG.mem hw1 ham) (Nat.le_of_ble_eq_true rfl) q2108 rfl rfl ?_
      obtain ⟨wc_2, ewc_2⟩ : ∃ w : va_W, w = ([] : List va_W).flatten := ⟨_, rfl⟩
      have hwc_2 : BoxP g (kI g k) (nI k) wc_2 := by
        rw [ewc_2]
        exact kI_box g (hk)
      refine g_close (w := wc_2) [] rfl ewc_2 rfl ?_
      refine (show Go g κ 37 [some (.ref t), some (.ref (kI g k)), some (.ref (kI g k)), some (.ref x_a29), none] [.ref (kI g (key x_a29)), .ref (kI g k)] [[(t, .inr (27, [.null, va_rf vs, .null, va_rf root, .int (nI n), .int (nI md), va_rf es, va_rf nk, .null]))], w1, wc_2] 0 0 from ?_)
      obtain ⟨wc_3, ewc_3⟩ : ∃ w : va_W, w = ([] : List va_W).flatten := ⟨_, rfl⟩
      have hwc_3 : BoxP g (kI g (key x_a29)) (nI (key x_a29)) wc_3 := by
        rw [ewc_3]
        exact kI_box g (hkm)
      refine g_close (w := wc_3) [] rfl ewc_3 rfl ?_
      refine (show Go g κ 37 [some (.ref t), some (.ref (kI g k)), some (.ref (kI g k)), some (.ref x_a29), none] [.ref (kI g (key x_a29)), .ref (kI g k)] [[(t, .inr (27, [.null, va_rf vs, .null, va_rf root, .int (nI n), .int (nI md), va_rf es, va_rf nk, .null]))], w1, wc_2, wc_3] 0 0 from ?_)
      refine g_callF (q := 42) (is := [2, 2]) (kc2 := 0) (ks2 := 0) B [.ref (kI g (key x_a29))] (ct_J26_compareTo g J (a := (kI g k)) (v := nI k) (b := (kI g (key x_a29))) (u := nI (key x_a29)) hwc_2 hwc_3 ) dJ10_getEntry_37 rfl (ci := 35) rfl (rc_box B J (k := 2) rfl hwc_2) q1824 q1436 q1438 q111 q1440 q1434 q1433 q1439 q1437 q1435 rfl rfl mojava_lang_Comparable_compareTo__Ljava_lang_Object__I rfl rfl (by decide) (by decide) (Nat.le_of_ble_eq_true rfl) (Nat.le_of_ble_eq_true rfl) (Nat.le_of_ble_eq_true rfl) (fun _ _ hx => noX_x hx) (fun v37 L1 hp37 => ?_)
      obtain ⟨rfl, rfl⟩ := hp37
      refine (show Go g κ 42 [some (.ref t), some (.ref (kI g k)), some (.ref (kI g k)), some (.ref x_a29), none] [.int (cmpI (nI k) (nI (key x_a29)))] [[(t, .inr (27, [.null, va_rf vs, .null, va_rf root, .int (nI n), .int (nI md), va_rf es, va_rf nk, .null]))], w1, wc_2, wc_3] 0 0 from ?_)
      refine g_pk [0, 0] rfl rfl ?_
      refine (show Go g κ 42 [some (.ref t), some (.ref (kI g k)), some (.ref (kI g k)), some (.ref x_a29), none] [.int (cmpI (nI k) (nI (key x_a29)))] [[(t, .inr (27, [.null, va_rf vs, .null, va_rf root, .int (nI n), .int (nI md), va_rf es, va_rf nk, .null]))], w1] 0 0 from ?_)
      refine g_istore (q := 44) (lv2 := [some (.ref t), some (.ref (kI g k)), some (.ref (kI g k)), some (.ref x_a29), some (.int (cmpI (nI k) (nI (key x_a29))))]) B dJ10_getEntry_42 rfl (Nat.le_of_ble_eq_true rfl) rfl ?_
      refine g_iload (q := 46) B dJ10_getEntry_44 rfl rfl ?_
      refine g_if_ge (tgt := 57) (q := 49) B dJ10_getEntry_46 rfl (by decide) (cmp_ge hk hkm) (fun c46 => ?_) (fun c46 => ?_)
      · skip
        refine g_iload (q := 59) B dJ10_getEntry_57 rfl rfl ?_
        refine g_if_le (tgt := 70) (q := 62) B dJ10_getEntry_59 rfl (by decide) (cmp_le hk hkm) (fun c59 => ?_) (fun c59 => ?_)
        · skip
          refine g_aload_n (q := 71) B dJ10_getEntry_70 rfl rfl (rv_r _) ?_
          exact g_aret B E dJ10_getEntry_71 (by first | exact Or.inl ⟨_, rfl⟩ | exact Or.inr ⟨_, rfl⟩) (rv_r _) (⟨some x_a29, rfl, rfl, fun a e => by cases e; exact ⟨ham, by omega⟩, fun e => by cases e⟩)
        · skip
          refine g_aload_n (q := 63) B dJ10_getEntry_62 rfl rfl (rv_r _) ?_
          refine g_getM (v := va_rf (r x_a29)) (q := 66) B (ci := 28) (k := 1) (j := 3) in_J37 rfl dJ10_getEntry_63 rfl rfl (EntG.mem hw1 ham) (Nat.le_of_ble_eq_true rfl) q2115 rfl rfl ?_
          refine g_astore_n (q := 67) (lv2 := [some (.ref t), some (.ref (kI g k)), some (.ref (kI g k)), some (va_rf (r x_a29)), some (.int (cmpI (nI k) (nI (key x_a29))))]) B dJ10_getEntry_66 rfl (Nat.le_of_ble_eq_true rfl) (rv_o _) rfl ?_
          refine g_goto (tgt := 72) B dJ10_getEntry_67 (by decide) ?_
          refine g_goto (tgt := 28) B dJ10_getEntry_72 (by decide) ?_
          refine g_fg 4 rfl ?_
          exact ih28 _ (by rw [← hmu28]; first | exact wid_l hT ham | exact wid_r hT ham) (r x_a29) (by first | exact sk_l hT hs (by omega) | exact sk_r hT hs (by omega)) rfl
      · skip
        refine g_aload_n (q := 50) B dJ10_getEntry_49 rfl rfl (rv_r _) ?_
        refine g_getM (v := va_rf (l x_a29)) (q := 53) B (ci := 28) (k := 1) (j := 2) in_J37 rfl dJ10_getEntry_50 rfl rfl (EntG.mem hw1 ham) (Nat.le_of_ble_eq_true rfl) q2113 rfl rfl ?_
        refine g_astore_n (q := 54) (lv2 := [some (.ref t), some (.ref (kI g k)), some (.ref (kI g k)), some (va_rf (l x_a29)), some (.int (cmpI (nI k) (nI (key x_a29))))]) B dJ10_getEntry_53 rfl (Nat.le_of_ble_eq_true rfl) (rv_o _) rfl ?_
        refine g_goto (tgt := 72) B dJ10_getEntry_54 (by decide) ?_
        refine g_goto (tgt := 28) B dJ10_getEntry_72 (by decide) ?_
        refine g_fg 4 rfl ?_
        exact ih28 _ (by rw [← hmu28]; first | exact wid_l hT ham | exact wid_r hT ham) (l x_a29) (by first | exact sk_l hT hs (by omega) | exact sk_r hT hs (by omega)) rfl
  exact lp28 _ root (sk_root hT hk) rfl
