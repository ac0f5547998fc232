set_option maxRecDepth 100000
/-- e: the place of the least key from j on -/
def Lf (ns : List Nat) (key : Nat → Nat) (j : Nat) (e : Option Nat) : Prop := (∀ a, e = some a → a ∈ ns ∧ j ≤ key a ∧ ∀ b ∈ ns, j ≤ key b → key a ≤ key b) ∧ (e = none → ∀ b ∈ ns, key b < j)
section
variable {ns : List Nat} {key : Nat → Nat} {l r p : Nat → Option Nat} {lo hi : Nat → Nat} {root : Option Nat} {M : Nat}
theorem lf_l (h : Tr ns key l r p lo hi root M) {x j : Nat} (hx : x ∈ ns) (hj : lo x = j) (hl : l x = none) : Lf ns key j (some x) := by
  refine ⟨fun a e => ?_, fun e => by cases e⟩
  cases e
  have q := h.2.1 x hx
  exact ⟨hx, by omega, fun b hb hjb => Classical.byContradiction fun hc => h.2.2.1 x hx hl b hb (by omega) (by omega)⟩
theorem lf_up (h : Tr ns key l r p lo hi root M) {c d j : Nat} (hc : c ∈ ns) (hd : p c = some d) (hs : ¬ r d = some c) (hj : ∀ b ∈ ns, j ≤ key b → hi c ≤ key b) (hjc : j ≤ hi c) : Lf ns key j (some d) := by
  obtain ⟨hdm, e⟩ := h.2.2.2.2.2.2.2.1 c hc d hd
  have e := e.resolve_right hs
  have q := h.2.2.2.1 d hdm c e
  refine ⟨fun a z => ?_, fun z => by cases z⟩
  cases z
  exact ⟨hdm, by omega, fun b hb hjb => by have := hj b hb hjb; omega⟩
theorem lf_top (h : Tr ns key l r p lo hi root M) {c j : Nat} (hc : c ∈ ns) (hd : p c = none) (hj : ∀ b ∈ ns, j ≤ key b → hi c ≤ key b) : Lf ns key j none := by
  have q := h.2.2.2.2.2.2.2.2.2 c (h.2.2.2.2.2.2.1 c hc hd)
  refine ⟨(fun a z => by cases z), fun _ b hb => Classical.byContradiction fun hn => ?_⟩
  have := hj b hb (by omega)
  have := h.2.1 b hb
  omega
theorem tr_lo (h : Tr ns key l r p lo hi root M) {x y : Nat} (hx : x ∈ ns) (e : l x = some y) : y ∈ ns ∧ lo y = lo x := by have q := h.2.2.2.1 x hx y e; exact ⟨q.1, q.2.2.1⟩
theorem tr_ro (h : Tr ns key l r p lo hi root M) {x y : Nat} (hx : x ∈ ns) (e : r x = some y) : y ∈ ns ∧ lo y = key x + 1 ∧ hi y = hi x := by have q := h.2.2.2.2.2.1 x hx y e; exact ⟨q.1, q.2.2.1, q.2.2.2⟩
end
theorem ct_J10_getFirstEntry (g : Gv) (J : Jd g) {t : Nat} {vs : Option Nat} {n : Nat} {md : Nat} {es : Option Nat} {nk : Option Nat} {ns : List Nat} {key : Nat → Nat} {val : Nat → Nat} {l : Nat → Option Nat} {r : Nat → Option Nat} {p : Nat → Option Nat} {col : Nat → Bool} {lo : Nat → Nat} {hi : Nat → Nat} {root : Option Nat} {w1 : va_W} (hw1 : EntG g ns key val l r p col w1) (hT : Tr ns key l r p lo hi root 128) : Ct g yJ10_getFirstEntry (ws_ yJ10_getFirstEntry cJ10_getFirstEntry 2 (some (.object "java/util/TreeMap$Entry"))) 0 0 0 [.ref t] [[(t, .inr (27, [.null, va_rf vs, .null, va_rf root, .int (nI n), .int (nI md), va_rf es, va_rf nk, .null]))], w1] (fun (rv_ : Option Value) (rL_ : List va_W) => ∃ (e : Option Nat), rv_ = some (va_rf e) ∧ rL_ = [[(t, .inr (27, [.null, va_rf vs, .null, va_rf root, .int (nI n), .int (nI md), va_rf es, va_rf nk, .null]))], w1] ∧ (Lf ns key 0 e)) noX := by
  refine Ct.of "java/util/TreeMap" [some (.ref t), none] rfl (by decide) rfl (Nat.le_of_ble_eq_true rfl) rfl ?_
  intro κ B E tb
  refine g_aload_n (q := 1) B dJ10_getFirstEntry_0 rfl rfl (rv_r _) ?_
  refine g_get (q := 4) B (ci := 27) (k := 0) (j := 3) in_J10 rfl dJ10_getFirstEntry_1 rfl rfl (Nat.le_of_ble_eq_true rfl) q1871 rfl rfl ?_
  refine g_astore_n (q := 5) (lv2 := [some (.ref t), some (va_rf root)]) B dJ10_getFirstEntry_4 rfl (Nat.le_of_ble_eq_true rfl) (rv_o _) rfl ?_
  refine g_aload_n (q := 6) B dJ10_getFirstEntry_5 rfl rfl (rv_o _) ?_
  refine g_ifnull_o (tgt := 24) (q := 9) B dJ10_getFirstEntry_6 rfl (by decide) (fun c6 => ?_) (fun root_a6 c6 => ?_)
  · skip
    subst c6
    refine g_aload_n (q := 25) B dJ10_getFirstEntry_24 rfl rfl rv_n ?_
    exact g_aret B E dJ10_getFirstEntry_25 (by first | exact Or.inl ⟨_, rfl⟩ | exact Or.inr ⟨_, rfl⟩) rv_n (⟨none, rfl, rfl, (fun a e => by cases e), fun _ b hb => absurd hb (by rw [hT.2.2.2.2.2.2.2.2.1 rfl]; simp)⟩)
  · skip
    subst c6
    have lp9 : ∀ (n9 : Nat) (x : Nat) , (x ∈ ns) → (lo x = 0) → wid lo hi (some x) = n9 → Go g κ 9 [some (.ref t), some (.ref x)] [] [[(t, .inr (27, [.null, va_rf vs, .null, .ref root_a6, .int (nI n), .int (nI md), va_rf es, va_rf nk, .null]))], w1] 0 0 := by
      intro n9
      induction n9 using Nat.strongRecOn with
      | _ n9 ih9 =>
      intro x  hx hlo hmu9
      refine g_aload_n (q := 10) B dJ10_getFirstEntry_9 rfl rfl (rv_r _) ?_
      refine g_getM (v := va_rf (l x)) (q := 13) B (ci := 28) (k := 1) (j := 2) in_J37 rfl dJ10_getFirstEntry_10 rfl rfl (EntG.mem hw1 hx) (Nat.le_of_ble_eq_true rfl) q2113 rfl rfl ?_
      refine g_ifnull_o (tgt := 24) (q := 16) B dJ10_getFirstEntry_13 rfl (by decide) (fun c13 => ?_) (fun lx_a13 c13 => ?_)
      · skip
        refine g_aload_n (q := 25) B dJ10_getFirstEntry_24 rfl rfl (rv_r _) ?_
        exact g_aret B E dJ10_getFirstEntry_25 (by first | exact Or.inl ⟨_, rfl⟩ | exact Or.inr ⟨_, rfl⟩) (rv_r _) (⟨some x, rfl, rfl, lf_l hT hx hlo c13⟩)
      · skip
        refine g_aload_n (q := 17) B dJ10_getFirstEntry_16 rfl rfl (rv_r _) ?_
        refine g_getM (v := .ref lx_a13) (q := 20) B (ci := 28) (k := 1) (j := 2) in_J37 rfl dJ10_getFirstEntry_17 rfl rfl (EntG.mem hw1 hx) (Nat.le_of_ble_eq_true rfl) q2113 rfl (congrArg some (congrArg va_rf c13)) ?_
        refine g_astore_n (q := 21) (lv2 := [some (.ref t), some (.ref lx_a13)]) B dJ10_getFirstEntry_20 rfl (Nat.le_of_ble_eq_true rfl) (rv_r _) rfl ?_
        refine g_goto (tgt := 9) B dJ10_getFirstEntry_21 (by decide) ?_
        exact ih9 _ (by rw [← hmu9, ← c13]; exact wid_l hT hx) lx_a13 (tr_lm hT hx c13) (by rw [(tr_lo hT hx c13).2]; exact hlo) rfl
    exact lp9 _ root_a6 (tr_tm hT rfl) ((hT.2.2.2.2.2.2.2.2.2 _ rfl).2.2.1) rfl
theorem ct_J10_successor (g : Gv) (J : Jd g) {ns : List Nat} {key : Nat → Nat} {val : Nat → Nat} {l : Nat → Option Nat} {r : Nat → Option Nat} {p : Nat → Option Nat} {col : Nat → Bool} {lo : Nat → Nat} {hi : Nat → Nat} {root : Option Nat} {M : Nat} {a : Nat} {w0 : va_W} (hw0 : EntG g ns key val l r p col w0) (hT : Tr ns key l r p lo hi root M) (ha : a ∈ ns) : Ct g yJ10_successor (ws_ yJ10_successor cJ10_successor 3 (some (.object "java/util/TreeMap$Entry"))) 0 0 0 [.ref a] [w0] (fun (rv_ : Option Value) (rL_ : List va_W) => ∃ (e : Option Nat), rv_ = some (va_rf e) ∧ rL_ = [w0] ∧ (Lf ns key (key a + 1) e) ∧ (∀ y, r a = some y → ∃ s, e = some s ∧ l s = none)) noX := by
  refine Ct.of "java/util/TreeMap" [some (.ref a), none, none] rfl (by decide) rfl (Nat.le_of_ble_eq_true rfl) rfl ?_
  intro κ B E tb
  refine g_aload_n (q := 1) B dJ10_successor_0 rfl rfl (rv_r _) ?_
  refine g_ifnonnull_r (tgt := 6) B dJ10_successor_1 (by decide) ?_
  refine g_aload_n (q := 7) B dJ10_successor_6 rfl rfl (rv_r _) ?_
  refine g_getM (v := va_rf (r a)) (q := 10) B (ci := 28) (k := 0) (j := 3) in_J37 rfl dJ10_successor_7 rfl rfl (EntG.mem hw0 ha) (Nat.le_of_ble_eq_true rfl) q2115 rfl rfl ?_
  refine g_ifnull_o (tgt := 35) (q := 13) B dJ10_successor_10 rfl (by decide) (fun c10 => ?_) (fun ra_a10 c10 => ?_)
  · skip
    refine g_aload_n (q := 36) B dJ10_successor_35 rfl rfl (rv_r _) ?_
    refine g_getM (v := va_rf (p a)) (q := 39) B (ci := 28) (k := 0) (j := 4) in_J37 rfl dJ10_successor_36 rfl rfl (EntG.mem hw0 ha) (Nat.le_of_ble_eq_true rfl) q2117 rfl rfl ?_
    refine g_astore_n (q := 40) (lv2 := [some (.ref a), some (va_rf (p a)), none]) B dJ10_successor_39 rfl (Nat.le_of_ble_eq_true rfl) (rv_o _) rfl ?_
    refine g_aload_n (q := 41) B dJ10_successor_40 rfl rfl (rv_r _) ?_
    refine g_astore_n (q := 42) (lv2 := [some (.ref a), some (va_rf (p a)), some (.ref a)]) B dJ10_successor_41 rfl (Nat.le_of_ble_eq_true rfl) (rv_r _) (by simp only [lst1, lclr_o]) ?_
    have lp42 : ∀ (n42 : Nat) (c : Nat) , (c ∈ ns) → (∀ b ∈ ns, key a + 1 ≤ key b → hi c ≤ key b) → (key a + 1 ≤ hi c) → M - wid lo hi (some c) = n42 → Go g κ 42 [some (.ref a), some (va_rf (p c)), some (.ref c)] [] [w0] 0 0 := by
      intro n42
      induction n42 using Nat.strongRecOn with
      | _ n42 ih42 =>
      intro c  hc hj hjc hmu42
      refine g_aload_n (q := 43) B dJ10_successor_42 rfl rfl (rv_o _) ?_
      refine g_ifnull_o (tgt := 64) (q := 46) B dJ10_successor_43 rfl (by decide) (fun c43 => ?_) (fun pc_a43 c43 => ?_)
      · skip
        rw [c43]
        refine (show Go g κ 64 [some (.ref a), some (.null), some (.ref c)] [] [w0] 0 0 from ?_)
        refine g_aload_n (q := 65) B dJ10_successor_64 rfl rfl rv_n ?_
        exact g_aret B E dJ10_successor_65 (by first | exact Or.inl ⟨_, rfl⟩ | exact Or.inr ⟨_, rfl⟩) rv_n (⟨none, rfl, rfl, lf_top hT hc c43 hj, fun y hy => by rw [c10] at hy; cases hy⟩)
      · skip
        rw [c43]
        refine (show Go g κ 46 [some (.ref a), some (.ref pc_a43), some (.ref c)] [] [w0] 0 0 from ?_)
        refine g_aload_n (q := 47) B dJ10_successor_46 rfl rfl (rv_r _) ?_
        refine g_aload_n (q := 48) B dJ10_successor_47 rfl rfl (rv_r _) ?_
        refine g_getM (v := va_rf (r pc_a43)) (q := 51) B (ci := 28) (k := 0) (j := 3) in_J37 rfl dJ10_successor_48 rfl rfl (EntG.mem hw0 (tr_pm hT hc c43)) (Nat.le_of_ble_eq_true rfl) q2115 rfl rfl ?_
        refine g_acmp_ne (rx := some c) (ry := r pc_a43) (tgt := 64) (q := 54) B dJ10_successor_51 rfl (by decide) rfl rfl (acn) (fun c51 => ?_) (fun c51 => ?_)
        · skip
          refine g_aload_n (q := 65) B dJ10_successor_64 rfl rfl (rv_r _) ?_
          exact g_aret B E dJ10_successor_65 (by first | exact Or.inl ⟨_, rfl⟩ | exact Or.inr ⟨_, rfl⟩) (rv_r _) (⟨some pc_a43, rfl, rfl, lf_up hT hc c43 c51 hj hjc, fun y hy => by rw [c10] at hy; cases hy⟩)
        · skip
          refine g_aload_n (q := 55) B dJ10_successor_54 rfl rfl (rv_r _) ?_
          refine g_astore_n (q := 56) (lv2 := [some (.ref a), some (.ref pc_a43), some (.ref pc_a43)]) B dJ10_successor_55 rfl (Nat.le_of_ble_eq_true rfl) (rv_r _) rfl ?_
          refine g_aload_n (q := 57) B dJ10_successor_56 rfl rfl (rv_r _) ?_
          refine g_getM (v := va_rf (p pc_a43)) (q := 60) B (ci := 28) (k := 0) (j := 4) in_J37 rfl dJ10_successor_57 rfl rfl (EntG.mem hw0 (tr_pm hT hc c43)) (Nat.le_of_ble_eq_true rfl) q2117 rfl rfl ?_
          refine g_astore_n (q := 61) (lv2 := [some (.ref a), some (va_rf (p pc_a43)), some (.ref pc_a43)]) B dJ10_successor_60 rfl (Nat.le_of_ble_eq_true rfl) (rv_o _) rfl ?_
          refine g_goto (tgt := 42) B dJ10_successor_61 (by decide) ?_
          exact ih42 _ (by have z := wid_p hT hc c43; have z2 := hT.2.1 _ (tr_pm hT hc c43); simp only [wid] at z hmu42 ⊢; omega) pc_a43 (tr_pm hT hc c43) (fun b hb hk => by rw [← (tr_ro hT (tr_pm hT hc c43) (Classical.not_not.mp c51)).2.2]; exact hj b hb hk) (by rw [← (tr_ro hT (tr_pm hT hc c43) (Classical.not_not.mp c51)).2.2]; exact hjc) rfl
    exact lp42 _ a (ha) (fun b hb hk => Classical.byContradiction fun hn => hT.2.2.2.2.1 a ha c10 b hb (by omega) (by omega)) (by have := hT.2.1 a ha; omega) rfl
  · skip
    refine g_aload_n (q := 14) B dJ10_successor_13 rfl rfl (rv_r _) ?_
    refine g_getM (v := .ref ra_a10) (q := 17) B (ci := 28) (k := 0) (j := 3) in_J37 rfl dJ10_successor_14 rfl rfl (EntG.mem hw0 ha) (Nat.le_of_ble_eq_true rfl) q2115 rfl (congrArg some (congrArg va_rf c10)) ?_
    refine g_astore_n (q := 18) (lv2 := [some (.ref a), some (.ref ra_a10), none]) B dJ10_successor_17 rfl (Nat.le_of_ble_eq_true rfl) (rv_r _) rfl ?_
    have lp18 : ∀ (n18 : Nat) (x : Nat) , (x ∈ ns) → (lo x = key a + 1) → wid lo hi (some x) = n18 → Go g κ 18 [some (.ref a), some (.ref x), none] [] [w0] 0 0 := by
      intro n18
      induction n18 using Nat.strongRecOn with
      | _ n18 ih18 =>
      intro x  hx hlo hmu18
      refine g_aload_n (q := 19) B dJ10_successor_18 rfl rfl (rv_r _) ?_
      refine g_getM (v := va_rf (l x)) (q := 22) B (ci := 28) (k := 0) (j := 2) in_J37 rfl dJ10_successor_19 rfl rfl (EntG.mem hw0 hx) (Nat.le_of_ble_eq_true rfl) q2113 rfl rfl ?_
      refine g_ifnull_o (tgt := 33) (q := 25) B dJ10_successor_22 rfl (by decide) (fun c22 => ?_) (fun lx_a22 c22 => ?_)
      · skip
        refine g_aload_n (q := 34) B dJ10_successor_33 rfl rfl (rv_r _) ?_
        exact g_aret B E dJ10_successor_34 (by first | exact Or.inl ⟨_, rfl⟩ | exact Or.inr ⟨_, rfl⟩) (rv_r _) (⟨some x, rfl, rfl, lf_l hT hx hlo c22, fun _ _ => ⟨x, rfl, c22⟩⟩)
      · skip
        refine g_aload_n (q := 26) B dJ10_successor_25 rfl rfl (rv_r _) ?_
        refine g_getM (v := .ref lx_a22) (q := 29) B (ci := 28) (k := 0) (j := 2) in_J37 rfl dJ10_successor_26 rfl rfl (EntG.mem hw0 hx) (Nat.le_of_ble_eq_true rfl) q2113 rfl (congrArg some (congrArg va_rf c22)) ?_
        refine g_astore_n (q := 30) (lv2 := [some (.ref a), some (.ref lx_a22), none]) B dJ10_successor_29 rfl (Nat.le_of_ble_eq_true rfl) (rv_r _) rfl ?_
        refine g_goto (tgt := 18) B dJ10_successor_30 (by decide) ?_
        exact ih18 _ (by rw [← hmu18, ← c22]; exact wid_l hT hx) lx_a22 (tr_lm hT hx c22) (by rw [(tr_lo hT hx c22).2]; exact hlo) rfl
    exact lp18 _ ra_a10 (tr_rm hT ha c10) ((tr_ro hT ha c10).2.1) rfl
