set_option maxRecDepth 100000
/-- q, if any: a place without children, under x -/
def Ph (ns : List Nat) (key lo hi : Nat → Nat) (l r : Nat → Option Nat) (x : Nat) (q : Option Nat) : Prop := ∀ a, q = some a → a ∈ ns ∧ lo x ≤ key a ∧ key a < hi x ∧ l a = none ∧ r a = none
def fdm (M : Nat) (lo hi : Nat → Nat) (root : Option Nat) (x : Nat) : Nat := if root = some x then 0 else 1 + (M - wid lo hi (some x))
section
variable {ns : List Nat} {key : Nat → Nat} {l r p : Nat → Option Nat} {lo hi : Nat → Nat} {root : Option Nat} {M : Nat} {q : Option Nat}
theorem ph_up (h : Tr ns key l r p lo hi root M) {x b : Nat} (hx : x ∈ ns) (hb : p x = some b) (hq : Ph ns key lo hi l r x q) : Ph ns key lo hi l r b q := by
  intro a ha
  obtain ⟨z1, z2, z3, z4, z5⟩ := hq a ha
  have z := (pk_p h (k := key a) ⟨hx, z2, z3⟩ hb).1
  exact ⟨z1, z.2.1, z.2.2, z4, z5⟩
theorem ph_root (h : Tr ns key l r p lo hi root M) {x z : Nat} (hz : root = some z) (hq : Ph ns key lo hi l r x q) : Ph ns key lo hi l r z q := by
  intro a ha
  obtain ⟨z1, z2, z3, z4, z5⟩ := hq a ha
  have w := h.2.2.2.2.2.2.2.2.2 z hz
  have w2 := h.2.1 a z1
  exact ⟨z1, by omega, by omega, z4, z5⟩
/-- x left of b, s right of it; b is rotated -/
theorem ph_L (h : Tr ns key l r p lo hi root M) {x b s : Nat} (hb : b ∈ ns) (hx : l b = some x) (hs : r b = some s) (hq : Ph ns key lo hi l r x q) : Ph ns key (fup lo s (lo b)) (fup (fup hi s (hi b)) b (key s)) (rlL l b s) (rlR l r b s) x q := by
  intro a ha
  obtain ⟨z1, z2, z3, z4, z5⟩ := hq a ha
  have w1 := h.2.2.2.1 b hb x hx
  have w2 := h.2.2.2.2.2.1 b hb s hs
  have w3 := h.2.1 s w2.1
  have w4 := h.2.1 b hb
  have w5 := h.2.1 x w1.1
  have n1 : a ≠ b := by rintro rfl; omega
  have n2 : a ≠ s := by rintro rfl; omega
  have n3 : x ≠ b := by rintro rfl; omega
  have n4 : x ≠ s := by rintro rfl; omega
  grind [fup, rlL, rlR]
theorem ph_R (h : Tr ns key l r p lo hi root M) {x b s : Nat} (hb : b ∈ ns) (hx : r b = some x) (hs : l b = some s) (hq : Ph ns key lo hi l r x q) : Ph ns key (fup (fup lo s (lo b)) b (key s + 1)) (fup hi s (hi b)) (rrL l r b s) (rrR r b s) x q := by
  intro a ha
  obtain ⟨z1, z2, z3, z4, z5⟩ := hq a ha
  have w1 := h.2.2.2.2.2.1 b hb x hx
  have w2 := h.2.2.2.1 b hb s hs
  have w3 := h.2.1 s w2.1
  have w4 := h.2.1 b hb
  have w5 := h.2.1 x w1.1
  have n1 : a ≠ b := by rintro rfl; omega
  have n2 : a ≠ s := by rintro rfl; omega
  have n3 : x ≠ b := by rintro rfl; omega
  have n4 : x ≠ s := by rintro rfl; omega
  grind [fup, rrL, rrR]
/-- x left of b, s right of it, y left of s; s is rotated -/
theorem ph_LR (h : Tr ns key l r p lo hi root M) {x b s y : Nat} (hb : b ∈ ns) (hx : l b = some x) (hs : r b = some s) (hy : l s = some y) (hq : Ph ns key lo hi l r x q) : Ph ns key (fup (fup lo y (lo s)) s (key y + 1)) (fup hi y (hi s)) (rrL l r s y) (rrR r s y) x q := by
  intro a ha
  obtain ⟨z1, z2, z3, z4, z5⟩ := hq a ha
  have w1 := h.2.2.2.1 b hb x hx
  have w2 := h.2.2.2.2.2.1 b hb s hs
  have w3 := h.2.1 s w2.1
  have w4 := h.2.1 b hb
  have w5 := h.2.1 x w1.1
  have w6 := h.2.2.2.1 s w2.1 y hy
  have w7 := h.2.1 y w6.1
  have n1 : a ≠ y := by rintro rfl; omega
  have n2 : a ≠ s := by rintro rfl; omega
  have n3 : x ≠ y := by rintro rfl; omega
  have n4 : x ≠ s := by rintro rfl; omega
  grind [fup, rrL, rrR]
theorem ph_RL (h : Tr ns key l r p lo hi root M) {x b s y : Nat} (hb : b ∈ ns) (hx : r b = some x) (hs : l b = some s) (hy : r s = some y) (hq : Ph ns key lo hi l r x q) : Ph ns key (fup lo y (lo s)) (fup (fup hi y (hi s)) s (key y)) (rlL l s y) (rlR l r s y) x q := by
  intro a ha
  obtain ⟨z1, z2, z3, z4, z5⟩ := hq a ha
  have w1 := h.2.2.2.2.2.1 b hb x hx
  have w2 := h.2.2.2.1 b hb s hs
  have w3 := h.2.1 s w2.1
  have w4 := h.2.1 b hb
  have w5 := h.2.1 x w1.1
  have w6 := h.2.2.2.2.2.1 s w2.1 y hy
  have w7 := h.2.1 y w6.1
  have n1 : a ≠ y := by rintro rfl; omega
  have n2 : a ≠ s := by rintro rfl; omega
  have n3 : x ≠ y := by rintro rfl; omega
  have n4 : x ≠ s := by rintro rfl; omega
  grind [fup, rlL, rlR]
/-- what the rotations leave of x and b -/
theorem sb_L (h : Tr ns key l r p lo hi root M) {x b s : Nat} (hb : b ∈ ns) (hx : l b = some x) (hs : r b = some s) : rlP l p b s x = some b ∧ rlL l b s b = some x ∧ wid (fup lo s (lo b)) (fup (fup hi s (hi b)) b (key s)) (some x) = wid lo hi (some x) := by
  have w1 := h.2.2.2.1 b hb x hx
  have w2 := h.2.2.2.2.2.1 b hb s hs
  have w3 := h.2.1 s w2.1
  have w4 := h.2.1 b hb
  have w5 := h.2.1 x w1.1
  have n1 : x ≠ b := by rintro rfl; omega
  have n2 : x ≠ s := by rintro rfl; omega
  have n3 : b ≠ s := by rintro rfl; omega
  grind [fup, rlP, rlL, wid]
theorem sb_R (h : Tr ns key l r p lo hi root M) {x b s : Nat} (hb : b ∈ ns) (hx : r b = some x) (hs : l b = some s) : rrP r p b s x = some b ∧ rrR r b s b = some x ∧ wid (fup (fup lo s (lo b)) b (key s + 1)) (fup hi s (hi b)) (some x) = wid lo hi (some x) := by
  have w1 := h.2.2.2.2.2.1 b hb x hx
  have w2 := h.2.2.2.1 b hb s hs
  have w3 := h.2.1 s w2.1
  have w4 := h.2.1 b hb
  have w5 := h.2.1 x w1.1
  have n1 : x ≠ b := by rintro rfl; omega
  have n2 : x ≠ s := by rintro rfl; omega
  have n3 : b ≠ s := by rintro rfl; omega
  grind [fup, rrP, rrR, wid]
theorem sb_LR (h : Tr ns key l r p lo hi root M) {x b s y : Nat} (hb : b ∈ ns) (hx : l b = some x) (hs : r b = some s) (hy : l s = some y) : rrP r p s y x = some b ∧ rrL l r s y b = some x ∧ rrR r s y b = some y ∧ y ∈ ns := by
  have w1 := h.2.2.2.1 b hb x hx
  have w2 := h.2.2.2.2.2.1 b hb s hs
  have w3 := h.2.1 s w2.1
  have w4 := h.2.1 b hb
  have w5 := h.2.1 x w1.1
  have w6 := h.2.2.2.1 s w2.1 y hy
  have w7 := h.2.1 y w6.1
  have w8 := h.2.2.2.2.2.1 y w6.1
  have n1 : x ≠ y := by rintro rfl; omega
  have n2 : x ≠ s := by rintro rfl; omega
  have n3 : b ≠ s := by rintro rfl; omega
  have n4 : b ≠ y := by rintro rfl; omega
  have n5 : r y ≠ some x := by intro e; have := w8 x e; grind
  grind [fup, rrP, rrL, rrR]
theorem sb_RL (h : Tr ns key l r p lo hi root M) {x b s y : Nat} (hb : b ∈ ns) (hx : r b = some x) (hs : l b = some s) (hy : r s = some y) : rlP l p s y x = some b ∧ rlR l r s y b = some x ∧ rlL l s y b = some y ∧ y ∈ ns := by
  have w1 := h.2.2.2.2.2.1 b hb x hx
  have w2 := h.2.2.2.1 b hb s hs
  have w3 := h.2.1 s w2.1
  have w4 := h.2.1 b hb
  have w5 := h.2.1 x w1.1
  have w6 := h.2.2.2.2.2.1 s w2.1 y hy
  have w7 := h.2.1 y w6.1
  have w8 := h.2.2.2.1 y w6.1
  have n1 : x ≠ y := by rintro rfl; omega
  have n2 : x ≠ s := by rintro rfl; omega
  have n3 : b ≠ s := by rintro rfl; omega
  have n4 : b ≠ y := by rintro rfl; omega
  have n5 : l y ≠ some x := by intro e; have := w8 x e; grind
  grind [fup, rlP, rlL, rlR]
theorem fdm_up (h : Tr ns key l r p lo hi root M) {x b W : Nat} (hx : x ∈ ns) (hb : p x = some b) (hw : 1 + (M - wid lo hi (some x)) ≤ W) : fdm M lo hi root b < W := by
  have z := wid_p h hx hb
  have z2 := h.2.1 b (tr_pm h hx hb)
  have z3 : wid lo hi (some b) ≤ M := by simp only [wid]; omega
  unfold fdm
  split <;> omega
theorem fdm_root {z x : Nat} {lo2 hi2 : Nat → Nat} {W : Nat} (hw : 1 + (M - wid lo2 hi2 (some x)) ≤ W) (hz : root = some z) : fdm M lo hi root z < W := by
  unfold fdm
  rw [if_pos hz]; omega
theorem tr_root (h : Tr ns key l r p lo hi root M) {x : Nat} (hx : x ∈ ns) : ∃ z, root = some z ∧ z ∈ ns := by
  cases e : root with
  | none => exact absurd hx (by rw [h.2.2.2.2.2.2.2.2.1 e]; simp)
  | some z => exact ⟨z, rfl, tr_tm h e⟩
end
theorem bo_eq1 {P : Prop} [Decidable P] : nI (if P then 1 else 0) = nI 1 ↔ P := by
  by_cases h : P
  · rw [if_pos h]; exact ⟨fun _ => h, fun _ => rfl⟩
  · rw [if_neg h]; exact ⟨fun z => absurd z (by decide), fun z => absurd z h⟩
theorem ct_J10_fixAfterDeletion (g : Gv) (J : Jd g) {t : Nat} {vs : Option Nat} {n : Nat} {md : Nat} {es : Option Nat} {nk : Option Nat} {ns : List Nat} {key : Nat → Nat} {val : Nat → Nat} {l : Nat → Option Nat} {r : Nat → Option Nat} {p : Nat → Option Nat} {col : Nat → Bool} {lo : Nat → Nat} {hi : Nat → Nat} {root : Option Nat} {M : Nat} {kc : Nat → Nat} {x : Nat} {q : Option Nat} {w1 : va_W} (hw1 : EntG g ns kc val l r p col w1) (hT : Tr ns key l r p lo hi root M) (hx : x ∈ ns) (hq : Ph ns key lo hi l r x q) : Ct g yJ10_fixAfterDeletion (ws_ yJ10_fixAfterDeletion cJ10_fixAfterDeletion 3 none) 1 0 0 [.ref t, .ref x] [[(t, .inr (27, [.null, va_rf vs, .null, va_rf root, .int (nI n), .int (nI md), va_rf es, va_rf nk, .null]))], w1] (fun (rv_ : Option Value) (rL_ : List va_W) => ∃ (l2 : Nat → Option Nat) (r2 : Nat → Option Nat) (p2 : Nat → Option Nat) (col2 : Nat → Bool) (lo2 : Nat → Nat) (hi2 : Nat → Nat) (root2 : Option Nat) (u1 : va_W), rv_ = none ∧ rL_ = [[(t, .inr (27, [.null, va_rf vs, .null, va_rf root2, .int (nI n), .int (nI md), va_rf es, va_rf nk, .null]))], u1] ∧ EntG g ns kc val l2 r2 p2 col2 u1 ∧ (Tr ns key l2 r2 p2 lo2 hi2 root2 M) ∧ (∃ z, Ph ns key lo2 hi2 l2 r2 z q)) noX := by
  refine Ct.of "java/util/TreeMap" [some (.ref t), some (.ref x), none] rfl (by decide) rfl (Nat.le_of_ble_eq_true rfl) rfl ?_
  intro κ B E tb
  have lp0 : ∀ (n0 : Nat) (x : Nat) (l : Nat → Option Nat) (r : Nat → Option Nat) (p : Nat → Option Nat) (col : Nat → Bool) (lo : Nat → Nat) (hi : Nat → Nat) (root : Option Nat) (l0_1 : va_W), EntG g ns kc val l r p col l0_1 → (Tr ns key l r p lo hi root M) → (x ∈ ns) → (Ph ns key lo hi l r x q) → fdm M lo hi root x = n0 → Go g κ 0 [some (.ref t), some (.ref x), none] [] [[(t, .inr (27, [.null, va_rf vs, .null, va_rf root, .int (nI n), .int (nI md), va_rf es, va_rf nk, .null]))], l0_1] 0 0 := by
    intro n0
    induction n0 using Nat.strongRecOn with
    | _ n0 ih0 =>
    intro x l r p col lo hi root l0_1 hl0_1 hT hx hq hmu0
    refine g_aload_n (q := 1) B dJ10_fixAfterDeletion_0 rfl rfl (rv_r _) ?_
    refine g_aload_n (q := 2) B dJ10_fixAfterDeletion_1 rfl rfl (rv_r _) ?_
    refine g_get (q := 5) B (ci := 27) (k := 0) (j := 3) in_J10 rfl dJ10_fixAfterDeletion_2 rfl rfl (Nat.le_of_ble_eq_true rfl) q1871 rfl rfl ?_
    refine g_acmp_eq (rx := some x) (ry := root) (tgt := 345) (q := 8) B dJ10_fixAfterDeletion_5 rfl (by decide) rfl rfl (Iff.rfl) (fun c5 => ?_) (fun c5 => ?_)
    · skip
      refine g_aload_n (q := 346) B dJ10_fixAfterDeletion_345 rfl rfl (rv_r _) ?_
      refine g_iconst (v := nI 1) (q := 347) B dJ10_fixAfterDeletion_346 rfl (by decide) ?_
      refine g_callS (q := 350) (is := [1]) (kc2 := 0) (ks2 := 0) B [.ref x, .int (nI 1)] (ct_J10_setColor_r g J (ns := ns) (key := kc) (val := val) (l := l) (r := r) (p := p) (col := col) (a := x) (c := true) hl0_1 (by first | assumption | omega | rfl)) dJ10_fixAfterDeletion_347 rfl q2153 q2154 q91 q2155 rfl rfl moJ10_setColor rfl rfl (by decide) (by decide) (Nat.le_of_ble_eq_true rfl) (Nat.le_of_ble_eq_true rfl) (Nat.le_of_ble_eq_true rfl) (fun _ _ hx => noX_x hx) (fun v347 L1 hp347 => ?_)
      obtain ⟨u0_347, rfl, rfl, hu0_347⟩ := hp347
      refine (show Go g κ 350 [some (.ref t), some (.ref x), none] [] [[(t, .inr (27, [.null, va_rf vs, .null, va_rf root, .int (nI n), .int (nI md), va_rf es, va_rf nk, .null]))], u0_347] 0 0 from ?_)
      exact g_vret B E dJ10_fixAfterDeletion_350 (⟨l, r, p, _, lo, hi, _, _, rfl, rfl, hu0_347, hT, x, hq⟩)
    · skip
      have c14 := c5
      refine g_aload_n (q := 9) B dJ10_fixAfterDeletion_8 rfl rfl (rv_r _) ?_
      refine g_callS (q := 12) (is := [1]) (kc2 := 0) (ks2 := 0) B [.ref x] (ct_J10_colorOf_r g J (ns := ns) (key := kc) (val := val) (l := l) (r := r) (p := p) (col := col) (a := x) hl0_1 (by first | assumption | omega | rfl)) dJ10_fixAfterDeletion_9 rfl q2150 q2151 q91 q2152 rfl rfl moJ10_colorOf rfl rfl (by decide) (by decide) (Nat.le_of_ble_eq_true rfl) (Nat.le_of_ble_eq_true rfl) (Nat.le_of_ble_eq_true rfl) (fun _ _ hx => noX_x hx) (fun v9 L1 hp9 => ?_)
      obtain ⟨rfl, rfl⟩ := hp9
      refine (show Go g κ 12 [some (.ref t), some (.ref x), none] [.int (nI (if col x = true then 1 else 0))] [[(t, .inr (27, [.null, va_rf vs, .null, va_rf root, .int (nI n), .int (nI md), va_rf es, va_rf nk, .null]))], l0_1] 0 0 from ?_)
      refine g_iconst (v := nI 1) (q := 13) B dJ10_fixAfterDeletion_12 rfl (by decide) ?_
      refine g_icmp_ne (tgt := 345) (q := 16) B dJ10_fixAfterDeletion_13 rfl (by decide) (not_congr bo_eq1) (fun c13 => ?_) (fun c13 => ?_)
      · skip
        refine g_aload_n (q := 346) B dJ10_fixAfterDeletion_345 rfl rfl (rv_r _) ?_
        refine g_iconst (v := nI 1) (q := 347) B dJ10_fixAfterDeletion_346 rfl (by decide) ?_
        refine g_callS (q := 350) (is := [1]) (kc2 := 0) (ks2 := 0) B [.ref x, .int (nI 1)] (ct_J10_setColor_r g J (ns := ns) (key := kc) (val := val) (l := l) (r := r) (p := p) (col := col) (a := x) (c := true) hl0_1 (by first | assumption | omega | rfl)) dJ10_fixAfterDeletion_347 rfl q2153 q2154 q91 q2155 rfl rfl moJ10_setColor rfl rfl (by decide) (by decide) (Nat.le_of_ble_eq_true rfl) (Nat.le_of_ble_eq_true rfl) (Nat.le_of_ble_eq_true rfl) (fun _ _ hx => noX_x hx) (fun v347 L1 hp347 => ?_)
        obtain ⟨u0_347, rfl, rfl, hu0_347⟩ := hp347
        refine (show Go g κ 350 [some (.ref t), some (.ref x), none] [] [[(t, .inr (27, [.null, va_rf vs, .null, va_rf root, .int (nI n), .int (nI md), va_rf es, va_rf nk, .null]))], u0_347] 0 0 from ?_)
        exact g_vret B E dJ10_fixAfterDeletion_350 (⟨l, r, p, _, lo, hi, _, _, rfl, rfl, hu0_347, hT, x, hq⟩)
      · skip
        obtain ⟨b, hpx⟩ : ∃ b, p x = some b := by
          cases e : p x with
          | none => exact absurd (hT.2.2.2.2.2.2.1 x hx e).symm c14
          | some b => exact ⟨b, rfl⟩
        have hbm := tr_pm hT hx hpx
        obtain ⟨hxb, hxc⟩ := tr_3 hT hx hpx
        refine g_aload_n (q := 17) B dJ10_fixAfterDeletion_16 rfl rfl (rv_r _) ?_
        refine g_aload_n (q := 18) B dJ10_fixAfterDeletion_17 rfl rfl (rv_r _) ?_
        refine g_callS (q := 21) (is := [1]) (kc2 := 0) (ks2 := 0) B [.ref x] (ct_J10_parentOf_r g J (ns := ns) (key := kc) (val := val) (l := l) (r := r) (p := p) (col := col) (a := x) hl0_1 (by first | assumption | omega | rfl)) dJ10_fixAfterDeletion_18 rfl q2141 q2142 q91 q2143 rfl rfl moJ10_parentOf rfl rfl (by decide) (by decide) (Nat.le_of_ble_eq_true rfl) (Nat.le_of_ble_eq_true rfl) (Nat.le_of_ble_eq_true rfl) (fun _ _ hx => noX_x hx) (fun v18 L1 hp18 => ?_)
        obtain ⟨rfl, rfl⟩ := hp18
        rw [(show p x = some b from hpx)]
        refine (show Go g κ 21 [some (.ref t), some (.ref x), none] [.ref b, .ref x] [[(t, .inr (27, [.null, va_rf vs, .null, va_rf root, .int (nI n), .int (nI md), va_rf es, va_rf nk, .null]))], l0_1] 0 0 from ?_)
        refine g_callS (q := 24) (is := [1]) (kc2 := 0) (ks2 := 0) B [.ref b] (ct_J10_leftOf_r g J (ns := ns) (key := kc) (val := val) (l := l) (r := r) (p := p) (col := col) (a := b) hl0_1 (by first | assumption | omega | rfl)) dJ10_fixAfterDeletion_21 rfl q2144 q2145 q91 q2146 rfl rfl moJ10_leftOf rfl rfl (by decide) (by decide) (Nat.le_of_ble_eq_true rfl) (Nat.le_of_ble_eq_true rfl) (Nat.le_of_ble_eq_true rfl) (fun _ _ hx => noX_x hx) (fun v21 L1 hp21 => ?_)
        obtain ⟨rfl, rfl⟩ := hp21
        refine (show Go g κ 24 [some (.ref t), some (.ref x), none] [va_rf (l b), .ref x] [[(t, .inr (27, [.null, va_rf vs, .null, va_rf root, .int (nI n), .int (nI md), va_rf es, va_rf nk, .null]))], l0_1] 0 0 from ?_)
        refine g_acmp_ne (rx := some x) (ry := l b) (tgt := 186) (q := 27) B dJ10_fixAfterDeletion_24 rfl (by decide) rfl rfl (acn) (fun c24 => ?_) (fun c24 => ?_)
        · skip
          have hfb : r b = some x := (hT.2.2.2.2.2.2.2.1 x hx b hpx).2.resolve_left c24
          have hw0 : 1 + (M - wid lo hi (some x)) ≤ n0 := by rw [← hmu0]; unfold fdm; rw [if_neg (fun e => c5 e.symm)]; exact Nat.le_refl _
          have ct230 : ∀ (l : Nat → Option Nat) (r : Nat → Option Nat) (p : Nat → Option Nat) (col : Nat → Bool) (lo : Nat → Nat) (hi : Nat → Nat) (root : Option Nat) (l230_1 : va_W), EntG g ns kc val l r p col l230_1 → (Tr ns key l r p lo hi root M) → (p x = some b) → (r b = some x) → (Ph ns key lo hi l r x q) → (1 + (M - wid lo hi (some x)) ≤ n0) → Go g κ 230 [some (.ref t), some (.ref x), some (va_rf (l b))] [] [[(t, .inr (27, [.null, va_rf vs, .null, va_rf root, .int (nI n), .int (nI md), va_rf es, va_rf nk, .null]))], l230_1] 0 0 := by
            intro l r p col lo hi root l230_1 hl230_1 hT hpx hfb hq hw0
            rcases hsb : l b with _ | s
            · skip
              refine (show Go g κ 230 [some (.ref t), some (.ref x), some (.null)] [] [[(t, .inr (27, [.null, va_rf vs, .null, va_rf root, .int (nI n), .int (nI md), va_rf es, va_rf nk, .null]))], l230_1] 0 0 from ?_)
              refine g_aload_n (q := 231) B dJ10_fixAfterDeletion_230 rfl rfl rv_n ?_
              refine g_callS (q := 234) (is := []) (kc2 := 0) (ks2 := 0) B [.null] (ct_J10_rightOf_n g J   ) dJ10_fixAfterDeletion_231 rfl q2147 q2148 q91 q2149 rfl rfl moJ10_rightOf rfl rfl (by decide) (by decide) (Nat.le_of_ble_eq_true rfl) (Nat.le_of_ble_eq_true rfl) (Nat.le_of_ble_eq_true rfl) (fun _ _ hx => noX_x hx) (fun v231 L1 hp231 => ?_)
              obtain ⟨rfl, rfl⟩ := hp231
              refine (show Go g κ 234 [some (.ref t), some (.ref x), some (.null)] [.null] [[(t, .inr (27, [.null, va_rf vs, .null, va_rf root, .int (nI n), .int (nI md), va_rf es, va_rf nk, .null]))], l230_1] 0 0 from ?_)
              refine g_callS (q := 237) (is := []) (kc2 := 0) (ks2 := 0) B [.null] (ct_J10_colorOf_n g J   ) dJ10_fixAfterDeletion_234 rfl q2150 q2151 q91 q2152 rfl rfl moJ10_colorOf rfl rfl (by decide) (by decide) (Nat.le_of_ble_eq_true rfl) (Nat.le_of_ble_eq_true rfl) (Nat.le_of_ble_eq_true rfl) (fun _ _ hx => noX_x hx) (fun v234 L1 hp234 => ?_)
              obtain ⟨rfl, rfl⟩ := hp234
              refine (show Go g κ 237 [some (.ref t), some (.ref x), some (.null)] [.int (nI 1)] [[(t, .inr (27, [.null, va_rf vs, .null, va_rf root, .int (nI n), .int (nI md), va_rf es, va_rf nk, .null]))], l230_1] 0 0 from ?_)
              refine g_iconst (v := nI 1) (q := 238) B dJ10_fixAfterDeletion_237 rfl (by decide) ?_
              refine g_icmp_ne (tgt := 265) (q := 241) B dJ10_fixAfterDeletion_238 rfl (by decide) (iff_false_intro (by decide)) (fun z => z.elim) (fun _ => ?_)
              refine g_aload_n (q := 242) B dJ10_fixAfterDeletion_241 rfl rfl rv_n ?_
              refine g_callS (q := 245) (is := []) (kc2 := 0) (ks2 := 0) B [.null] (ct_J10_leftOf_n g J   ) dJ10_fixAfterDeletion_242 rfl q2144 q2145 q91 q2146 rfl rfl moJ10_leftOf rfl rfl (by decide) (by decide) (Nat.le_of_ble_eq_true rfl) (Nat.le_of_ble_eq_true rfl) (Nat.le_of_ble_eq_true rfl) (fun _ _ hx => noX_x hx) (fun v242 L1 hp242 => ?_)
              obtain ⟨rfl, rfl⟩ := hp242
              refine (show Go g κ 245 [some (.ref t), some (.ref x), some (.null)] [.null] [[(t, .inr (27, [.null, va_rf vs, .null, va_rf root, .int (nI n), .int (nI md), va_rf es, va_rf nk, .null]))], l230_1] 0 0 from ?_)
              refine g_callS (q := 248) (is := []) (kc2 := 0) (ks2 := 0) B [.null] (ct_J10_colorOf_n g J   ) dJ10_fixAfterDeletion_245 rfl q2150 q2151 q91 q2152 rfl rfl moJ10_colorOf rfl rfl (by decide) (by decide) (Nat.le_of_ble_eq_true rfl) (Nat.le_of_ble_eq_true rfl) (Nat.le_of_ble_eq_true rfl) (fun _ _ hx => noX_x hx) (fun v245 L1 hp245 => ?_)
              obtain ⟨rfl, rfl⟩ := hp245
              refine (show Go g κ 248 [some (.ref t), some (.ref x), some (.null)] [.int (nI 1)] [[(t, .inr (27, [.null, va_rf vs, .null, va_rf root, .int (nI n), .int (nI md), va_rf es, va_rf nk, .null]))], l230_1] 0 0 from ?_)
              refine g_iconst (v := nI 1) (q := 249) B dJ10_fixAfterDeletion_248 rfl (by decide) ?_
              refine g_icmp_ne (tgt := 265) (q := 252) B dJ10_fixAfterDeletion_249 rfl (by decide) (iff_false_intro (by decide)) (fun z => z.elim) (fun _ => ?_)
              refine g_aload_n (q := 253) B dJ10_fixAfterDeletion_252 rfl rfl rv_n ?_
              refine g_iconst (v := nI 0) (q := 254) B dJ10_fixAfterDeletion_253 rfl (by decide) ?_
              refine g_callS (q := 257) (is := []) (kc2 := 0) (ks2 := 0) B [.null, .int (nI 0)] (ct_J10_setColor_n g J (c := false)  ) dJ10_fixAfterDeletion_254 rfl q2153 q2154 q91 q2155 rfl rfl moJ10_setColor rfl rfl (by decide) (by decide) (Nat.le_of_ble_eq_true rfl) (Nat.le_of_ble_eq_true rfl) (Nat.le_of_ble_eq_true rfl) (fun _ _ hx => noX_x hx) (fun v254 L1 hp254 => ?_)
              obtain ⟨rfl, rfl⟩ := hp254
              refine (show Go g κ 257 [some (.ref t), some (.ref x), some (.null)] [] [[(t, .inr (27, [.null, va_rf vs, .null, va_rf root, .int (nI n), .int (nI md), va_rf es, va_rf nk, .null]))], l230_1] 0 0 from ?_)
              refine g_aload_n (q := 258) B dJ10_fixAfterDeletion_257 rfl rfl (rv_r _) ?_
              refine g_callS (q := 261) (is := [1]) (kc2 := 0) (ks2 := 0) B [.ref x] (ct_J10_parentOf_r g J (ns := ns) (key := kc) (val := val) (l := l) (r := r) (p := p) (col := col) (a := x) hl230_1 (by first | assumption | omega | rfl)) dJ10_fixAfterDeletion_258 rfl q2141 q2142 q91 q2143 rfl rfl moJ10_parentOf rfl rfl (by decide) (by decide) (Nat.le_of_ble_eq_true rfl) (Nat.le_of_ble_eq_true rfl) (Nat.le_of_ble_eq_true rfl) (fun _ _ hx => noX_x hx) (fun v258 L1 hp258 => ?_)
              obtain ⟨rfl, rfl⟩ := hp258
              rw [(show p x = some b from hpx)]
              refine (show Go g κ 261 [some (.ref t), some (.ref x), some (.null)] [.ref b] [[(t, .inr (27, [.null, va_rf vs, .null, va_rf root, .int (nI n), .int (nI md), va_rf es, va_rf nk, .null]))], l230_1] 0 0 from ?_)
              refine g_astore_n (q := 262) (lv2 := [some (.ref t), some (.ref b), some (.null)]) B dJ10_fixAfterDeletion_261 rfl (Nat.le_of_ble_eq_true rfl) (rv_r _) rfl ?_
              refine g_goto (tgt := 342) B dJ10_fixAfterDeletion_262 (by decide) ?_
              refine g_goto (tgt := 0) B dJ10_fixAfterDeletion_342 (by decide) ?_
              refine g_fg 2 rfl ?_
              exact ih0 _ (fdm_up hT hx hpx hw0) b l r p col lo hi root l230_1 hl230_1 (hT) (hbm) (ph_up hT hx hpx hq) rfl
            · skip
              have hsm := tr_lm hT hbm hsb
              refine (show Go g κ 230 [some (.ref t), some (.ref x), some (.ref s)] [] [[(t, .inr (27, [.null, va_rf vs, .null, va_rf root, .int (nI n), .int (nI md), va_rf es, va_rf nk, .null]))], l230_1] 0 0 from ?_)
              have ct302 : ∀ (l : Nat → Option Nat) (r : Nat → Option Nat) (p : Nat → Option Nat) (col : Nat → Bool) (lo : Nat → Nat) (hi : Nat → Nat) (root : Option Nat) (s : Nat) (l302_1 : va_W), EntG g ns kc val l r p col l302_1 → (Tr ns key l r p lo hi root M) → (p x = some b) → (r b = some x) → (Ph ns key lo hi l r x q) → (1 + (M - wid lo hi (some x)) ≤ n0) → (l b = some s) → (s ∈ ns) → Go g κ 302 [some (.ref t), some (.ref x), some (.ref s)] [] [[(t, .inr (27, [.null, va_rf vs, .null, va_rf root, .int (nI n), .int (nI md), va_rf es, va_rf nk, .null]))], l302_1] 0 0 := by
                intro l r p col lo hi root s l302_1 hl302_1 hT hpx hfb hq hw0 hsb hsm
                refine g_aload_n (q := 303) B dJ10_fixAfterDeletion_302 rfl rfl (rv_r _) ?_
                refine g_aload_n (q := 304) B dJ10_fixAfterDeletion_303 rfl rfl (rv_r _) ?_
                refine g_callS (q := 307) (is := [1]) (kc2 := 0) (ks2 := 0) B [.ref x] (ct_J10_parentOf_r g J (ns := ns) (key := kc) (val := val) (l := l) (r := r) (p := p) (col := col) (a := x) hl302_1 (by first | assumption | omega | rfl)) dJ10_fixAfterDeletion_304 rfl q2141 q2142 q91 q2143 rfl rfl moJ10_parentOf rfl rfl (by decide) (by decide) (Nat.le_of_ble_eq_true rfl) (Nat.le_of_ble_eq_true rfl) (Nat.le_of_ble_eq_true rfl) (fun _ _ hx => noX_x hx) (fun v304 L1 hp304 => ?_)
                obtain ⟨rfl, rfl⟩ := hp304
                rw [(show p x = some b from hpx)]
                refine (show Go g κ 307 [some (.ref t), some (.ref x), some (.ref s)] [.ref b, .ref s] [[(t, .inr (27, [.null, va_rf vs, .null, va_rf root, .int (nI n), .int (nI md), va_rf es, va_rf nk, .null]))], l302_1] 0 0 from ?_)
                refine g_callS (q := 310) (is := [1]) (kc2 := 0) (ks2 := 0) B [.ref b] (ct_J10_colorOf_r g J (ns := ns) (key := kc) (val := val) (l := l) (r := r) (p := p) (col := col) (a := b) hl302_1 (by first | assumption | omega | rfl)) dJ10_fixAfterDeletion_307 rfl q2150 q2151 q91 q2152 rfl rfl moJ10_colorOf rfl rfl (by decide) (by decide) (Nat.le_of_ble_eq_true rfl) (Nat.le_of_ble_eq_true rfl) (Nat.le_of_ble_eq_true rfl) (fun _ _ hx => noX_x hx) (fun v307 L1 hp307 => ?_)
                obtain ⟨rfl, rfl⟩ := hp307
                refine (show Go g κ 310 [some (.ref t), some (.ref x), some (.ref s)] [.int (nI (if col b = true then 1 else 0)), .ref s] [[(t, .inr (27, [.null, va_rf vs, .null, va_rf root, .int (nI n), .int (nI md), va_rf es, va_rf nk, .null]))], l302_1] 0 0 from ?_)
                refine g_callS (q := 313) (is := [1]) (kc2 := 0) (ks2 := 0) B [.ref s, .int (nI (if col b = true then 1 else 0))] (ct_J10_setColor_r g J (ns := ns) (key := kc) (val := val) (l := l) (r := r) (p := p) (col := col) (a := s) (c := col b) hl302_1 (by first | assumption | omega | rfl)) dJ10_fixAfterDeletion_310 rfl q2153 q2154 q91 q2155 rfl rfl moJ10_setColor rfl rfl (by decide) (by decide) (Nat.le_of_ble_eq_true rfl) (Nat.le_of_ble_eq_true rfl) (Nat.le_of_ble_eq_true rfl) (fun _ _ hx => noX_x hx) (fun v310 L1 hp310 => ?_)
                obtain ⟨u0_310, rfl, rfl, hu0_310⟩ := hp310
                refine (show Go g κ 313 [some (.ref t), some (.ref x), some (.ref s)] [] [[(t, .inr (27, [.null, va_rf vs, .null, va_rf root, .int (nI n), .int (nI md), va_rf es, va_rf nk, .null]))], u0_310] 0 0 from ?_)
                refine g_aload_n (q := 314) B dJ10_fixAfterDeletion_313 rfl rfl (rv_r _) ?_
                refine g_callS (q := 317) (is := [1]) (kc2 := 0) (ks2 := 0) B [.ref x] (ct_J10_parentOf_r g J (ns := ns) (key := kc) (val := val) (l := l) (r := r) (p := p) (col := fup col s (col b)) (a := x) hu0_310 (by first | assumption | omega | rfl)) dJ10_fixAfterDeletion_314 rfl q2141 q2142 q91 q2143 rfl rfl moJ10_parentOf rfl rfl (by decide) (by decide) (Nat.le_of_ble_eq_true rfl) (Nat.le_of_ble_eq_true rfl) (Nat.le_of_ble_eq_true rfl) (fun _ _ hx => noX_x hx) (fun v314 L1 hp314 => ?_)
                obtain ⟨rfl, rfl⟩ := hp314
                rw [(show p x = some b from hpx)]
                refine (show Go g κ 317 [some (.ref t), some (.ref x), some (.ref s)] [.ref b] [[(t, .inr (27, [.null, va_rf vs, .null, va_rf root, .int (nI n), .int (nI md), va_rf es, va_rf nk, .null]))], u0_310] 0 0 from ?_)
                refine g_iconst (v := nI 1) (q := 318) B dJ10_fixAfterDeletion_317 rfl (by decide) ?_
                refine g_callS (q := 321) (is := [1]) (kc2 := 0) (ks2 := 0) B [.ref b, .int (nI 1)] (ct_J10_setColor_r g J (ns := ns) (key := kc) (val := val) (l := l) (r := r) (p := p) (col := fup col s (col b)) (a := b) (c := true) hu0_310 (by first | assumption | omega | rfl)) dJ10_fixAfterDeletion_318 rfl q2153 q2154 q91 q2155 rfl rfl moJ10_setColor rfl rfl (by decide) (by decide) (Nat.le_of_ble_eq_true rfl) (Nat.le_of_ble_eq_true rfl) (Nat.le_of_ble_eq_true rfl) (fun _ _ hx => noX_x hx) (fun v318 L1 hp318 => ?_)
                obtain ⟨u0_318, rfl, rfl, hu0_318⟩ := hp318
                refine (show Go g κ 321 [some (.ref t), some (.ref x), some (.ref s)] [] [[(t, .inr (27, [.null, va_rf vs, .null, va_rf root, .int (nI n), .int (nI md), va_rf es, va_rf nk, .null]))], u0_318] 0 0 from ?_)
                refine g_aload_n (q := 322) B dJ10_fixAfterDeletion_321 rfl rfl (rv_r _) ?_
                refine g_callS (q := 325) (is := [1]) (kc2 := 0) (ks2 := 0) B [.ref s] (ct_J10_leftOf_r g J (ns := ns) (key := kc) (val := val) (l := l) (r := r) (p := p) (col := fup (fup col s (col b)) b true) (a := s) hu0_318 (by first | assumption | omega | rfl)) dJ10_fixAfterDeletion_322 rfl q2144 q2145 q91 q2146 rfl rfl moJ10_leftOf rfl rfl (by decide) (by decide) (Nat.le_of_ble_eq_true rfl) (Nat.le_of_ble_eq_true rfl) (Nat.le_of_ble_eq_true rfl) (fun _ _ hx => noX_x hx) (fun v322 L1 hp322 => ?_)
                obtain ⟨rfl, rfl⟩ := hp322
                refine (show Go g κ 325 [some (.ref t), some (.ref x), some (.ref s)] [va_rf (l s)] [[(t, .inr (27, [.null, va_rf vs, .null, va_rf root, .int (nI n), .int (nI md), va_rf es, va_rf nk, .null]))], u0_318] 0 0 from ?_)
                refine g_iconst (v := nI 1) (q := 326) B dJ10_fixAfterDeletion_325 rfl (by decide) ?_
                refine g_callS (q := 329) (is := [1]) (kc2 := 0) (ks2 := 0) B [va_rf (l s), .int (nI 1)] (ct_J10_setColor g J (ns := ns) (key := kc) (val := val) (l := l) (r := r) (p := p) (col := fup (fup col s (col b)) b true) (x := l s) (c := true) hu0_318 (om_l hT hsm)) dJ10_fixAfterDeletion_326 rfl q2153 q2154 q91 q2155 rfl rfl moJ10_setColor rfl rfl (by decide) (by decide) (Nat.le_of_ble_eq_true rfl) (Nat.le_of_ble_eq_true rfl) (Nat.le_of_ble_eq_true rfl) (fun _ _ hx => noX_x hx) (fun v326 L1 hp326 => ?_)
                obtain ⟨u0_326, rfl, rfl, hu0_326⟩ := hp326
                refine (show Go g κ 329 [some (.ref t), some (.ref x), some (.ref s)] [] [[(t, .inr (27, [.null, va_rf vs, .null, va_rf root, .int (nI n), .int (nI md), va_rf es, va_rf nk, .null]))], u0_326] 0 0 from ?_)
                refine g_aload_n (q := 330) B dJ10_fixAfterDeletion_329 rfl rfl (rv_r _) ?_
                refine g_aload_n (q := 331) B dJ10_fixAfterDeletion_330 rfl rfl (rv_r _) ?_
                refine g_callS (q := 334) (is := [1]) (kc2 := 0) (ks2 := 0) B [.ref x] (ct_J10_parentOf_r g J (ns := ns) (key := kc) (val := val) (l := l) (r := r) (p := p) (col := oset (fup (fup col s (col b)) b true) (l s) true) (a := x) hu0_326 (by first | assumption | omega | rfl)) dJ10_fixAfterDeletion_331 rfl q2141 q2142 q91 q2143 rfl rfl moJ10_parentOf rfl rfl (by decide) (by decide) (Nat.le_of_ble_eq_true rfl) (Nat.le_of_ble_eq_true rfl) (Nat.le_of_ble_eq_true rfl) (fun _ _ hx => noX_x hx) (fun v331 L1 hp331 => ?_)
                obtain ⟨rfl, rfl⟩ := hp331
                rw [(show p x = some b from hpx)]
                refine (show Go g κ 334 [some (.ref t), some (.ref x), some (.ref s)] [.ref b, .ref t] [[(t, .inr (27, [.null, va_rf vs, .null, va_rf root, .int (nI n), .int (nI md), va_rf es, va_rf nk, .null]))], u0_326] 0 0 from ?_)
                refine g_callV (q := 337) (is := [0, 0]) (kc2 := 0) (ks2 := 0) B [.ref b] (ct_J10_rotateRight g J (t := t) (vs := vs) (n := n) (md := md) (es := es) (nk := nk) (ns := ns) (key := key) (val := val) (l := l) (r := r) (p := p) (col := oset (fup (fup col s (col b)) b true) (l s) true) (lo := lo) (hi := hi) (root := root) (M := M) (kc := kc) (a := b) (b := s) hu0_326 (hT) (hbm) (hsb)) dJ10_fixAfterDeletion_334 rfl (rc_at B (ci := 27) rfl (k := 0) rfl) rfl q2160 q2162 qs21 q91 q2163 rfl rfl moJ10_rotateRight rfl rfl (by decide) (by decide) (Nat.le_of_ble_eq_true rfl) (Nat.le_of_ble_eq_true rfl) (Nat.le_of_ble_eq_true rfl) (fun _ _ hx => noX_x hx) (fun v334 L1 hp334 => ?_)
                obtain ⟨u1_334, rfl, rfl, hu1_334, hT2_334⟩ := hp334
                refine (show Go g κ 337 [some (.ref t), some (.ref x), some (.ref s)] [] [[(t, .inr (27, [.null, va_rf vs, .null, va_rf (rlRoot root b s), .int (nI n), .int (nI md), va_rf es, va_rf nk, .null]))], u1_334] 0 0 from ?_)
                refine g_aload_n (q := 338) B dJ10_fixAfterDeletion_337 rfl rfl (rv_r _) ?_
                refine g_get (q := 341) B (ci := 27) (k := 0) (j := 3) in_J10 rfl dJ10_fixAfterDeletion_338 rfl rfl (Nat.le_of_ble_eq_true rfl) q1871 rfl rfl ?_
                refine g_astore_n (q := 342) (lv2 := [some (.ref t), some (va_rf (rlRoot root b s)), some (.ref s)]) B dJ10_fixAfterDeletion_341 rfl (Nat.le_of_ble_eq_true rfl) (rv_o _) rfl ?_
                obtain ⟨z, hz, hzm⟩ := tr_root hT2_334 hx
                rw [hz]
                refine (show Go g κ 342 [some (.ref t), some (.ref z), some (.ref s)] [] [[(t, .inr (27, [.null, va_rf vs, .null, .ref z, .int (nI n), .int (nI md), va_rf es, va_rf nk, .null]))], u1_334] 0 0 from ?_)
                refine g_goto (tgt := 0) B dJ10_fixAfterDeletion_342 (by decide) ?_
                refine g_fg 2 rfl ?_
                exact ih0 _ (fdm_root hw0 rfl) z (rrL l r b s) (rrR r b s) (rrP r p b s) (oset (fup (fup col s (col b)) b true) (l s) true) _ _ (some z) u1_334 hu1_334 (by rw [← hz]; exact hT2_334) (hzm) (ph_root hT2_334 hz (ph_R hT hbm hfb hsb hq)) rfl
              refine g_aload_n (q := 231) B dJ10_fixAfterDeletion_230 rfl rfl (rv_r _) ?_
              refine g_callS (q := 234) (is := [1]) (kc2 := 0) (ks2 := 0) B [.ref s] (ct_J10_rightOf_r g J (ns := ns) (key := kc) (val := val) (l := l) (r := r) (p := p) (col := col) (a := s) hl230_1 (by first | assumption | omega | rfl)) dJ10_fixAfterDeletion_231 rfl q2147 q2148 q91 q2149 rfl rfl moJ10_rightOf rfl rfl (by decide) (by decide) (Nat.le_of_ble_eq_true rfl) (Nat.le_of_ble_eq_true rfl) (Nat.le_of_ble_eq_true rfl) (fun _ _ hx => noX_x hx) (fun v231 L1 hp231 => ?_)
              obtain ⟨rfl, rfl⟩ := hp231
              refine (show Go g κ 234 [some (.ref t), some (.ref x), some (.ref s)] [va_rf (r s)] [[(t, .inr (27, [.null, va_rf vs, .null, va_rf root, .int (nI n), .int (nI md), va_rf es, va_rf nk, .null]))], l230_1] 0 0 from ?_)
              refine g_callS (q := 237) (is := [1]) (kc2 := 0) (ks2 := 0) B [va_rf (r s)] (ct_J10_colorOf g J (ns := ns) (key := kc) (val := val) (l := l) (r := r) (p := p) (col := col) (x := r s) hl230_1 (om_r hT hsm)) dJ10_fixAfterDeletion_234 rfl q2150 q2151 q91 q2152 rfl rfl moJ10_colorOf rfl rfl (by decide) (by decide) (Nat.le_of_ble_eq_true rfl) (Nat.le_of_ble_eq_true rfl) (Nat.le_of_ble_eq_true rfl) (fun _ _ hx => noX_x hx) (fun v234 L1 hp234 => ?_)
              obtain ⟨rfl, rfl⟩ := hp234
              refine (show Go g κ 237 [some (.ref t), some (.ref x), some (.ref s)] [.int (nI (if oc col (r s) = true then 1 else 0))] [[(t, .inr (27, [.null, va_rf vs, .null, va_rf root, .int (nI n), .int (nI md), va_rf es, va_rf nk, .null]))], l230_1] 0 0 from ?_)
              refine g_iconst (v := nI 1) (q := 238) B dJ10_fixAfterDeletion_237 rfl (by decide) ?_
              refine g_icmp_ne (tgt := 265) (q := 241) B dJ10_fixAfterDeletion_238 rfl (by decide) (not_congr bo_eq1) (fun c238 => ?_) (fun c238 => ?_)
              · skip
                refine g_aload_n (q := 266) B dJ10_fixAfterDeletion_265 rfl rfl (rv_r _) ?_
                refine g_callS (q := 269) (is := [1]) (kc2 := 0) (ks2 := 0) B [.ref s] (ct_J10_leftOf_r g J (ns := ns) (key := kc) (val := val) (l := l) (r := r) (p := p) (col := col) (a := s) hl230_1 (by first | assumption | omega | rfl)) dJ10_fixAfterDeletion_266 rfl q2144 q2145 q91 q2146 rfl rfl moJ10_leftOf rfl rfl (by decide) (by decide) (Nat.le_of_ble_eq_true rfl) (Nat.le_of_ble_eq_true rfl) (Nat.le_of_ble_eq_true rfl) (fun _ _ hx => noX_x hx) (fun v266 L1 hp266 => ?_)
                obtain ⟨rfl, rfl⟩ := hp266
                refine (show Go g κ 269 [some (.ref t), some (.ref x), some (.ref s)] [va_rf (l s)] [[(t, .inr (27, [.null, va_rf vs, .null, va_rf root, .int (nI n), .int (nI md), va_rf es, va_rf nk, .null]))], l230_1] 0 0 from ?_)
                refine g_callS (q := 272) (is := [1]) (kc2 := 0) (ks2 := 0) B [va_rf (l s)] (ct_J10_colorOf g J (ns := ns) (key := kc) (val := val) (l := l) (r := r) (p := p) (col := col) (x := l s) hl230_1 (om_l hT hsm)) dJ10_fixAfterDeletion_269 rfl q2150 q2151 q91 q2152 rfl rfl moJ10_colorOf rfl rfl (by decide) (by decide) (Nat.le_of_ble_eq_true rfl) (Nat.le_of_ble_eq_true rfl) (Nat.le_of_ble_eq_true rfl) (fun _ _ hx => noX_x hx) (fun v269 L1 hp269 => ?_)
                obtain ⟨rfl, rfl⟩ := hp269
                refine (show Go g κ 272 [some (.ref t), some (.ref x), some (.ref s)] [.int (nI (if oc col (l s) = true then 1 else 0))] [[(t, .inr (27, [.null, va_rf vs, .null, va_rf root, .int (nI n), .int (nI md), va_rf es, va_rf nk, .null]))], l230_1] 0 0 from ?_)
                refine g_iconst (v := nI 1) (q := 273) B dJ10_fixAfterDeletion_272 rfl (by decide) ?_
                refine g_icmp_ne (tgt := 302) (q := 276) B dJ10_fixAfterDeletion_273 rfl (by decide) (not_congr bo_eq1) (fun c273 => ?_) (fun c273 => ?_)
                · skip
                  exact ct302 l r p col _ _ root s l230_1 hl230_1 (hT) (hpx) (hfb) (hq) (hw0) (hsb) (hsm)
                · skip
                  obtain ⟨y, hy, hyc⟩ : ∃ y, r s = some y ∧ col y = false := by
                    first | exact oc_f c238 | exact absurd c249 c273
                  have hym := tr_rm hT hsm hy
                  have sb := sb_RL hT hbm hfb hsb hy
                  refine g_aload_n (q := 277) B dJ10_fixAfterDeletion_276 rfl rfl (rv_r _) ?_
                  refine g_callS (q := 280) (is := [1]) (kc2 := 0) (ks2 := 0) B [.ref s] (ct_J10_rightOf_r g J (ns := ns) (key := kc) (val := val) (l := l) (r := r) (p := p) (col := col) (a := s) hl230_1 (by first | assumption | omega | rfl)) dJ10_fixAfterDeletion_277 rfl q2147 q2148 q91 q2149 rfl rfl moJ10_rightOf rfl rfl (by decide) (by decide) (Nat.le_of_ble_eq_true rfl) (Nat.le_of_ble_eq_true rfl) (Nat.le_of_ble_eq_true rfl) (fun _ _ hx => noX_x hx) (fun v277 L1 hp277 => ?_)
                  obtain ⟨rfl, rfl⟩ := hp277
                  rw [(show r s = some y from hy)]
                  refine (show Go g κ 280 [some (.ref t), some (.ref x), some (.ref s)] [.ref y] [[(t, .inr (27, [.null, va_rf vs, .null, va_rf root, .int (nI n), .int (nI md), va_rf es, va_rf nk, .null]))], l230_1] 0 0 from ?_)
                  refine g_iconst (v := nI 1) (q := 281) B dJ10_fixAfterDeletion_280 rfl (by decide) ?_
                  refine g_callS (q := 284) (is := [1]) (kc2 := 0) (ks2 := 0) B [.ref y, .int (nI 1)] (ct_J10_setColor_r g J (ns := ns) (key := kc) (val := val) (l := l) (r := r) (p := p) (col := col) (a := y) (c := true) hl230_1 (by first | assumption | omega | rfl)) dJ10_fixAfterDeletion_281 rfl q2153 q2154 q91 q2155 rfl rfl moJ10_setColor rfl rfl (by decide) (by decide) (Nat.le_of_ble_eq_true rfl) (Nat.le_of_ble_eq_true rfl) (Nat.le_of_ble_eq_true rfl) (fun _ _ hx => noX_x hx) (fun v281 L1 hp281 => ?_)
                  obtain ⟨u0_281, rfl, rfl, hu0_281⟩ := hp281
                  refine (show Go g κ 284 [some (.ref t), some (.ref x), some (.ref s)] [] [[(t, .inr (27, [.null, va_rf vs, .null, va_rf root, .int (nI n), .int (nI md), va_rf es, va_rf nk, .null]))], u0_281] 0 0 from ?_)
                  refine g_aload_n (q := 285) B dJ10_fixAfterDeletion_284 rfl rfl (rv_r _) ?_
                  refine g_iconst (v := nI 0) (q := 286) B dJ10_fixAfterDeletion_285 rfl (by decide) ?_
                  refine g_callS (q := 289) (is := [1]) (kc2 := 0) (ks2 := 0) B [.ref s, .int (nI 0)] (ct_J10_setColor_r g J (ns := ns) (key := kc) (val := val) (l := l) (r := r) (p := p) (col := fup col y true) (a := s) (c := false) hu0_281 (by first | assumption | omega | rfl)) dJ10_fixAfterDeletion_286 rfl q2153 q2154 q91 q2155 rfl rfl moJ10_setColor rfl rfl (by decide) (by decide) (Nat.le_of_ble_eq_true rfl) (Nat.le_of_ble_eq_true rfl) (Nat.le_of_ble_eq_true rfl) (fun _ _ hx => noX_x hx) (fun v286 L1 hp286 => ?_)
                  obtain ⟨u0_286, rfl, rfl, hu0_286⟩ := hp286
                  refine (show Go g κ 289 [some (.ref t), some (.ref x), some (.ref s)] [] [[(t, .inr (27, [.null, va_rf vs, .null, va_rf root, .int (nI n), .int (nI md), va_rf es, va_rf nk, .null]))], u0_286] 0 0 from ?_)
                  refine g_aload_n (q := 290) B dJ10_fixAfterDeletion_289 rfl rfl (rv_r _) ?_
                  refine g_aload_n (q := 291) B dJ10_fixAfterDeletion_290 rfl rfl (rv_r _) ?_
                  refine g_callV (q := 294) (is := [0, 0]) (kc2 := 0) (ks2 := 0) B [.ref s] (ct_J10_rotateLeft g J (t := t) (vs := vs) (n := n) (md := md) (es := es) (nk := nk) (ns := ns) (key := key) (val := val) (l := l) (r := r) (p := p) (col := fup (fup col y true) s false) (lo := lo) (hi := hi) (root := root) (M := M) (kc := kc) (a := s) (b := y) hu0_286 (hT) (hsm) (hy)) dJ10_fixAfterDeletion_291 rfl (rc_at B (ci := 27) rfl (k := 0) rfl) rfl q2156 q2158 qs20 q91 q2159 rfl rfl moJ10_rotateLeft rfl rfl (by decide) (by decide) (Nat.le_of_ble_eq_true rfl) (Nat.le_of_ble_eq_true rfl) (Nat.le_of_ble_eq_true rfl) (fun _ _ hx => noX_x hx) (fun v291 L1 hp291 => ?_)
                  obtain ⟨u1_291, rfl, rfl, hu1_291, hT2_291⟩ := hp291
                  refine (show Go g κ 294 [some (.ref t), some (.ref x), some (.ref s)] [] [[(t, .inr (27, [.null, va_rf vs, .null, va_rf (rlRoot root s y), .int (nI n), .int (nI md), va_rf es, va_rf nk, .null]))], u1_291] 0 0 from ?_)
                  refine g_aload_n (q := 295) B dJ10_fixAfterDeletion_294 rfl rfl (rv_r _) ?_
                  refine g_callS (q := 298) (is := [1]) (kc2 := 0) (ks2 := 0) B [.ref x] (ct_J10_parentOf_r g J (ns := ns) (key := kc) (val := val) (l := rlL l s y) (r := rlR l r s y) (p := rlP l p s y) (col := (fup (fup col y true) s false)) (a := x) hu1_291 (by first | assumption | omega | rfl)) dJ10_fixAfterDeletion_295 rfl q2141 q2142 q91 q2143 rfl rfl moJ10_parentOf rfl rfl (by decide) (by decide) (Nat.le_of_ble_eq_true rfl) (Nat.le_of_ble_eq_true rfl) (Nat.le_of_ble_eq_true rfl) (fun _ _ hx => noX_x hx) (fun v295 L1 hp295 => ?_)
                  obtain ⟨rfl, rfl⟩ := hp295
                  rw [(show (rlP l p s y) x = some b from sb.1)]
                  refine (show Go g κ 298 [some (.ref t), some (.ref x), some (.ref s)] [.ref b] [[(t, .inr (27, [.null, va_rf vs, .null, va_rf (rlRoot root s y), .int (nI n), .int (nI md), va_rf es, va_rf nk, .null]))], u1_291] 0 0 from ?_)
                  refine g_callS (q := 301) (is := [1]) (kc2 := 0) (ks2 := 0) B [.ref b] (ct_J10_leftOf_r g J (ns := ns) (key := kc) (val := val) (l := rlL l s y) (r := rlR l r s y) (p := rlP l p s y) (col := (fup (fup col y true) s false)) (a := b) hu1_291 (by first | assumption | omega | rfl)) dJ10_fixAfterDeletion_298 rfl q2144 q2145 q91 q2146 rfl rfl moJ10_leftOf rfl rfl (by decide) (by decide) (Nat.le_of_ble_eq_true rfl) (Nat.le_of_ble_eq_true rfl) (Nat.le_of_ble_eq_true rfl) (fun _ _ hx => noX_x hx) (fun v298 L1 hp298 => ?_)
                  obtain ⟨rfl, rfl⟩ := hp298
                  rw [(show (rlL l s y) b = some y from sb.2.2.1)]
                  refine (show Go g κ 301 [some (.ref t), some (.ref x), some (.ref s)] [.ref y] [[(t, .inr (27, [.null, va_rf vs, .null, va_rf (rlRoot root s y), .int (nI n), .int (nI md), va_rf es, va_rf nk, .null]))], u1_291] 0 0 from ?_)
                  refine g_astore_n (q := 302) (lv2 := [some (.ref t), some (.ref x), some (.ref y)]) B dJ10_fixAfterDeletion_301 rfl (Nat.le_of_ble_eq_true rfl) (rv_r _) rfl ?_
                  have hwx : 1 + (M - wid lo hi (some x)) ≤ n0 := hw0
                  have w1 := hT.2.2.2.2.2.1 b hbm x hfb
                  have w2 := hT.2.2.2.1 b hbm s hsb
                  have w3 := hT.2.1 s hsm
                  have w4 := hT.2.1 b hbm
                  have w5 := hT.2.1 x hx
                  have w6 := hT.2.2.2.2.2.1 s hsm y hy
                  have w7 := hT.2.1 y hym
                  have m1 : x ≠ y := by rintro rfl; omega
                  have m2 : x ≠ s := by rintro rfl; omega
                  exact ct302 (rlL l s y) (rlR l r s y) (rlP l p s y) (fup (fup col y true) s false) _ _ (rlRoot root s y) y u1_291 hu1_291 (hT2_291) (sb.1) (sb.2.1) (ph_RL hT hbm hfb hsb hy hq) (by simp only [wid] at hw0 ⊢; simp only [fup_n m1, fup_n m2]; exact hw0) (sb.2.2.1) (sb.2.2.2)
              · skip
                refine g_aload_n (q := 242) B dJ10_fixAfterDeletion_241 rfl rfl (rv_r _) ?_
                refine g_callS (q := 245) (is := [1]) (kc2 := 0) (ks2 := 0) B [.ref s] (ct_J10_leftOf_r g J (ns := ns) (key := kc) (val := val) (l := l) (r := r) (p := p) (col := col) (a := s) hl230_1 (by first | assumption | omega | rfl)) dJ10_fixAfterDeletion_242 rfl q2144 q2145 q91 q2146 rfl rfl moJ10_leftOf rfl rfl (by decide) (by decide) (Nat.le_of_ble_eq_true rfl) (Nat.le_of_ble_eq_true rfl) (Nat.le_of_ble_eq_true rfl) (fun _ _ hx => noX_x hx) (fun v242 L1 hp242 => ?_)
                obtain ⟨rfl, rfl⟩ := hp242
                refine (show Go g κ 245 [some (.ref t), some (.ref x), some (.ref s)] [va_rf (l s)] [[(t, .inr (27, [.null, va_rf vs, .null, va_rf root, .int (nI n), .int (nI md), va_rf es, va_rf nk, .null]))], l230_1] 0 0 from ?_)
                refine g_callS (q := 248) (is := [1]) (kc2 := 0) (ks2 := 0) B [va_rf (l s)] (ct_J10_colorOf g J (ns := ns) (key := kc) (val := val) (l := l) (r := r) (p := p) (col := col) (x := l s) hl230_1 (om_l hT hsm)) dJ10_fixAfterDeletion_245 rfl q2150 q2151 q91 q2152 rfl rfl moJ10_colorOf rfl rfl (by decide) (by decide) (Nat.le_of_ble_eq_true rfl) (Nat.le_of_ble_eq_true rfl) (Nat.le_of_ble_eq_true rfl) (fun _ _ hx => noX_x hx) (fun v245 L1 hp245 => ?_)
                obtain ⟨rfl, rfl⟩ := hp245
                refine (show Go g κ 248 [some (.ref t), some (.ref x), some (.ref s)] [.int (nI (if oc col (l s) = true then 1 else 0))] [[(t, .inr (27, [.null, va_rf vs, .null, va_rf root, .int (nI n), .int (nI md), va_rf es, va_rf nk, .null]))], l230_1] 0 0 from ?_)
                refine g_iconst (v := nI 1) (q := 249) B dJ10_fixAfterDeletion_248 rfl (by decide) ?_
                refine g_icmp_ne (tgt := 265) (q := 252) B dJ10_fixAfterDeletion_249 rfl (by decide) (not_congr bo_eq1) (fun c249 => ?_) (fun c249 => ?_)
                · skip
                  refine g_aload_n (q := 266) B dJ10_fixAfterDeletion_265 rfl rfl (rv_r _) ?_
                  refine g_callS (q := 269) (is := [1]) (kc2 := 0) (ks2 := 0) B [.ref s] (ct_J10_leftOf_r g J (ns := ns) (key := kc) (val := val) (l := l) (r := r) (p := p) (col := col) (a := s) hl230_1 (by first | assumption | omega | rfl)) dJ10_fixAfterDeletion_266 rfl q2144 q2145 q91 q2146 rfl rfl moJ10_leftOf rfl rfl (by decide) (by decide) (Nat.le_of_ble_eq_true rfl) (Nat.le_of_ble_eq_true rfl) (Nat.le_of_ble_eq_true rfl) (fun _ _ hx => noX_x hx) (fun v266 L1 hp266 => ?_)
                  obtain ⟨rfl, rfl⟩ := hp266
                  refine (show Go g κ 269 [some (.ref t), some (.ref x), some (.ref s)] [va_rf (l s)] [[(t, .inr (27, [.null, va_rf vs, .null, va_rf root, .int (nI n), .int (nI md), va_rf es, va_rf nk, .null]))], l230_1] 0 0 from ?_)
                  refine g_callS (q := 272) (is := [1]) (kc2 := 0) (ks2 := 0) B [va_rf (l s)] (ct_J10_colorOf g J (ns := ns) (key := kc) (val := val) (l := l) (r := r) (p := p) (col := col) (x := l s) hl230_1 (om_l hT hsm)) dJ10_fixAfterDeletion_269 rfl q2150 q2151 q91 q2152 rfl rfl moJ10_colorOf rfl rfl (by decide) (by decide) (Nat.le_of_ble_eq_true rfl) (Nat.le_of_ble_eq_true rfl) (Nat.le_of_ble_eq_true rfl) (fun _ _ hx => noX_x hx) (fun v269 L1 hp269 => ?_)
                  obtain ⟨rfl, rfl⟩ := hp269
                  refine (show Go g κ 272 [some (.ref t), some (.ref x), some (.ref s)] [.int (nI (if oc col (l s) = true then 1 else 0))] [[(t, .inr (27, [.null, va_rf vs, .null, va_rf root, .int (nI n), .int (nI md), va_rf es, va_rf nk, .null]))], l230_1] 0 0 from ?_)
                  refine g_iconst (v := nI 1) (q := 273) B dJ10_fixAfterDeletion_272 rfl (by decide) ?_
                  refine g_icmp_ne (tgt := 302) (q := 276) B dJ10_fixAfterDeletion_273 rfl (by decide) (not_congr bo_eq1) (fun c273 => ?_) (fun c273 => ?_)
                  · skip
                    exact ct302 l r p col _ _ root s l230_1 hl230_1 (hT) (hpx) (hfb) (hq) (hw0) (hsb) (hsm)
                  · skip
                    obtain ⟨y, hy, hyc⟩ : ∃ y, r s = some y ∧ col y = false := by
                      first | exact oc_f c238 | exact absurd c249 c273
                    have hym := tr_rm hT hsm hy
                    have sb := sb_RL hT hbm hfb hsb hy
                    refine g_aload_n (q := 277) B dJ10_fixAfterDeletion_276 rfl rfl (rv_r _) ?_
                    refine g_callS (q := 280) (is := [1]) (kc2 := 0) (ks2 := 0) B [.ref s] (ct_J10_rightOf_r g J (ns := ns) (key := kc) (val := val) (l := l) (r := r) (p := p) (col := col) (a := s) hl230_1 (by first | assumption | omega | rfl)) dJ10_fixAfterDeletion_277 rfl q2147 q2148 q91 q2149 rfl rfl moJ10_rightOf rfl rfl (by decide) (by decide) (Nat.le_of_ble_eq_true rfl) (Nat.le_of_ble_eq_true rfl) (Nat.le_of_ble_eq_true rfl) (fun _ _ hx => noX_x hx) (fun v277 L1 hp277 => ?_)
                    obtain ⟨rfl, rfl⟩ := hp277
                    rw [(show r s = some y from hy)]
                    refine (show Go g κ 280 [some (.ref t), some (.ref x), some (.ref s)] [.ref y] [[(t, .inr (27, [.null, va_rf vs, .null, va_rf root, .int (nI n), .int (nI md), va_rf es, va_rf nk, .null]))], l230_1] 0 0 from ?_)
                    refine g_iconst (v := nI 1) (q := 281) B dJ10_fixAfterDeletion_280 rfl (by decide) ?_
                    refine g_callS (q := 284) (is := [1]) (kc2 := 0) (ks2 := 0) B [.ref y, .int (nI 1)] (ct_J10_setColor_r g J (ns := ns) (key := kc) (val := val) (l := l) (r := r) (p := p) (col := col) (a := y) (c := true) hl230_1 (by first | assumption | omega | rfl)) dJ10_fixAfterDeletion_281 rfl q2153 q2154 q91 q2155 rfl rfl moJ10_setColor rfl rfl (by decide) (by decide) (Nat.le_of_ble_eq_true rfl) (Nat.le_of_ble_eq_true rfl) (Nat.le_of_ble_eq_true rfl) (fun _ _ hx => noX_x hx) (fun v281 L1 hp281 => ?_)
                    obtain ⟨u0_281, rfl, rfl, hu0_281⟩ := hp281
                    refine (show Go g κ 284 [some (.ref t), some (.ref x), some (.ref s)] [] [[(t, .inr (27, [.null, va_rf vs, .null, va_rf root, .int (nI n), .int (nI md), va_rf es, va_rf nk, .null]))], u0_281] 0 0 from ?_)
                    refine g_aload_n (q := 285) B dJ10_fixAfterDeletion_284 rfl rfl (rv_r _) ?_
                    refine g_iconst (v := nI 0) (q := 286) B dJ10_fixAfterDeletion_285 rfl (by decide) ?_
                    refine g_callS (q := 289) (is := [1]) (kc2 := 0) (ks2 := 0) B [.ref s, .int (nI 0)] (ct_J10_setColor_r g J (ns := ns) (key := kc) (val := val) (l := l) (r := r) (p := p) (col := fup col y true) (a := s) (c := false) hu0_281 (by first | assumption | omega | rfl)) dJ10_fixAfterDeletion_286 rfl q2153 q2154 q91 q2155 rfl rfl moJ10_setColor rfl rfl (by decide) (by decide) (Nat.le_of_ble_eq_true rfl) (Nat.le_of_ble_eq_true rfl) (Nat.le_of_ble_eq_true rfl) (fun _ _ hx => noX_x hx) (fun v286 L1 hp286 => ?_)
                    obtain ⟨u0_286, rfl, rfl, hu0_286⟩ := hp286
                    refine (show Go g κ 289 [some (.ref t), some (.ref x), some (.ref s)] [] [[(t, .inr (27, [.null, va_rf vs, .null, va_rf root, .int (nI n), .int (nI md), va_rf es, va_rf nk, .null]))], u0_286] 0 0 from ?_)
                    refine g_aload_n (q := 290) B dJ10_fixAfterDeletion_289 rfl rfl (rv_r _) ?_
                    refine g_aload_n (q := 291) B dJ10_fixAfterDeletion_290 rfl rfl (rv_r _) ?_
                    refine g_callV (q := 294) (is := [0, 0]) (kc2 := 0) (ks2 := 0) B [.ref s] (ct_J10_rotateLeft g J (t := t) (vs := vs) (n := n) (md := md) (es := es) (nk := nk) (ns := ns) (key := key) (val := val) (l := l) (r := r) (p := p) (col := fup (fup col y true) s false) (lo := lo) (hi := hi) (root := root) (M := M) (kc := kc) (a := s) (b := y) hu0_286 (hT) (hsm) (hy)) dJ10_fixAfterDeletion_291 rfl (rc_at B (ci := 27) rfl (k := 0) rfl) rfl q2156 q2158 qs20 q91 q2159 rfl rfl moJ10_rotateLeft rfl rfl (by decide) (by decide) (Nat.le_of_ble_eq_true rfl) (Nat.le_of_ble_eq_true rfl) (Nat.le_of_ble_eq_true rfl) (fun _ _ hx => noX_x hx) (fun v291 L1 hp291 => ?_)
                    obtain ⟨u1_291, rfl, rfl, hu1_291, hT2_291⟩ := hp291
                    refine (show Go g κ 294 [some (.ref t), some (.ref x), some (.ref s)] [] [[(t, .inr (27, [.null, va_rf vs, .null, va_rf (rlRoot root s y), .int (nI n), .int (nI md), va_rf es, va_rf nk, .null]))], u1_291] 0 0 from ?_)
                    refine g_aload_n (q := 295) B dJ10_fixAfterDeletion_294 rfl rfl (rv_r _) ?_
                    refine g_callS (q := 298) (is := [1]) (kc2 := 0) (ks2 := 0) B [.ref x] (ct_J10_parentOf_r g J (ns := ns) (key := kc) (val := val) (l := rlL l s y) (r := rlR l r s y) (p := rlP l p s y) (col := (fup (fup col y true) s false)) (a := x) hu1_291 (by first | assumption | omega | rfl)) dJ10_fixAfterDeletion_295 rfl q2141 q2142 q91 q2143 rfl rfl moJ10_parentOf rfl rfl (by decide) (by decide) (Nat.le_of_ble_eq_true rfl) (Nat.le_of_ble_eq_true rfl) (Nat.le_of_ble_eq_true rfl) (fun _ _ hx => noX_x hx) (fun v295 L1 hp295 => ?_)
                    obtain ⟨rfl, rfl⟩ := hp295
                    rw [(show (rlP l p s y) x = some b from sb.1)]
                    refine (show Go g κ 298 [some (.ref t), some (.ref x), some (.ref s)] [.ref b] [[(t, .inr (27, [.null, va_rf vs, .null, va_rf (rlRoot root s y), .int (nI n), .int (nI md), va_rf es, va_rf nk, .null]))], u1_291] 0 0 from ?_)
                    refine g_callS (q := 301) (is := [1]) (kc2 := 0) (ks2 := 0) B [.ref b] (ct_J10_leftOf_r g J (ns := ns) (key := kc) (val := val) (l := rlL l s y) (r := rlR l r s y) (p := rlP l p s y) (col := (fup (fup col y true) s false)) (a := b) hu1_291 (by first | assumption | omega | rfl)) dJ10_fixAfterDeletion_298 rfl q2144 q2145 q91 q2146 rfl rfl moJ10_leftOf rfl rfl (by decide) (by decide) (Nat.le_of_ble_eq_true rfl) (Nat.le_of_ble_eq_true rfl) (Nat.le_of_ble_eq_true rfl) (fun _ _ hx => noX_x hx) (fun v298 L1 hp298 => ?_)
                    obtain ⟨rfl, rfl⟩ := hp298
                    rw [(show (rlL l s y) b = some y from sb.2.2.1)]
                    refine (show Go g κ 301 [some (.ref t), some (.ref x), some (.ref s)] [.ref y] [[(t, .inr (27, [.null, va_rf vs, .null, va_rf (rlRoot root s y), .int (nI n), .int (nI md), va_rf es, va_rf nk, .null]))], u1_291] 0 0 from ?_)
                    refine g_astore_n (q := 302) (lv2 := [some (.ref t), some (.ref x), some (.ref y)]) B dJ10_fixAfterDeletion_301 rfl (Nat.le_of_ble_eq_true rfl) (rv_r _) rfl ?_
                    have hwx : 1 + (M - wid lo hi (some x)) ≤ n0 := hw0
                    have w1 := hT.2.2.2.2.2.1 b hbm x hfb
                    have w2 := hT.2.2.2.1 b hbm s hsb
                    have w3 := hT.2.1 s hsm
                    have w4 := hT.2.1 b hbm
                    have w5 := hT.2.1 x hx
                    have w6 := hT.2.2.2.2.2.1 s hsm y hy
                    have w7 := hT.2.1 y hym
                    have m1 : x ≠ y := by rintro rfl; omega
                    have m2 : x ≠ s := by rintro rfl; omega
                    exact ct302 (rlL l s y) (rlR l r s y) (rlP l p s y) (fup (fup col y true) s false) _ _ (rlRoot root s y) y u1_291 hu1_291 (hT2_291) (sb.1) (sb.2.1) (ph_RL hT hbm hfb hsb hy hq) (by simp only [wid] at hw0 ⊢; simp only [fup_n m1, fup_n m2]; exact hw0) (sb.2.2.1) (sb.2.2.2)
                · skip
                  refine g_aload_n (q := 253) B dJ10_fixAfterDeletion_252 rfl rfl (rv_r _) ?_
                  refine g_iconst (v := nI 0) (q := 254) B dJ10_fixAfterDeletion_253 rfl (by decide) ?_
                  refine g_callS (q := 257) (is := [1]) (kc2 := 0) (ks2 := 0) B [.ref s, .int (nI 0)] (ct_J10_setColor_r g J (ns := ns) (key := kc) (val := val) (l := l) (r := r) (p := p) (col := col) (a := s) (c := false) hl230_1 (by first | assumption | omega | rfl)) dJ10_fixAfterDeletion_254 rfl q2153 q2154 q91 q2155 rfl rfl moJ10_setColor rfl rfl (by decide) (by decide) (Nat.le_of_ble_eq_true rfl) (Nat.le_of_ble_eq_true rfl) (Nat.le_of_ble_eq_true rfl) (fun _ _ hx => noX_x hx) (fun v254 L1 hp254 => ?_)
                  obtain ⟨u0_254, rfl, rfl, hu0_254⟩ := hp254
                  refine (show Go g κ 257 [some (.ref t), some (.ref x), some (.ref s)] [] [[(t, .inr (27, [.null, va_rf vs, .null, va_rf root, .int (nI n), .int (nI md), va_rf es, va_rf nk, .null]))], u0_254] 0 0 from ?_)
                  refine g_aload_n (q := 258) B dJ10_fixAfterDeletion_257 rfl rfl (rv_r _) ?_
                  refine g_callS (q := 261) (is := [1]) (kc2 := 0) (ks2 := 0) B [.ref x] (ct_J10_parentOf_r g J (ns := ns) (key := kc) (val := val) (l := l) (r := r) (p := p) (col := fup col s false) (a := x) hu0_254 (by first | assumption | omega | rfl)) dJ10_fixAfterDeletion_258 rfl q2141 q2142 q91 q2143 rfl rfl moJ10_parentOf rfl rfl (by decide) (by decide) (Nat.le_of_ble_eq_true rfl) (Nat.le_of_ble_eq_true rfl) (Nat.le_of_ble_eq_true rfl) (fun _ _ hx => noX_x hx) (fun v258 L1 hp258 => ?_)
                  obtain ⟨rfl, rfl⟩ := hp258
                  rw [(show p x = some b from hpx)]
                  refine (show Go g κ 261 [some (.ref t), some (.ref x), some (.ref s)] [.ref b] [[(t, .inr (27, [.null, va_rf vs, .null, va_rf root, .int (nI n), .int (nI md), va_rf es, va_rf nk, .null]))], u0_254] 0 0 from ?_)
                  refine g_astore_n (q := 262) (lv2 := [some (.ref t), some (.ref b), some (.ref s)]) B dJ10_fixAfterDeletion_261 rfl (Nat.le_of_ble_eq_true rfl) (rv_r _) rfl ?_
                  refine g_goto (tgt := 342) B dJ10_fixAfterDeletion_262 (by decide) ?_
                  refine g_goto (tgt := 0) B dJ10_fixAfterDeletion_342 (by decide) ?_
                  refine g_fg 2 rfl ?_
                  exact ih0 _ (fdm_up hT hx hpx hw0) b l r p (fup col s false) lo hi root u0_254 hu0_254 (hT) (hbm) (ph_up hT hx hpx hq) rfl
          refine g_aload_n (q := 187) B dJ10_fixAfterDeletion_186 rfl rfl (rv_r _) ?_
          refine g_callS (q := 190) (is := [1]) (kc2 := 0) (ks2 := 0) B [.ref x] (ct_J10_parentOf_r g J (ns := ns) (key := kc) (val := val) (l := l) (r := r) (p := p) (col := col) (a := x) hl0_1 (by first | assumption | omega | rfl)) dJ10_fixAfterDeletion_187 rfl q2141 q2142 q91 q2143 rfl rfl moJ10_parentOf rfl rfl (by decide) (by decide) (Nat.le_of_ble_eq_true rfl) (Nat.le_of_ble_eq_true rfl) (Nat.le_of_ble_eq_true rfl) (fun _ _ hx => noX_x hx) (fun v187 L1 hp187 => ?_)
          obtain ⟨rfl, rfl⟩ := hp187
          rw [(show p x = some b from hpx)]
          refine (show Go g κ 190 [some (.ref t), some (.ref x), none] [.ref b] [[(t, .inr (27, [.null, va_rf vs, .null, va_rf root, .int (nI n), .int (nI md), va_rf es, va_rf nk, .null]))], l0_1] 0 0 from ?_)
          refine g_callS (q := 193) (is := [1]) (kc2 := 0) (ks2 := 0) B [.ref b] (ct_J10_leftOf_r g J (ns := ns) (key := kc) (val := val) (l := l) (r := r) (p := p) (col := col) (a := b) hl0_1 (by first | assumption | omega | rfl)) dJ10_fixAfterDeletion_190 rfl q2144 q2145 q91 q2146 rfl rfl moJ10_leftOf rfl rfl (by decide) (by decide) (Nat.le_of_ble_eq_true rfl) (Nat.le_of_ble_eq_true rfl) (Nat.le_of_ble_eq_true rfl) (fun _ _ hx => noX_x hx) (fun v190 L1 hp190 => ?_)
          obtain ⟨rfl, rfl⟩ := hp190
          refine (show Go g κ 193 [some (.ref t), some (.ref x), none] [va_rf (l b)] [[(t, .inr (27, [.null, va_rf vs, .null, va_rf root, .int (nI n), .int (nI md), va_rf es, va_rf nk, .null]))], l0_1] 0 0 from ?_)
          refine g_astore_n (q := 194) (lv2 := [some (.ref t), some (.ref x), some (va_rf (l b))]) B dJ10_fixAfterDeletion_193 rfl (Nat.le_of_ble_eq_true rfl) (rv_o _) rfl ?_
          refine g_aload_n (q := 195) B dJ10_fixAfterDeletion_194 rfl rfl (rv_o _) ?_
          refine g_callS (q := 198) (is := [1]) (kc2 := 0) (ks2 := 0) B [va_rf (l b)] (ct_J10_colorOf g J (ns := ns) (key := kc) (val := val) (l := l) (r := r) (p := p) (col := col) (x := l b) hl0_1 (om_l hT hbm)) dJ10_fixAfterDeletion_195 rfl q2150 q2151 q91 q2152 rfl rfl moJ10_colorOf rfl rfl (by decide) (by decide) (Nat.le_of_ble_eq_true rfl) (Nat.le_of_ble_eq_true rfl) (Nat.le_of_ble_eq_true rfl) (fun _ _ hx => noX_x hx) (fun v195 L1 hp195 => ?_)
          obtain ⟨rfl, rfl⟩ := hp195
          refine (show Go g κ 198 [some (.ref t), some (.ref x), some (va_rf (l b))] [.int (nI (if oc col (l b) = true then 1 else 0))] [[(t, .inr (27, [.null, va_rf vs, .null, va_rf root, .int (nI n), .int (nI md), va_rf es, va_rf nk, .null]))], l0_1] 0 0 from ?_)
          refine g_if_ne (tgt := 230) (q := 201) B dJ10_fixAfterDeletion_198 rfl (by decide) (bo_ne) (fun c198 => ?_) (fun c198 => ?_)
          · skip
            exact ct230 l r p col _ _ root l0_1 hl0_1 (hT) (hpx) (hfb) (hq) (hw0)
          · skip
            obtain ⟨s, hsr, hsc⟩ := oc_f c198
            have hsm := tr_lm hT hbm hsr
            rw [hsr]
            refine (show Go g κ 201 [some (.ref t), some (.ref x), some (.ref s)] [] [[(t, .inr (27, [.null, va_rf vs, .null, va_rf root, .int (nI n), .int (nI md), va_rf es, va_rf nk, .null]))], l0_1] 0 0 from ?_)
            have sb := sb_R hT hbm hfb hsr
            refine g_aload_n (q := 202) B dJ10_fixAfterDeletion_201 rfl rfl (rv_r _) ?_
            refine g_iconst (v := nI 1) (q := 203) B dJ10_fixAfterDeletion_202 rfl (by decide) ?_
            refine g_callS (q := 206) (is := [1]) (kc2 := 0) (ks2 := 0) B [.ref s, .int (nI 1)] (ct_J10_setColor_r g J (ns := ns) (key := kc) (val := val) (l := l) (r := r) (p := p) (col := col) (a := s) (c := true) hl0_1 (by first | assumption | omega | rfl)) dJ10_fixAfterDeletion_203 rfl q2153 q2154 q91 q2155 rfl rfl moJ10_setColor rfl rfl (by decide) (by decide) (Nat.le_of_ble_eq_true rfl) (Nat.le_of_ble_eq_true rfl) (Nat.le_of_ble_eq_true rfl) (fun _ _ hx => noX_x hx) (fun v203 L1 hp203 => ?_)
            obtain ⟨u0_203, rfl, rfl, hu0_203⟩ := hp203
            refine (show Go g κ 206 [some (.ref t), some (.ref x), some (.ref s)] [] [[(t, .inr (27, [.null, va_rf vs, .null, va_rf root, .int (nI n), .int (nI md), va_rf es, va_rf nk, .null]))], u0_203] 0 0 from ?_)
            refine g_aload_n (q := 207) B dJ10_fixAfterDeletion_206 rfl rfl (rv_r _) ?_
            refine g_callS (q := 210) (is := [1]) (kc2 := 0) (ks2 := 0) B [.ref x] (ct_J10_parentOf_r g J (ns := ns) (key := kc) (val := val) (l := l) (r := r) (p := p) (col := fup col s true) (a := x) hu0_203 (by first | assumption | omega | rfl)) dJ10_fixAfterDeletion_207 rfl q2141 q2142 q91 q2143 rfl rfl moJ10_parentOf rfl rfl (by decide) (by decide) (Nat.le_of_ble_eq_true rfl) (Nat.le_of_ble_eq_true rfl) (Nat.le_of_ble_eq_true rfl) (fun _ _ hx => noX_x hx) (fun v207 L1 hp207 => ?_)
            obtain ⟨rfl, rfl⟩ := hp207
            rw [(show p x = some b from hpx)]
            refine (show Go g κ 210 [some (.ref t), some (.ref x), some (.ref s)] [.ref b] [[(t, .inr (27, [.null, va_rf vs, .null, va_rf root, .int (nI n), .int (nI md), va_rf es, va_rf nk, .null]))], u0_203] 0 0 from ?_)
            refine g_iconst (v := nI 0) (q := 211) B dJ10_fixAfterDeletion_210 rfl (by decide) ?_
            refine g_callS (q := 214) (is := [1]) (kc2 := 0) (ks2 := 0) B [.ref b, .int (nI 0)] (ct_J10_setColor_r g J (ns := ns) (key := kc) (val := val) (l := l) (r := r) (p := p) (col := fup col s true) (a := b) (c := false) hu0_203 (by first | assumption | omega | rfl)) dJ10_fixAfterDeletion_211 rfl q2153 q2154 q91 q2155 rfl rfl moJ10_setColor rfl rfl (by decide) (by decide) (Nat.le_of_ble_eq_true rfl) (Nat.le_of_ble_eq_true rfl) (Nat.le_of_ble_eq_true rfl) (fun _ _ hx => noX_x hx) (fun v211 L1 hp211 => ?_)
            obtain ⟨u0_211, rfl, rfl, hu0_211⟩ := hp211
            refine (show Go g κ 214 [some (.ref t), some (.ref x), some (.ref s)] [] [[(t, .inr (27, [.null, va_rf vs, .null, va_rf root, .int (nI n), .int (nI md), va_rf es, va_rf nk, .null]))], u0_211] 0 0 from ?_)
            refine g_aload_n (q := 215) B dJ10_fixAfterDeletion_214 rfl rfl (rv_r _) ?_
            refine g_aload_n (q := 216) B dJ10_fixAfterDeletion_215 rfl rfl (rv_r _) ?_
            refine g_callS (q := 219) (is := [1]) (kc2 := 0) (ks2 := 0) B [.ref x] (ct_J10_parentOf_r g J (ns := ns) (key := kc) (val := val) (l := l) (r := r) (p := p) (col := fup (fup col s true) b false) (a := x) hu0_211 (by first | assumption | omega | rfl)) dJ10_fixAfterDeletion_216 rfl q2141 q2142 q91 q2143 rfl rfl moJ10_parentOf rfl rfl (by decide) (by decide) (Nat.le_of_ble_eq_true rfl) (Nat.le_of_ble_eq_true rfl) (Nat.le_of_ble_eq_true rfl) (fun _ _ hx => noX_x hx) (fun v216 L1 hp216 => ?_)
            obtain ⟨rfl, rfl⟩ := hp216
            rw [(show p x = some b from hpx)]
            refine (show Go g κ 219 [some (.ref t), some (.ref x), some (.ref s)] [.ref b, .ref t] [[(t, .inr (27, [.null, va_rf vs, .null, va_rf root, .int (nI n), .int (nI md), va_rf es, va_rf nk, .null]))], u0_211] 0 0 from ?_)
            refine g_callV (q := 222) (is := [0, 0]) (kc2 := 0) (ks2 := 0) B [.ref b] (ct_J10_rotateRight g J (t := t) (vs := vs) (n := n) (md := md) (es := es) (nk := nk) (ns := ns) (key := key) (val := val) (l := l) (r := r) (p := p) (col := fup (fup col s true) b false) (lo := lo) (hi := hi) (root := root) (M := M) (kc := kc) (a := b) (b := s) hu0_211 (hT) (hbm) (hsr)) dJ10_fixAfterDeletion_219 rfl (rc_at B (ci := 27) rfl (k := 0) rfl) rfl q2160 q2162 qs21 q91 q2163 rfl rfl moJ10_rotateRight rfl rfl (by decide) (by decide) (Nat.le_of_ble_eq_true rfl) (Nat.le_of_ble_eq_true rfl) (Nat.le_of_ble_eq_true rfl) (fun _ _ hx => noX_x hx) (fun v219 L1 hp219 => ?_)
            obtain ⟨u1_219, rfl, rfl, hu1_219, hT2_219⟩ := hp219
            refine (show Go g κ 222 [some (.ref t), some (.ref x), some (.ref s)] [] [[(t, .inr (27, [.null, va_rf vs, .null, va_rf (rlRoot root b s), .int (nI n), .int (nI md), va_rf es, va_rf nk, .null]))], u1_219] 0 0 from ?_)
            refine g_aload_n (q := 223) B dJ10_fixAfterDeletion_222 rfl rfl (rv_r _) ?_
            refine g_callS (q := 226) (is := [1]) (kc2 := 0) (ks2 := 0) B [.ref x] (ct_J10_parentOf_r g J (ns := ns) (key := kc) (val := val) (l := rrL l r b s) (r := rrR r b s) (p := rrP r p b s) (col := (fup (fup col s true) b false)) (a := x) hu1_219 (by first | assumption | omega | rfl)) dJ10_fixAfterDeletion_223 rfl q2141 q2142 q91 q2143 rfl rfl moJ10_parentOf rfl rfl (by decide) (by decide) (Nat.le_of_ble_eq_true rfl) (Nat.le_of_ble_eq_true rfl) (Nat.le_of_ble_eq_true rfl) (fun _ _ hx => noX_x hx) (fun v223 L1 hp223 => ?_)
            obtain ⟨rfl, rfl⟩ := hp223
            rw [(show (rrP r p b s) x = some b from sb.1)]
            refine (show Go g κ 226 [some (.ref t), some (.ref x), some (.ref s)] [.ref b] [[(t, .inr (27, [.null, va_rf vs, .null, va_rf (rlRoot root b s), .int (nI n), .int (nI md), va_rf es, va_rf nk, .null]))], u1_219] 0 0 from ?_)
            refine g_callS (q := 229) (is := [1]) (kc2 := 0) (ks2 := 0) B [.ref b] (ct_J10_leftOf_r g J (ns := ns) (key := kc) (val := val) (l := rrL l r b s) (r := rrR r b s) (p := rrP r p b s) (col := (fup (fup col s true) b false)) (a := b) hu1_219 (by first | assumption | omega | rfl)) dJ10_fixAfterDeletion_226 rfl q2144 q2145 q91 q2146 rfl rfl moJ10_leftOf rfl rfl (by decide) (by decide) (Nat.le_of_ble_eq_true rfl) (Nat.le_of_ble_eq_true rfl) (Nat.le_of_ble_eq_true rfl) (fun _ _ hx => noX_x hx) (fun v226 L1 hp226 => ?_)
            obtain ⟨rfl, rfl⟩ := hp226
            refine (show Go g κ 229 [some (.ref t), some (.ref x), some (.ref s)] [va_rf ((rrL l r b s) b)] [[(t, .inr (27, [.null, va_rf vs, .null, va_rf (rlRoot root b s), .int (nI n), .int (nI md), va_rf es, va_rf nk, .null]))], u1_219] 0 0 from ?_)
            refine g_astore_n (q := 230) (lv2 := [some (.ref t), some (.ref x), some (va_rf ((rrL l r b s) b))]) B dJ10_fixAfterDeletion_229 rfl (Nat.le_of_ble_eq_true rfl) (rv_o _) rfl ?_
            have sb := sb_R hT hbm hfb hsr
            exact ct230 (rrL l r b s) (rrR r b s) (rrP r p b s) (fup (fup col s true) b false) _ _ (rlRoot root b s) u1_219 hu1_219 (hT2_219) (sb.1) (sb.2.1) (ph_R hT hbm hfb hsr hq) (by rw [sb.2.2]; exact hw0)
        · skip
          have hfb : l b = some x := Classical.not_not.mp c24
          have hw0 : 1 + (M - wid lo hi (some x)) ≤ n0 := by rw [← hmu0]; unfold fdm; rw [if_neg (fun e => c5 e.symm)]; exact Nat.le_refl _
          have ct71 : ∀ (l : Nat → Option Nat) (r : Nat → Option Nat) (p : Nat → Option Nat) (col : Nat → Bool) (lo : Nat → Nat) (hi : Nat → Nat) (root : Option Nat) (l71_1 : va_W), EntG g ns kc val l r p col l71_1 → (Tr ns key l r p lo hi root M) → (p x = some b) → (l b = some x) → (Ph ns key lo hi l r x q) → (1 + (M - wid lo hi (some x)) ≤ n0) → Go g κ 71 [some (.ref t), some (.ref x), some (va_rf (r b))] [] [[(t, .inr (27, [.null, va_rf vs, .null, va_rf root, .int (nI n), .int (nI md), va_rf es, va_rf nk, .null]))], l71_1] 0 0 := by
            intro l r p col lo hi root l71_1 hl71_1 hT hpx hfb hq hw0
            rcases hsb : r b with _ | s
            · skip
              refine (show Go g κ 71 [some (.ref t), some (.ref x), some (.null)] [] [[(t, .inr (27, [.null, va_rf vs, .null, va_rf root, .int (nI n), .int (nI md), va_rf es, va_rf nk, .null]))], l71_1] 0 0 from ?_)
              refine g_aload_n (q := 72) B dJ10_fixAfterDeletion_71 rfl rfl rv_n ?_
              refine g_callS (q := 75) (is := []) (kc2 := 0) (ks2 := 0) B [.null] (ct_J10_leftOf_n g J   ) dJ10_fixAfterDeletion_72 rfl q2144 q2145 q91 q2146 rfl rfl moJ10_leftOf rfl rfl (by decide) (by decide) (Nat.le_of_ble_eq_true rfl) (Nat.le_of_ble_eq_true rfl) (Nat.le_of_ble_eq_true rfl) (fun _ _ hx => noX_x hx) (fun v72 L1 hp72 => ?_)
              obtain ⟨rfl, rfl⟩ := hp72
              refine (show Go g κ 75 [some (.ref t), some (.ref x), some (.null)] [.null] [[(t, .inr (27, [.null, va_rf vs, .null, va_rf root, .int (nI n), .int (nI md), va_rf es, va_rf nk, .null]))], l71_1] 0 0 from ?_)
              refine g_callS (q := 78) (is := []) (kc2 := 0) (ks2 := 0) B [.null] (ct_J10_colorOf_n g J   ) dJ10_fixAfterDeletion_75 rfl q2150 q2151 q91 q2152 rfl rfl moJ10_colorOf rfl rfl (by decide) (by decide) (Nat.le_of_ble_eq_true rfl) (Nat.le_of_ble_eq_true rfl) (Nat.le_of_ble_eq_true rfl) (fun _ _ hx => noX_x hx) (fun v75 L1 hp75 => ?_)
              obtain ⟨rfl, rfl⟩ := hp75
              refine (show Go g κ 78 [some (.ref t), some (.ref x), some (.null)] [.int (nI 1)] [[(t, .inr (27, [.null, va_rf vs, .null, va_rf root, .int (nI n), .int (nI md), va_rf es, va_rf nk, .null]))], l71_1] 0 0 from ?_)
              refine g_iconst (v := nI 1) (q := 79) B dJ10_fixAfterDeletion_78 rfl (by decide) ?_
              refine g_icmp_ne (tgt := 106) (q := 82) B dJ10_fixAfterDeletion_79 rfl (by decide) (iff_false_intro (by decide)) (fun z => z.elim) (fun _ => ?_)
              refine g_aload_n (q := 83) B dJ10_fixAfterDeletion_82 rfl rfl rv_n ?_
              refine g_callS (q := 86) (is := []) (kc2 := 0) (ks2 := 0) B [.null] (ct_J10_rightOf_n g J   ) dJ10_fixAfterDeletion_83 rfl q2147 q2148 q91 q2149 rfl rfl moJ10_rightOf rfl rfl (by decide) (by decide) (Nat.le_of_ble_eq_true rfl) (Nat.le_of_ble_eq_true rfl) (Nat.le_of_ble_eq_true rfl) (fun _ _ hx => noX_x hx) (fun v83 L1 hp83 => ?_)
              obtain ⟨rfl, rfl⟩ := hp83
              refine (show Go g κ 86 [some (.ref t), some (.ref x), some (.null)] [.null] [[(t, .inr (27, [.null, va_rf vs, .null, va_rf root, .int (nI n), .int (nI md), va_rf es, va_rf nk, .null]))], l71_1] 0 0 from ?_)
              refine g_callS (q := 89) (is := []) (kc2 := 0) (ks2 := 0) B [.null] (ct_J10_colorOf_n g J   ) dJ10_fixAfterDeletion_86 rfl q2150 q2151 q91 q2152 rfl rfl moJ10_colorOf rfl rfl (by decide) (by decide) (Nat.le_of_ble_eq_true rfl) (Nat.le_of_ble_eq_true rfl) (Nat.le_of_ble_eq_true rfl) (fun _ _ hx => noX_x hx) (fun v86 L1 hp86 => ?_)
              obtain ⟨rfl, rfl⟩ := hp86
              refine (show Go g κ 89 [some (.ref t), some (.ref x), some (.null)] [.int (nI 1)] [[(t, .inr (27, [.null, va_rf vs, .null, va_rf root, .int (nI n), .int (nI md), va_rf es, va_rf nk, .null]))], l71_1] 0 0 from ?_)
              refine g_iconst (v := nI 1) (q := 90) B dJ10_fixAfterDeletion_89 rfl (by decide) ?_
              refine g_icmp_ne (tgt := 106) (q := 93) B dJ10_fixAfterDeletion_90 rfl (by decide) (iff_false_intro (by decide)) (fun z => z.elim) (fun _ => ?_)
              refine g_aload_n (q := 94) B dJ10_fixAfterDeletion_93 rfl rfl rv_n ?_
              refine g_iconst (v := nI 0) (q := 95) B dJ10_fixAfterDeletion_94 rfl (by decide) ?_
              refine g_callS (q := 98) (is := []) (kc2 := 0) (ks2 := 0) B [.null, .int (nI 0)] (ct_J10_setColor_n g J (c := false)  ) dJ10_fixAfterDeletion_95 rfl q2153 q2154 q91 q2155 rfl rfl moJ10_setColor rfl rfl (by decide) (by decide) (Nat.le_of_ble_eq_true rfl) (Nat.le_of_ble_eq_true rfl) (Nat.le_of_ble_eq_true rfl) (fun _ _ hx => noX_x hx) (fun v95 L1 hp95 => ?_)
              obtain ⟨rfl, rfl⟩ := hp95
              refine (show Go g κ 98 [some (.ref t), some (.ref x), some (.null)] [] [[(t, .inr (27, [.null, va_rf vs, .null, va_rf root, .int (nI n), .int (nI md), va_rf es, va_rf nk, .null]))], l71_1] 0 0 from ?_)
              refine g_aload_n (q := 99) B dJ10_fixAfterDeletion_98 rfl rfl (rv_r _) ?_
              refine g_callS (q := 102) (is := [1]) (kc2 := 0) (ks2 := 0) B [.ref x] (ct_J10_parentOf_r g J (ns := ns) (key := kc) (val := val) (l := l) (r := r) (p := p) (col := col) (a := x) hl71_1 (by first | assumption | omega | rfl)) dJ10_fixAfterDeletion_99 rfl q2141 q2142 q91 q2143 rfl rfl moJ10_parentOf rfl rfl (by decide) (by decide) (Nat.le_of_ble_eq_true rfl) (Nat.le_of_ble_eq_true rfl) (Nat.le_of_ble_eq_true rfl) (fun _ _ hx => noX_x hx) (fun v99 L1 hp99 => ?_)
              obtain ⟨rfl, rfl⟩ := hp99
              rw [(show p x = some b from hpx)]
              refine (show Go g κ 102 [some (.ref t), some (.ref x), some (.null)] [.ref b] [[(t, .inr (27, [.null, va_rf vs, .null, va_rf root, .int (nI n), .int (nI md), va_rf es, va_rf nk, .null]))], l71_1] 0 0 from ?_)
              refine g_astore_n (q := 103) (lv2 := [some (.ref t), some (.ref b), some (.null)]) B dJ10_fixAfterDeletion_102 rfl (Nat.le_of_ble_eq_true rfl) (rv_r _) rfl ?_
              refine g_goto (tgt := 183) B dJ10_fixAfterDeletion_103 (by decide) ?_
              refine g_goto (tgt := 0) B dJ10_fixAfterDeletion_183 (by decide) ?_
              refine g_fg 2 rfl ?_
              exact ih0 _ (fdm_up hT hx hpx hw0) b l r p col lo hi root l71_1 hl71_1 (hT) (hbm) (ph_up hT hx hpx hq) rfl
            · skip
              have hsm := tr_rm hT hbm hsb
              refine (show Go g κ 71 [some (.ref t), some (.ref x), some (.ref s)] [] [[(t, .inr (27, [.null, va_rf vs, .null, va_rf root, .int (nI n), .int (nI md), va_rf es, va_rf nk, .null]))], l71_1] 0 0 from ?_)
              have ct143 : ∀ (l : Nat → Option Nat) (r : Nat → Option Nat) (p : Nat → Option Nat) (col : Nat → Bool) (lo : Nat → Nat) (hi : Nat → Nat) (root : Option Nat) (s : Nat) (l143_1 : va_W), EntG g ns kc val l r p col l143_1 → (Tr ns key l r p lo hi root M) → (p x = some b) → (l b = some x) → (Ph ns key lo hi l r x q) → (1 + (M - wid lo hi (some x)) ≤ n0) → (r b = some s) → (s ∈ ns) → Go g κ 143 [some (.ref t), some (.ref x), some (.ref s)] [] [[(t, .inr (27, [.null, va_rf vs, .null, va_rf root, .int (nI n), .int (nI md), va_rf es, va_rf nk, .null]))], l143_1] 0 0 := by
                intro l r p col lo hi root s l143_1 hl143_1 hT hpx hfb hq hw0 hsb hsm
                refine g_aload_n (q := 144) B dJ10_fixAfterDeletion_143 rfl rfl (rv_r _) ?_
                refine g_aload_n (q := 145) B dJ10_fixAfterDeletion_144 rfl rfl (rv_r _) ?_
                refine g_callS (q := 148) (is := [1]) (kc2 := 0) (ks2 := 0) B [.ref x] (ct_J10_parentOf_r g J (ns := ns) (key := kc) (val := val) (l := l) (r := r) (p := p) (col := col) (a := x) hl143_1 (by first | assumption | omega | rfl)) dJ10_fixAfterDeletion_145 rfl q2141 q2142 q91 q2143 rfl rfl moJ10_parentOf rfl rfl (by decide) (by decide) (Nat.le_of_ble_eq_true rfl) (Nat.le_of_ble_eq_true rfl) (Nat.le_of_ble_eq_true rfl) (fun _ _ hx => noX_x hx) (fun v145 L1 hp145 => ?_)
                obtain ⟨rfl, rfl⟩ := hp145
                rw [(show p x = some b from hpx)]
                refine (show Go g κ 148 [some (.ref t), some (.ref x), some (.ref s)] [.ref b, .ref s] [[(t, .inr (27, [.null, va_rf vs, .null, va_rf root, .int (nI n), .int (nI md), va_rf es, va_rf nk, .null]))], l143_1] 0 0 from ?_)
                refine g_callS (q := 151) (is := [1]) (kc2 := 0) (ks2 := 0) B [.ref b] (ct_J10_colorOf_r g J (ns := ns) (key := kc) (val := val) (l := l) (r := r) (p := p) (col := col) (a := b) hl143_1 (by first | assumption | omega | rfl)) dJ10_fixAfterDeletion_148 rfl q2150 q2151 q91 q2152 rfl rfl moJ10_colorOf rfl rfl (by decide) (by decide) (Nat.le_of_ble_eq_true rfl) (Nat.le_of_ble_eq_true rfl) (Nat.le_of_ble_eq_true rfl) (fun _ _ hx => noX_x hx) (fun v148 L1 hp148 => ?_)
                obtain ⟨rfl, rfl⟩ := hp148
                refine (show Go g κ 151 [some (.ref t), some (.ref x), some (.ref s)] [.int (nI (if col b = true then 1 else 0)), .ref s] [[(t, .inr (27, [.null, va_rf vs, .null, va_rf root, .int (nI n), .int (nI md), va_rf es, va_rf nk, .null]))], l143_1] 0 0 from ?_)
                refine g_callS (q := 154) (is := [1]) (kc2 := 0) (ks2 := 0) B [.ref s, .int (nI (if col b = true then 1 else 0))] (ct_J10_setColor_r g J (ns := ns) (key := kc) (val := val) (l := l) (r := r) (p := p) (col := col) (a := s) (c := col b) hl143_1 (by first | assumption | omega | rfl)) dJ10_fixAfterDeletion_151 rfl q2153 q2154 q91 q2155 rfl rfl moJ10_setColor rfl rfl (by decide) (by decide) (Nat.le_of_ble_eq_true rfl) (Nat.le_of_ble_eq_true rfl) (Nat.le_of_ble_eq_true rfl) (fun _ _ hx => noX_x hx) (fun v151 L1 hp151 => ?_)
                obtain ⟨u0_151, rfl, rfl, hu0_151⟩ := hp151
                refine (show Go g κ 154 [some (.ref t), some (.ref x), some (.ref s)] [] [[(t, .inr (27, [.null, va_rf vs, .null, va_rf root, .int (nI n), .int (nI md), va_rf es, va_rf nk, .null]))], u0_151] 0 0 from ?_)
                refine g_aload_n (q := 155) B dJ10_fixAfterDeletion_154 rfl rfl (rv_r _) ?_
                refine g_callS (q := 158) (is := [1]) (kc2 := 0) (ks2 := 0) B [.ref x] (ct_J10_parentOf_r g J (ns := ns) (key := kc) (val := val) (l := l) (r := r) (p := p) (col := fup col s (col b)) (a := x) hu0_151 (by first | assumption | omega | rfl)) dJ10_fixAfterDeletion_155 rfl q2141 q2142 q91 q2143 rfl rfl moJ10_parentOf rfl rfl (by decide) (by decide) (Nat.le_of_ble_eq_true rfl) (Nat.le_of_ble_eq_true rfl) (Nat.le_of_ble_eq_true rfl) (fun _ _ hx => noX_x hx) (fun v155 L1 hp155 => ?_)
                obtain ⟨rfl, rfl⟩ := hp155
                rw [(show p x = some b from hpx)]
                refine (show Go g κ 158 [some (.ref t), some (.ref x), some (.ref s)] [.ref b] [[(t, .inr (27, [.null, va_rf vs, .null, va_rf root, .int (nI n), .int (nI md), va_rf es, va_rf nk, .null]))], u0_151] 0 0 from ?_)
                refine g_iconst (v := nI 1) (q := 159) B dJ10_fixAfterDeletion_158 rfl (by decide) ?_
                refine g_callS (q := 162) (is := [1]) (kc2 := 0) (ks2 := 0) B [.ref b, .int (nI 1)] (ct_J10_setColor_r g J (ns := ns) (key := kc) (val := val) (l := l) (r := r) (p := p) (col := fup col s (col b)) (a := b) (c := true) hu0_151 (by first | assumption | omega | rfl)) dJ10_fixAfterDeletion_159 rfl q2153 q2154 q91 q2155 rfl rfl moJ10_setColor rfl rfl (by decide) (by decide) (Nat.le_of_ble_eq_true rfl) (Nat.le_of_ble_eq_true rfl) (Nat.le_of_ble_eq_true rfl) (fun _ _ hx => noX_x hx) (fun v159 L1 hp159 => ?_)
                obtain ⟨u0_159, rfl, rfl, hu0_159⟩ := hp159
                refine (show Go g κ 162 [some (.ref t), some (.ref x), some (.ref s)] [] [[(t, .inr (27, [.null, va_rf vs, .null, va_rf root, .int (nI n), .int (nI md), va_rf es, va_rf nk, .null]))], u0_159] 0 0 from ?_)
                refine g_aload_n (q := 163) B dJ10_fixAfterDeletion_162 rfl rfl (rv_r _) ?_
                refine g_callS (q := 166) (is := [1]) (kc2 := 0) (ks2 := 0) B [.ref s] (ct_J10_rightOf_r g J (ns := ns) (key := kc) (val := val) (l := l) (r := r) (p := p) (col := fup (fup col s (col b)) b true) (a := s) hu0_159 (by first | assumption | omega | rfl)) dJ10_fixAfterDeletion_163 rfl q2147 q2148 q91 q2149 rfl rfl moJ10_rightOf rfl rfl (by decide) (by decide) (Nat.le_of_ble_eq_true rfl) (Nat.le_of_ble_eq_true rfl) (Nat.le_of_ble_eq_true rfl) (fun _ _ hx => noX_x hx) (fun v163 L1 hp163 => ?_)
                obtain ⟨rfl, rfl⟩ := hp163
                refine (show Go g κ 166 [some (.ref t), some (.ref x), some (.ref s)] [va_rf (r s)] [[(t, .inr (27, [.null, va_rf vs, .null, va_rf root, .int (nI n), .int (nI md), va_rf es, va_rf nk, .null]))], u0_159] 0 0 from ?_)
                refine g_iconst (v := nI 1) (q := 167) B dJ10_fixAfterDeletion_166 rfl (by decide) ?_
                refine g_callS (q := 170) (is := [1]) (kc2 := 0) (ks2 := 0) B [va_rf (r s), .int (nI 1)] (ct_J10_setColor g J (ns := ns) (key := kc) (val := val) (l := l) (r := r) (p := p) (col := fup (fup col s (col b)) b true) (x := r s) (c := true) hu0_159 (om_r hT hsm)) dJ10_fixAfterDeletion_167 rfl q2153 q2154 q91 q2155 rfl rfl moJ10_setColor rfl rfl (by decide) (by decide) (Nat.le_of_ble_eq_true rfl) (Nat.le_of_ble_eq_true rfl) (Nat.le_of_ble_eq_true rfl) (fun _ _ hx => noX_x hx) (fun v167 L1 hp167 => ?_)
                obtain ⟨u0_167, rfl, rfl, hu0_167⟩ := hp167
                refine (show Go g κ 170 [some (.ref t), some (.ref x), some (.ref s)] [] [[(t, .inr (27, [.null, va_rf vs, .null, va_rf root, .int (nI n), .int (nI md), va_rf es, va_rf nk, .null]))], u0_167] 0 0 from ?_)
                refine g_aload_n (q := 171) B dJ10_fixAfterDeletion_170 rfl rfl (rv_r _) ?_
                refine g_aload_n (q := 172) B dJ10_fixAfterDeletion_171 rfl rfl (rv_r _) ?_
                refine g_callS (q := 175) (is := [1]) (kc2 := 0) (ks2 := 0) B [.ref x] (ct_J10_parentOf_r g J (ns := ns) (key := kc) (val := val) (l := l) (r := r) (p := p) (col := oset (fup (fup col s (col b)) b true) (r s) true) (a := x) hu0_167 (by first | assumption | omega | rfl)) dJ10_fixAfterDeletion_172 rfl q2141 q2142 q91 q2143 rfl rfl moJ10_parentOf rfl rfl (by decide) (by decide) (Nat.le_of_ble_eq_true rfl) (Nat.le_of_ble_eq_true rfl) (Nat.le_of_ble_eq_true rfl) (fun _ _ hx => noX_x hx) (fun v172 L1 hp172 => ?_)
                obtain ⟨rfl, rfl⟩ := hp172
                rw [(show p x = some b from hpx)]
                refine (show Go g κ 175 [some (.ref t), some (.ref x), some (.ref s)] [.ref b, .ref t] [[(t, .inr (27, [.null, va_rf vs, .null, va_rf root, .int (nI n), .int (nI md), va_rf es, va_rf nk, .null]))], u0_167] 0 0 from ?_)
                refine g_callV (q := 178) (is := [0, 0]) (kc2 := 0) (ks2 := 0) B [.ref b] (ct_J10_rotateLeft g J (t := t) (vs := vs) (n := n) (md := md) (es := es) (nk := nk) (ns := ns) (key := key) (val := val) (l := l) (r := r) (p := p) (col := oset (fup (fup col s (col b)) b true) (r s) true) (lo := lo) (hi := hi) (root := root) (M := M) (kc := kc) (a := b) (b := s) hu0_167 (hT) (hbm) (hsb)) dJ10_fixAfterDeletion_175 rfl (rc_at B (ci := 27) rfl (k := 0) rfl) rfl q2156 q2158 qs20 q91 q2159 rfl rfl moJ10_rotateLeft rfl rfl (by decide) (by decide) (Nat.le_of_ble_eq_true rfl) (Nat.le_of_ble_eq_true rfl) (Nat.le_of_ble_eq_true rfl) (fun _ _ hx => noX_x hx) (fun v175 L1 hp175 => ?_)
                obtain ⟨u1_175, rfl, rfl, hu1_175, hT2_175⟩ := hp175
                refine (show Go g κ 178 [some (.ref t), some (.ref x), some (.ref s)] [] [[(t, .inr (27, [.null, va_rf vs, .null, va_rf (rlRoot root b s), .int (nI n), .int (nI md), va_rf es, va_rf nk, .null]))], u1_175] 0 0 from ?_)
                refine g_aload_n (q := 179) B dJ10_fixAfterDeletion_178 rfl rfl (rv_r _) ?_
                refine g_get (q := 182) B (ci := 27) (k := 0) (j := 3) in_J10 rfl dJ10_fixAfterDeletion_179 rfl rfl (Nat.le_of_ble_eq_true rfl) q1871 rfl rfl ?_
                refine g_astore_n (q := 183) (lv2 := [some (.ref t), some (va_rf (rlRoot root b s)), some (.ref s)]) B dJ10_fixAfterDeletion_182 rfl (Nat.le_of_ble_eq_true rfl) (rv_o _) rfl ?_
                obtain ⟨z, hz, hzm⟩ := tr_root hT2_175 hx
                rw [hz]
                refine (show Go g κ 183 [some (.ref t), some (.ref z), some (.ref s)] [] [[(t, .inr (27, [.null, va_rf vs, .null, .ref z, .int (nI n), .int (nI md), va_rf es, va_rf nk, .null]))], u1_175] 0 0 from ?_)
                refine g_goto (tgt := 0) B dJ10_fixAfterDeletion_183 (by decide) ?_
                refine g_fg 2 rfl ?_
                exact ih0 _ (fdm_root hw0 rfl) z (rlL l b s) (rlR l r b s) (rlP l p b s) (oset (fup (fup col s (col b)) b true) (r s) true) _ _ (some z) u1_175 hu1_175 (by rw [← hz]; exact hT2_175) (hzm) (ph_root hT2_175 hz (ph_L hT hbm hfb hsb hq)) rfl
              refine g_aload_n (q := 72) B dJ10_fixAfterDeletion_71 rfl rfl (rv_r _) ?_
              refine g_callS (q := 75) (is := [1]) (kc2 := 0) (ks2 := 0) B [.ref s] (ct_J10_leftOf_r g J (ns := ns) (key := kc) (val := val) (l := l) (r := r) (p := p) (col := col) (a := s) hl71_1 (by first | assumption | omega | rfl)) dJ10_fixAfterDeletion_72 rfl q2144 q2145 q91 q2146 rfl rfl moJ10_leftOf rfl rfl (by decide) (by decide) (Nat.le_of_ble_eq_true rfl) (Nat.le_of_ble_eq_true rfl) (Nat.le_of_ble_eq_true rfl) (fun _ _ hx => noX_x hx) (fun v72 L1 hp72 => ?_)
              obtain ⟨rfl, rfl⟩ := hp72
              refine (show Go g κ 75 [some (.ref t), some (.ref x), some (.ref s)] [va_rf (l s)] [[(t, .inr (27, [.null, va_rf vs, .null, va_rf root, .int (nI n), .int (nI md), va_rf es, va_rf nk, .null]))], l71_1] 0 0 from ?_)
              refine g_callS (q := 78) (is := [1]) (kc2 := 0) (ks2 := 0) B [va_rf (l s)] (ct_J10_colorOf g J (ns := ns) (key := kc) (val := val) (l := l) (r := r) (p := p) (col := col) (x := l s) hl71_1 (om_l hT hsm)) dJ10_fixAfterDeletion_75 rfl q2150 q2151 q91 q2152 rfl rfl moJ10_colorOf rfl rfl (by decide) (by decide) (Nat.le_of_ble_eq_true rfl) (Nat.le_of_ble_eq_true rfl) (Nat.le_of_ble_eq_true rfl) (fun _ _ hx => noX_x hx) (fun v75 L1 hp75 => ?_)
              obtain ⟨rfl, rfl⟩ := hp75
              refine (show Go g κ 78 [some (.ref t), some (.ref x), some (.ref s)] [.int (nI (if oc col (l s) = true then 1 else 0))] [[(t, .inr (27, [.null, va_rf vs, .null, va_rf root, .int (nI n), .int (nI md), va_rf es, va_rf nk, .null]))], l71_1] 0 0 from ?_)
              refine g_iconst (v := nI 1) (q := 79) B dJ10_fixAfterDeletion_78 rfl (by decide) ?_
              refine g_icmp_ne (tgt := 106) (q := 82) B dJ10_fixAfterDeletion_79 rfl (by decide) (not_congr bo_eq1) (fun c79 => ?_) (fun c79 => ?_)
              · skip
                refine g_aload_n (q := 107) B dJ10_fixAfterDeletion_106 rfl rfl (rv_r _) ?_
                refine g_callS (q := 110) (is := [1]) (kc2 := 0) (ks2 := 0) B [.ref s] (ct_J10_rightOf_r g J (ns := ns) (key := kc) (val := val) (l := l) (r := r) (p := p) (col := col) (a := s) hl71_1 (by first | assumption | omega | rfl)) dJ10_fixAfterDeletion_107 rfl q2147 q2148 q91 q2149 rfl rfl moJ10_rightOf rfl rfl (by decide) (by decide) (Nat.le_of_ble_eq_true rfl) (Nat.le_of_ble_eq_true rfl) (Nat.le_of_ble_eq_true rfl) (fun _ _ hx => noX_x hx) (fun v107 L1 hp107 => ?_)
                obtain ⟨rfl, rfl⟩ := hp107
                refine (show Go g κ 110 [some (.ref t), some (.ref x), some (.ref s)] [va_rf (r s)] [[(t, .inr (27, [.null, va_rf vs, .null, va_rf root, .int (nI n), .int (nI md), va_rf es, va_rf nk, .null]))], l71_1] 0 0 from ?_)
                refine g_callS (q := 113) (is := [1]) (kc2 := 0) (ks2 := 0) B [va_rf (r s)] (ct_J10_colorOf g J (ns := ns) (key := kc) (val := val) (l := l) (r := r) (p := p) (col := col) (x := r s) hl71_1 (om_r hT hsm)) dJ10_fixAfterDeletion_110 rfl q2150 q2151 q91 q2152 rfl rfl moJ10_colorOf rfl rfl (by decide) (by decide) (Nat.le_of_ble_eq_true rfl) (Nat.le_of_ble_eq_true rfl) (Nat.le_of_ble_eq_true rfl) (fun _ _ hx => noX_x hx) (fun v110 L1 hp110 => ?_)
                obtain ⟨rfl, rfl⟩ := hp110
                refine (show Go g κ 113 [some (.ref t), some (.ref x), some (.ref s)] [.int (nI (if oc col (r s) = true then 1 else 0))] [[(t, .inr (27, [.null, va_rf vs, .null, va_rf root, .int (nI n), .int (nI md), va_rf es, va_rf nk, .null]))], l71_1] 0 0 from ?_)
                refine g_iconst (v := nI 1) (q := 114) B dJ10_fixAfterDeletion_113 rfl (by decide) ?_
                refine g_icmp_ne (tgt := 143) (q := 117) B dJ10_fixAfterDeletion_114 rfl (by decide) (not_congr bo_eq1) (fun c114 => ?_) (fun c114 => ?_)
                · skip
                  exact ct143 l r p col _ _ root s l71_1 hl71_1 (hT) (hpx) (hfb) (hq) (hw0) (hsb) (hsm)
                · skip
                  obtain ⟨y, hy, hyc⟩ : ∃ y, l s = some y ∧ col y = false := by
                    first | exact oc_f c79 | exact absurd c90 c114
                  have hym := tr_lm hT hsm hy
                  have sb := sb_LR hT hbm hfb hsb hy
                  refine g_aload_n (q := 118) B dJ10_fixAfterDeletion_117 rfl rfl (rv_r _) ?_
                  refine g_callS (q := 121) (is := [1]) (kc2 := 0) (ks2 := 0) B [.ref s] (ct_J10_leftOf_r g J (ns := ns) (key := kc) (val := val) (l := l) (r := r) (p := p) (col := col) (a := s) hl71_1 (by first | assumption | omega | rfl)) dJ10_fixAfterDeletion_118 rfl q2144 q2145 q91 q2146 rfl rfl moJ10_leftOf rfl rfl (by decide) (by decide) (Nat.le_of_ble_eq_true rfl) (Nat.le_of_ble_eq_true rfl) (Nat.le_of_ble_eq_true rfl) (fun _ _ hx => noX_x hx) (fun v118 L1 hp118 => ?_)
                  obtain ⟨rfl, rfl⟩ := hp118
                  rw [(show l s = some y from hy)]
                  refine (show Go g κ 121 [some (.ref t), some (.ref x), some (.ref s)] [.ref y] [[(t, .inr (27, [.null, va_rf vs, .null, va_rf root, .int (nI n), .int (nI md), va_rf es, va_rf nk, .null]))], l71_1] 0 0 from ?_)
                  refine g_iconst (v := nI 1) (q := 122) B dJ10_fixAfterDeletion_121 rfl (by decide) ?_
                  refine g_callS (q := 125) (is := [1]) (kc2 := 0) (ks2 := 0) B [.ref y, .int (nI 1)] (ct_J10_setColor_r g J (ns := ns) (key := kc) (val := val) (l := l) (r := r) (p := p) (col := col) (a := y) (c := true) hl71_1 (by first | assumption | omega | rfl)) dJ10_fixAfterDeletion_122 rfl q2153 q2154 q91 q2155 rfl rfl moJ10_setColor rfl rfl (by decide) (by decide) (Nat.le_of_ble_eq_true rfl) (Nat.le_of_ble_eq_true rfl) (Nat.le_of_ble_eq_true rfl) (fun _ _ hx => noX_x hx) (fun v122 L1 hp122 => ?_)
                  obtain ⟨u0_122, rfl, rfl, hu0_122⟩ := hp122
                  refine (show Go g κ 125 [some (.ref t), some (.ref x), some (.ref s)] [] [[(t, .inr (27, [.null, va_rf vs, .null, va_rf root, .int (nI n), .int (nI md), va_rf es, va_rf nk, .null]))], u0_122] 0 0 from ?_)
                  refine g_aload_n (q := 126) B dJ10_fixAfterDeletion_125 rfl rfl (rv_r _) ?_
                  refine g_iconst (v := nI 0) (q := 127) B dJ10_fixAfterDeletion_126 rfl (by decide) ?_
                  refine g_callS (q := 130) (is := [1]) (kc2 := 0) (ks2 := 0) B [.ref s, .int (nI 0)] (ct_J10_setColor_r g J (ns := ns) (key := kc) (val := val) (l := l) (r := r) (p := p) (col := fup col y true) (a := s) (c := false) hu0_122 (by first | assumption | omega | rfl)) dJ10_fixAfterDeletion_127 rfl q2153 q2154 q91 q2155 rfl rfl moJ10_setColor rfl rfl (by decide) (by decide) (Nat.le_of_ble_eq_true rfl) (Nat.le_of_ble_eq_true rfl) (Nat.le_of_ble_eq_true rfl) (fun _ _ hx => noX_x hx) (fun v127 L1 hp127 => ?_)
                  obtain ⟨u0_127, rfl, rfl, hu0_127⟩ := hp127
                  refine (show Go g κ 130 [some (.ref t), some (.ref x), some (.ref s)] [] [[(t, .inr (27, [.null, va_rf vs, .null, va_rf root, .int (nI n), .int (nI md), va_rf es, va_rf nk, .null]))], u0_127] 0 0 from ?_)
                  refine g_aload_n (q := 131) B dJ10_fixAfterDeletion_130 rfl rfl (rv_r _) ?_
                  refine g_aload_n (q := 132) B dJ10_fixAfterDeletion_131 rfl rfl (rv_r _) ?_
                  refine g_callV (q := 135) (is := [0, 0]) (kc2 := 0) (ks2 := 0) B [.ref s] (ct_J10_rotateRight g J (t := t) (vs := vs) (n := n) (md := md) (es := es) (nk := nk) (ns := ns) (key := key) (val := val) (l := l) (r := r) (p := p) (col := fup (fup col y true) s false) (lo := lo) (hi := hi) (root := root) (M := M) (kc := kc) (a := s) (b := y) hu0_127 (hT) (hsm) (hy)) dJ10_fixAfterDeletion_132 rfl (rc_at B (ci := 27) rfl (k := 0) rfl) rfl q2160 q2162 qs21 q91 q2163 rfl rfl moJ10_rotateRight rfl rfl (by decide) (by decide) (Nat.le_of_ble_eq_true rfl) (Nat.le_of_ble_eq_true rfl) (Nat.le_of_ble_eq_true rfl) (fun _ _ hx => noX_x hx) (fun v132 L1 hp132 => ?_)
                  obtain ⟨u1_132, rfl, rfl, hu1_132, hT2_132⟩ := hp132
                  refine (show Go g κ 135 [some (.ref t), some (.ref x), some (.ref s)] [] [[(t, .inr (27, [.null, va_rf vs, .null, va_rf (rlRoot root s y), .int (nI n), .int (nI md), va_rf es, va_rf nk, .null]))], u1_132] 0 0 from ?_)
                  refine g_aload_n (q := 136) B dJ10_fixAfterDeletion_135 rfl rfl (rv_r _) ?_
                  refine g_callS (q := 139) (is := [1]) (kc2 := 0) (ks2 := 0) B [.ref x] (ct_J10_parentOf_r g J (ns := ns) (key := kc) (val := val) (l := rrL l r s y) (r := rrR r s y) (p := rrP r p s y) (col := (fup (fup col y true) s false)) (a := x) hu1_132 (by first | assumption | omega | rfl)) dJ10_fixAfterDeletion_136 rfl q2141 q2142 q91 q2143 rfl rfl moJ10_parentOf rfl rfl (by decide) (by decide) (Nat.le_of_ble_eq_true rfl) (Nat.le_of_ble_eq_true rfl) (Nat.le_of_ble_eq_true rfl) (fun _ _ hx => noX_x hx) (fun v136 L1 hp136 => ?_)
                  obtain ⟨rfl, rfl⟩ := hp136
                  rw [(show (rrP r p s y) x = some b from sb.1)]
                  refine (show Go g κ 139 [some (.ref t), some (.ref x), some (.ref s)] [.ref b] [[(t, .inr (27, [.null, va_rf vs, .null, va_rf (rlRoot root s y), .int (nI n), .int (nI md), va_rf es, va_rf nk, .null]))], u1_132] 0 0 from ?_)
                  refine g_callS (q := 142) (is := [1]) (kc2 := 0) (ks2 := 0) B [.ref b] (ct_J10_rightOf_r g J (ns := ns) (key := kc) (val := val) (l := rrL l r s y) (r := rrR r s y) (p := rrP r p s y) (col := (fup (fup col y true) s false)) (a := b) hu1_132 (by first | assumption | omega | rfl)) dJ10_fixAfterDeletion_139 rfl q2147 q2148 q91 q2149 rfl rfl moJ10_rightOf rfl rfl (by decide) (by decide) (Nat.le_of_ble_eq_true rfl) (Nat.le_of_ble_eq_true rfl) (Nat.le_of_ble_eq_true rfl) (fun _ _ hx => noX_x hx) (fun v139 L1 hp139 => ?_)
                  obtain ⟨rfl, rfl⟩ := hp139
                  rw [(show (rrR r s y) b = some y from sb.2.2.1)]
                  refine (show Go g κ 142 [some (.ref t), some (.ref x), some (.ref s)] [.ref y] [[(t, .inr (27, [.null, va_rf vs, .null, va_rf (rlRoot root s y), .int (nI n), .int (nI md), va_rf es, va_rf nk, .null]))], u1_132] 0 0 from ?_)
                  refine g_astore_n (q := 143) (lv2 := [some (.ref t), some (.ref x), some (.ref y)]) B dJ10_fixAfterDeletion_142 rfl (Nat.le_of_ble_eq_true rfl) (rv_r _) rfl ?_
                  have hwx : 1 + (M - wid lo hi (some x)) ≤ n0 := hw0
                  have w1 := hT.2.2.2.1 b hbm x hfb
                  have w2 := hT.2.2.2.2.2.1 b hbm s hsb
                  have w3 := hT.2.1 s hsm
                  have w4 := hT.2.1 b hbm
                  have w5 := hT.2.1 x hx
                  have w6 := hT.2.2.2.1 s hsm y hy
                  have w7 := hT.2.1 y hym
                  have m1 : x ≠ y := by rintro rfl; omega
                  have m2 : x ≠ s := by rintro rfl; omega
                  exact ct143 (rrL l r s y) (rrR r s y) (rrP r p s y) (fup (fup col y true) s false) _ _ (rlRoot root s y) y u1_132 hu1_132 (hT2_132) (sb.1) (sb.2.1) (ph_LR hT hbm hfb hsb hy hq) (by simp only [wid] at hw0 ⊢; simp only [fup_n m1, fup_n m2]; exact hw0) (sb.2.2.1) (sb.2.2.2)
              · skip
                refine g_aload_n (q := 83) B dJ10_fixAfterDeletion_82 rfl rfl (rv_r _) ?_
                refine g_callS (q := 86) (is := [1]) (kc2 := 0) (ks2 := 0) B [.ref s] (ct_J10_rightOf_r g J (ns := ns) (key := kc) (val := val) (l := l) (r := r) (p := p) (col := col) (a := s) hl71_1 (by first | assumption | omega | rfl)) dJ10_fixAfterDeletion_83 rfl q2147 q2148 q91 q2149 rfl rfl moJ10_rightOf rfl rfl (by decide) (by decide) (Nat.le_of_ble_eq_true rfl) (Nat.le_of_ble_eq_true rfl) (Nat.le_of_ble_eq_true rfl) (fun _ _ hx => noX_x hx) (fun v83 L1 hp83 => ?_)
                obtain ⟨rfl, rfl⟩ := hp83
                refine (show Go g κ 86 [some (.ref t), some (.ref x), some (.ref s)] [va_rf (r s)] [[(t, .inr (27, [.null, va_rf vs, .null, va_rf root, .int (nI n), .int (nI md), va_rf es, va_rf nk, .null]))], l71_1] 0 0 from ?_)
                refine g_callS (q := 89) (is := [1]) (kc2 := 0) (ks2 := 0) B [va_rf (r s)] (ct_J10_colorOf g J (ns := ns) (key := kc) (val := val) (l := l) (r := r) (p := p) (col := col) (x := r s) hl71_1 (om_r hT hsm)) dJ10_fixAfterDeletion_86 rfl q2150 q2151 q91 q2152 rfl rfl moJ10_colorOf rfl rfl (by decide) (by decide) (Nat.le_of_ble_eq_true rfl) (Nat.le_of_ble_eq_true rfl) (Nat.le_of_ble_eq_true rfl) (fun _ _ hx => noX_x hx) (fun v86 L1 hp86 => ?_)
                obtain ⟨rfl, rfl⟩ := hp86
                refine (show Go g κ 89 [some (.ref t), some (.ref x), some (.ref s)] [.int (nI (if oc col (r s) = true then 1 else 0))] [[(t, .inr (27, [.null, va_rf vs, .null, va_rf root, .int (nI n), .int (nI md), va_rf es, va_rf nk, .null]))], l71_1] 0 0 from ?_)
                refine g_iconst (v := nI 1) (q := 90) B dJ10_fixAfterDeletion_89 rfl (by decide) ?_
                refine g_icmp_ne (tgt := 106) (q := 93) B dJ10_fixAfterDeletion_90 rfl (by decide) (not_congr bo_eq1) (fun c90 => ?_) (fun c90 => ?_)
                · skip
                  refine g_aload_n (q := 107) B dJ10_fixAfterDeletion_106 rfl rfl (rv_r _) ?_
                  refine g_callS (q := 110) (is := [1]) (kc2 := 0) (ks2 := 0) B [.ref s] (ct_J10_rightOf_r g J (ns := ns) (key := kc) (val := val) (l := l) (r := r) (p := p) (col := col) (a := s) hl71_1 (by first | assumption | omega | rfl)) dJ10_fixAfterDeletion_107 rfl q2147 q2148 q91 q2149 rfl rfl moJ10_rightOf rfl rfl (by decide) (by decide) (Nat.le_of_ble_eq_true rfl) (Nat.le_of_ble_eq_true rfl) (Nat.le_of_ble_eq_true rfl) (fun _ _ hx => noX_x hx) (fun v107 L1 hp107 => ?_)
                  obtain ⟨rfl, rfl⟩ := hp107
                  refine (show Go g κ 110 [some (.ref t), some (.ref x), some (.ref s)] [va_rf (r s)] [[(t, .inr (27, [.null, va_rf vs, .null, va_rf root, .int (nI n), .int (nI md), va_rf es, va_rf nk, .null]))], l71_1] 0 0 from ?_)
                  refine g_callS (q := 113) (is := [1]) (kc2 := 0) (ks2 := 0) B [va_rf (r s)] (ct_J10_colorOf g J (ns := ns) (key := kc) (val := val) (l := l) (r := r) (p := p) (col := col) (x := r s) hl71_1 (om_r hT hsm)) dJ10_fixAfterDeletion_110 rfl q2150 q2151 q91 q2152 rfl rfl moJ10_colorOf rfl rfl (by decide) (by decide) (Nat.le_of_ble_eq_true rfl) (Nat.le_of_ble_eq_true rfl) (Nat.le_of_ble_eq_true rfl) (fun _ _ hx => noX_x hx) (fun v110 L1 hp110 => ?_)
                  obtain ⟨rfl, rfl⟩ := hp110
                  refine (show Go g κ 113 [some (.ref t), some (.ref x), some (.ref s)] [.int (nI (if oc col (r s) = true then 1 else 0))] [[(t, .inr (27, [.null, va_rf vs, .null, va_rf root, .int (nI n), .int (nI md), va_rf es, va_rf nk, .null]))], l71_1] 0 0 from ?_)
                  refine g_iconst (v := nI 1) (q := 114) B dJ10_fixAfterDeletion_113 rfl (by decide) ?_
                  refine g_icmp_ne (tgt := 143) (q := 117) B dJ10_fixAfterDeletion_114 rfl (by decide) (not_congr bo_eq1) (fun c114 => ?_) (fun c114 => ?_)
                  · skip
                    exact ct143 l r p col _ _ root s l71_1 hl71_1 (hT) (hpx) (hfb) (hq) (hw0) (hsb) (hsm)
                  · skip
                    obtain ⟨y, hy, hyc⟩ : ∃ y, l s = some y ∧ col y = false := by
                      first | exact oc_f c79 | exact absurd c90 c114
                    have hym := tr_lm hT hsm hy
                    have sb := sb_LR hT hbm hfb hsb hy
                    refine g_aload_n (q := 118) B dJ10_fixAfterDeletion_117 rfl rfl (rv_r _) ?_
                    refine g_callS (q := 121) (is := [1]) (kc2 := 0) (ks2 := 0) B [.ref s] (ct_J10_leftOf_r g J (ns := ns) (key := kc) (val := val) (l := l) (r := r) (p := p) (col := col) (a := s) hl71_1 (by first | assumption | omega | rfl)) dJ10_fixAfterDeletion_118 rfl q2144 q2145 q91 q2146 rfl rfl moJ10_leftOf rfl rfl (by decide) (by decide) (Nat.le_of_ble_eq_true rfl) (Nat.le_of_ble_eq_true rfl) (Nat.le_of_ble_eq_true rfl) (fun _ _ hx => noX_x hx) (fun v118 L1 hp118 => ?_)
                    obtain ⟨rfl, rfl⟩ := hp118
                    rw [(show l s = some y from hy)]
                    refine (show Go g κ 121 [some (.ref t), some (.ref x), some (.ref s)] [.ref y] [[(t, .inr (27, [.null, va_rf vs, .null, va_rf root, .int (nI n), .int (nI md), va_rf es, va_rf nk, .null]))], l71_1] 0 0 from ?_)
                    refine g_iconst (v := nI 1) (q := 122) B dJ10_fixAfterDeletion_121 rfl (by decide) ?_
                    refine g_callS (q := 125) (is := [1]) (kc2 := 0) (ks2 := 0) B [.ref y, .int (nI 1)] (ct_J10_setColor_r g J (ns := ns) (key := kc) (val := val) (l := l) (r := r) (p := p) (col := col) (a := y) (c := true) hl71_1 (by first | assumption | omega | rfl)) dJ10_fixAfterDeletion_122 rfl q2153 q2154 q91 q2155 rfl rfl moJ10_setColor rfl rfl (by decide) (by decide) (Nat.le_of_ble_eq_true rfl) (Nat.le_of_ble_eq_true rfl) (Nat.le_of_ble_eq_true rfl) (fun _ _ hx => noX_x hx) (fun v122 L1 hp122 => ?_)
                    obtain ⟨u0_122, rfl, rfl, hu0_122⟩ := hp122
                    refine (show Go g κ 125 [some (.ref t), some (.ref x), some (.ref s)] [] [[(t, .inr (27, [.null, va_rf vs, .null, va_rf root, .int (nI n), .int (nI md), va_rf es, va_rf nk, .null]))], u0_122] 0 0 from ?_)
                    refine g_aload_n (q := 126) B dJ10_fixAfterDeletion_125 rfl rfl (rv_r _) ?_
                    refine g_iconst (v := nI 0) (q := 127) B dJ10_fixAfterDeletion_126 rfl (by decide) ?_
                    refine g_callS (q := 130) (is := [1]) (kc2 := 0) (ks2 := 0) B [.ref s, .int (nI 0)] (ct_J10_setColor_r g J (ns := ns) (key := kc) (val := val) (l := l) (r := r) (p := p) (col := fup col y true) (a := s) (c := false) hu0_122 (by first | assumption | omega | rfl)) dJ10_fixAfterDeletion_127 rfl q2153 q2154 q91 q2155 rfl rfl moJ10_setColor rfl rfl (by decide) (by decide) (Nat.le_of_ble_eq_true rfl) (Nat.le_of_ble_eq_true rfl) (Nat.le_of_ble_eq_true rfl) (fun _ _ hx => noX_x hx) (fun v127 L1 hp127 => ?_)
                    obtain ⟨u0_127, rfl, rfl, hu0_127⟩ := hp127
                    refine (show Go g κ 130 [some (.ref t), some (.ref x), some (.ref s)] [] [[(t, .inr (27, [.null, va_rf vs, .null, va_rf root, .int (nI n), .int (nI md), va_rf es, va_rf nk, .null]))], u0_127] 0 0 from ?_)
                    refine g_aload_n (q := 131) B dJ10_fixAfterDeletion_130 rfl rfl (rv_r _) ?_
                    refine g_aload_n (q := 132) B dJ10_fixAfterDeletion_131 rfl rfl (rv_r _) ?_
                    refine g_callV (q := 135) (is := [0, 0]) (kc2 := 0) (ks2 := 0) B [.ref s] (ct_J10_rotateRight g J (t := t) (vs := vs) (n := n) (md := md) (es := es) (nk := nk) (ns := ns) (key := key) (val := val) (l := l) (r := r) (p := p) (col := fup (fup col y true) s false) (lo := lo) (hi := hi) (root := root) (M := M) (kc := kc) (a := s) (b := y) hu0_127 (hT) (hsm) (hy)) dJ10_fixAfterDeletion_132 rfl (rc_at B (ci := 27) rfl (k := 0) rfl) rfl q2160 q2162 qs21 q91 q2163 rfl rfl moJ10_rotateRight rfl rfl (by decide) (by decide) (Nat.le_of_ble_eq_true rfl) (Nat.le_of_ble_eq_true rfl) (Nat.le_of_ble_eq_true rfl) (fun _ _ hx => noX_x hx) (fun v132 L1 hp132 => ?_)
                    obtain ⟨u1_132, rfl, rfl, hu1_132, hT2_132⟩ := hp132
                    refine (show Go g κ 135 [some (.ref t), some (.ref x), some (.ref s)] [] [[(t, .inr (27, [.null, va_rf vs, .null, va_rf (rlRoot root s y), .int (nI n), .int (nI md), va_rf es, va_rf nk, .null]))], u1_132] 0 0 from ?_)
                    refine g_aload_n (q := 136) B dJ10_fixAfterDeletion_135 rfl rfl (rv_r _) ?_
                    refine g_callS (q := 139) (is := [1]) (kc2 := 0) (ks2 := 0) B [.ref x] (ct_J10_parentOf_r g J (ns := ns) (key := kc) (val := val) (l := rrL l r s y) (r := rrR r s y) (p := rrP r p s y) (col := (fup (fup col y true) s false)) (a := x) hu1_132 (by first | assumption | omega | rfl)) dJ10_fixAfterDeletion_136 rfl q2141 q2142 q91 q2143 rfl rfl moJ10_parentOf rfl rfl (by decide) (by decide) (Nat.le_of_ble_eq_true rfl) (Nat.le_of_ble_eq_true rfl) (Nat.le_of_ble_eq_true rfl) (fun _ _ hx => noX_x hx) (fun v136 L1 hp136 => ?_)
                    obtain ⟨rfl, rfl⟩ := hp136
                    rw [(show (rrP r p s y) x = some b from sb.1)]
                    refine (show Go g κ 139 [some (.ref t), some (.ref x), some (.ref s)] [.ref b] [[(t, .inr (27, [.null, va_rf vs, .null, va_rf (rlRoot root s y), .int (nI n), .int (nI md), va_rf es, va_rf nk, .null]))], u1_132] 0 0 from ?_)
                    refine g_callS (q := 142) (is := [1]) (kc2 := 0) (ks2 := 0) B [.ref b] (ct_J10_rightOf_r g J (ns := ns) (key := kc) (val := val) (l := rrL l r s y) (r := rrR r s y) (p := rrP r p s y) (col := (fup (fup col y true) s false)) (a := b) hu1_132 (by first | assumption | omega | rfl)) dJ10_fixAfterDeletion_139 rfl q2147 q2148 q91 q2149 rfl rfl moJ10_rightOf rfl rfl (by decide) (by decide) (Nat.le_of_ble_eq_true rfl) (Nat.le_of_ble_eq_true rfl) (Nat.le_of_ble_eq_true rfl) (fun _ _ hx => noX_x hx) (fun v139 L1 hp139 => ?_)
                    obtain ⟨rfl, rfl⟩ := hp139
                    rw [(show (rrR r s y) b = some y from sb.2.2.1)]
                    refine (show Go g κ 142 [some (.ref t), some (.ref x), some (.ref s)] [.ref y] [[(t, .inr (27, [.null, va_rf vs, .null, va_rf (rlRoot root s y), .int (nI n), .int (nI md), va_rf es, va_rf nk, .null]))], u1_132] 0 0 from ?_)
                    refine g_astore_n (q := 143) (lv2 := [some (.ref t), some (.ref x), some (.ref y)]) B dJ10_fixAfterDeletion_142 rfl (Nat.le_of_ble_eq_true rfl) (rv_r _) rfl ?_
                    have hwx : 1 + (M - wid lo hi (some x)) ≤ n0 := hw0
                    have w1 := hT.2.2.2.1 b hbm x hfb
                    have w2 := hT.2.2.2.2.2.1 b hbm s hsb
                    have w3 := hT.2.1 s hsm
                    have w4 := hT.2.1 b hbm
                    have w5 := hT.2.1 x hx
                    have w6 := hT.2.2.2.1 s hsm y hy
                    have w7 := hT.2.1 y hym
                    have m1 : x ≠ y := by rintro rfl; omega
                    have m2 : x ≠ s := by rintro rfl; omega
                    exact ct143 (rrL l r s y) (rrR r s y) (rrP r p s y) (fup (fup col y true) s false) _ _ (rlRoot root s y) y u1_132 hu1_132 (hT2_132) (sb.1) (sb.2.1) (ph_LR hT hbm hfb hsb hy hq) (by simp only [wid] at hw0 ⊢; simp only [fup_n m1, fup_n m2]; exact hw0) (sb.2.2.1) (sb.2.2.2)
                · skip
                  refine g_aload_n (q := 94) B dJ10_fixAfterDeletion_93 rfl rfl (rv_r _) ?_
                  refine g_iconst (v := nI 0) (q := 95) B dJ10_fixAfterDeletion_94 rfl (by decide) ?_
                  refine g_callS (q := 98) (is := [1]) (kc2 := 0) (ks2 := 0) B [.ref s, .int (nI 0)] (ct_J10_setColor_r g J (ns := ns) (key := kc) (val := val) (l := l) (r := r) (p := p) (col := col) (a := s) (c := false) hl71_1 (by first | assumption | omega | rfl)) dJ10_fixAfterDeletion_95 rfl q2153 q2154 q91 q2155 rfl rfl moJ10_setColor rfl rfl (by decide) (by decide) (Nat.le_of_ble_eq_true rfl) (Nat.le_of_ble_eq_true rfl) (Nat.le_of_ble_eq_true rfl) (fun _ _ hx => noX_x hx) (fun v95 L1 hp95 => ?_)
                  obtain ⟨u0_95, rfl, rfl, hu0_95⟩ := hp95
                  refine (show Go g κ 98 [some (.ref t), some (.ref x), some (.ref s)] [] [[(t, .inr (27, [.null, va_rf vs, .null, va_rf root, .int (nI n), .int (nI md), va_rf es, va_rf nk, .null]))], u0_95] 0 0 from ?_)
                  refine g_aload_n (q := 99) B dJ10_fixAfterDeletion_98 rfl rfl (rv_r _) ?_
                  refine g_callS (q := 102) (is := [1]) (kc2 := 0) (ks2 := 0) B [.ref x] (ct_J10_parentOf_r g J (ns := ns) (key := kc) (val := val) (l := l) (r := r) (p := p) (col := fup col s false) (a := x) hu0_95 (by first | assumption | omega | rfl)) dJ10_fixAfterDeletion_99 rfl q2141 q2142 q91 q2143 rfl rfl moJ10_parentOf rfl rfl (by decide) (by decide) (Nat.le_of_ble_eq_true rfl) (Nat.le_of_ble_eq_true rfl) (Nat.le_of_ble_eq_true rfl) (fun _ _ hx => noX_x hx) (fun v99 L1 hp99 => ?_)
                  obtain ⟨rfl, rfl⟩ := hp99
                  rw [(show p x = some b from hpx)]
                  refine (show Go g κ 102 [some (.ref t), some (.ref x), some (.ref s)] [.ref b] [[(t, .inr (27, [.null, va_rf vs, .null, va_rf root, .int (nI n), .int (nI md), va_rf es, va_rf nk, .null]))], u0_95] 0 0 from ?_)
                  refine g_astore_n (q := 103) (lv2 := [some (.ref t), some (.ref b), some (.ref s)]) B dJ10_fixAfterDeletion_102 rfl (Nat.le_of_ble_eq_true rfl) (rv_r _) rfl ?_
                  refine g_goto (tgt := 183) B dJ10_fixAfterDeletion_103 (by decide) ?_
                  refine g_goto (tgt := 0) B dJ10_fixAfterDeletion_183 (by decide) ?_
                  refine g_fg 2 rfl ?_
                  exact ih0 _ (fdm_up hT hx hpx hw0) b l r p (fup col s false) lo hi root u0_95 hu0_95 (hT) (hbm) (ph_up hT hx hpx hq) rfl
          refine g_aload_n (q := 28) B dJ10_fixAfterDeletion_27 rfl rfl (rv_r _) ?_
          refine g_callS (q := 31) (is := [1]) (kc2 := 0) (ks2 := 0) B [.ref x] (ct_J10_parentOf_r g J (ns := ns) (key := kc) (val := val) (l := l) (r := r) (p := p) (col := col) (a := x) hl0_1 (by first | assumption | omega | rfl)) dJ10_fixAfterDeletion_28 rfl q2141 q2142 q91 q2143 rfl rfl moJ10_parentOf rfl rfl (by decide) (by decide) (Nat.le_of_ble_eq_true rfl) (Nat.le_of_ble_eq_true rfl) (Nat.le_of_ble_eq_true rfl) (fun _ _ hx => noX_x hx) (fun v28 L1 hp28 => ?_)
          obtain ⟨rfl, rfl⟩ := hp28
          rw [(show p x = some b from hpx)]
          refine (show Go g κ 31 [some (.ref t), some (.ref x), none] [.ref b] [[(t, .inr (27, [.null, va_rf vs, .null, va_rf root, .int (nI n), .int (nI md), va_rf es, va_rf nk, .null]))], l0_1] 0 0 from ?_)
          refine g_callS (q := 34) (is := [1]) (kc2 := 0) (ks2 := 0) B [.ref b] (ct_J10_rightOf_r g J (ns := ns) (key := kc) (val := val) (l := l) (r := r) (p := p) (col := col) (a := b) hl0_1 (by first | assumption | omega | rfl)) dJ10_fixAfterDeletion_31 rfl q2147 q2148 q91 q2149 rfl rfl moJ10_rightOf rfl rfl (by decide) (by decide) (Nat.le_of_ble_eq_true rfl) (Nat.le_of_ble_eq_true rfl) (Nat.le_of_ble_eq_true rfl) (fun _ _ hx => noX_x hx) (fun v31 L1 hp31 => ?_)
          obtain ⟨rfl, rfl⟩ := hp31
          refine (show Go g κ 34 [some (.ref t), some (.ref x), none] [va_rf (r b)] [[(t, .inr (27, [.null, va_rf vs, .null, va_rf root, .int (nI n), .int (nI md), va_rf es, va_rf nk, .null]))], l0_1] 0 0 from ?_)
          refine g_astore_n (q := 35) (lv2 := [some (.ref t), some (.ref x), some (va_rf (r b))]) B dJ10_fixAfterDeletion_34 rfl (Nat.le_of_ble_eq_true rfl) (rv_o _) rfl ?_
          refine g_aload_n (q := 36) B dJ10_fixAfterDeletion_35 rfl rfl (rv_o _) ?_
          refine g_callS (q := 39) (is := [1]) (kc2 := 0) (ks2 := 0) B [va_rf (r b)] (ct_J10_colorOf g J (ns := ns) (key := kc) (val := val) (l := l) (r := r) (p := p) (col := col) (x := r b) hl0_1 (om_r hT hbm)) dJ10_fixAfterDeletion_36 rfl q2150 q2151 q91 q2152 rfl rfl moJ10_colorOf rfl rfl (by decide) (by decide) (Nat.le_of_ble_eq_true rfl) (Nat.le_of_ble_eq_true rfl) (Nat.le_of_ble_eq_true rfl) (fun _ _ hx => noX_x hx) (fun v36 L1 hp36 => ?_)
          obtain ⟨rfl, rfl⟩ := hp36
          refine (show Go g κ 39 [some (.ref t), some (.ref x), some (va_rf (r b))] [.int (nI (if oc col (r b) = true then 1 else 0))] [[(t, .inr (27, [.null, va_rf vs, .null, va_rf root, .int (nI n), .int (nI md), va_rf es, va_rf nk, .null]))], l0_1] 0 0 from ?_)
          refine g_if_ne (tgt := 71) (q := 42) B dJ10_fixAfterDeletion_39 rfl (by decide) (bo_ne) (fun c39 => ?_) (fun c39 => ?_)
          · skip
            exact ct71 l r p col _ _ root l0_1 hl0_1 (hT) (hpx) (hfb) (hq) (hw0)
          · skip
            obtain ⟨s, hsr, hsc⟩ := oc_f c39
            have hsm := tr_rm hT hbm hsr
            rw [hsr]
            refine (show Go g κ 42 [some (.ref t), some (.ref x), some (.ref s)] [] [[(t, .inr (27, [.null, va_rf vs, .null, va_rf root, .int (nI n), .int (nI md), va_rf es, va_rf nk, .null]))], l0_1] 0 0 from ?_)
            have sb := sb_L hT hbm hfb hsr
            refine g_aload_n (q := 43) B dJ10_fixAfterDeletion_42 rfl rfl (rv_r _) ?_
            refine g_iconst (v := nI 1) (q := 44) B dJ10_fixAfterDeletion_43 rfl (by decide) ?_
            refine g_callS (q := 47) (is := [1]) (kc2 := 0) (ks2 := 0) B [.ref s, .int (nI 1)] (ct_J10_setColor_r g J (ns := ns) (key := kc) (val := val) (l := l) (r := r) (p := p) (col := col) (a := s) (c := true) hl0_1 (by first | assumption | omega | rfl)) dJ10_fixAfterDeletion_44 rfl q2153 q2154 q91 q2155 rfl rfl moJ10_setColor rfl rfl (by decide) (by decide) (Nat.le_of_ble_eq_true rfl) (Nat.le_of_ble_eq_true rfl) (Nat.le_of_ble_eq_true rfl) (fun _ _ hx => noX_x hx) (fun v44 L1 hp44 => ?_)
            obtain ⟨u0_44, rfl, rfl, hu0_44⟩ := hp44
            refine (show Go g κ 47 [some (.ref t), some (.ref x), some (.ref s)] [] [[(t, .inr (27, [.null, va_rf vs, .null, va_rf root, .int (nI n), .int (nI md), va_rf es, va_rf nk, .null]))], u0_44] 0 0 from ?_)
            refine g_aload_n (q := 48) B dJ10_fixAfterDeletion_47 rfl rfl (rv_r _) ?_
            refine g_callS (q := 51) (is := [1]) (kc2 := 0) (ks2 := 0) B [.ref x] (ct_J10_parentOf_r g J (ns := ns) (key := kc) (val := val) (l := l) (r := r) (p := p) (col := fup col s true) (a := x) hu0_44 (by first | assumption | omega | rfl)) dJ10_fixAfterDeletion_48 rfl q2141 q2142 q91 q2143 rfl rfl moJ10_parentOf rfl rfl (by decide) (by decide) (Nat.le_of_ble_eq_true rfl) (Nat.le_of_ble_eq_true rfl) (Nat.le_of_ble_eq_true rfl) (fun _ _ hx => noX_x hx) (fun v48 L1 hp48 => ?_)
            obtain ⟨rfl, rfl⟩ := hp48
            rw [(show p x = some b from hpx)]
            refine (show Go g κ 51 [some (.ref t), some (.ref x), some (.ref s)] [.ref b] [[(t, .inr (27, [.null, va_rf vs, .null, va_rf root, .int (nI n), .int (nI md), va_rf es, va_rf nk, .null]))], u0_44] 0 0 from ?_)
            refine g_iconst (v := nI 0) (q := 52) B dJ10_fixAfterDeletion_51 rfl (by decide) ?_
            refine g_callS (q := 55) (is := [1]) (kc2 := 0) (ks2 := 0) B [.ref b, .int (nI 0)] (ct_J10_setColor_r g J (ns := ns) (key := kc) (val := val) (l := l) (r := r) (p := p) (col := fup col s true) (a := b) (c := false) hu0_44 (by first | assumption | omega | rfl)) dJ10_fixAfterDeletion_52 rfl q2153 q2154 q91 q2155 rfl rfl moJ10_setColor rfl rfl (by decide) (by decide) (Nat.le_of_ble_eq_true rfl) (Nat.le_of_ble_eq_true rfl) (Nat.le_of_ble_eq_true rfl) (fun _ _ hx => noX_x hx) (fun v52 L1 hp52 => ?_)
            obtain ⟨u0_52, rfl, rfl, hu0_52⟩ := hp52
            refine (show Go g κ 55 [some (.ref t), some (.ref x), some (.ref s)] [] [[(t, .inr (27, [.null, va_rf vs, .null, va_rf root, .int (nI n), .int (nI md), va_rf es, va_rf nk, .null]))], u0_52] 0 0 from ?_)
            refine g_aload_n (q := 56) B dJ10_fixAfterDeletion_55 rfl rfl (rv_r _) ?_
            refine g_aload_n (q := 57) B dJ10_fixAfterDeletion_56 rfl rfl (rv_r _) ?_
            refine g_callS (q := 60) (is := [1]) (kc2 := 0) (ks2 := 0) B [.ref x] (ct_J10_parentOf_r g J (ns := ns) (key := kc) (val := val) (l := l) (r := r) (p := p) (col := fup (fup col s true) b false) (a := x) hu0_52 (by first | assumption | omega | rfl)) dJ10_fixAfterDeletion_57 rfl q2141 q2142 q91 q2143 rfl rfl moJ10_parentOf rfl rfl (by decide) (by decide) (Nat.le_of_ble_eq_true rfl) (Nat.le_of_ble_eq_true rfl) (Nat.le_of_ble_eq_true rfl) (fun _ _ hx => noX_x hx) (fun v57 L1 hp57 => ?_)
            obtain ⟨rfl, rfl⟩ := hp57
            rw [(show p x = some b from hpx)]
            refine (show Go g κ 60 [some (.ref t), some (.ref x), some (.ref s)] [.ref b, .ref t] [[(t, .inr (27, [.null, va_rf vs, .null, va_rf root, .int (nI n), .int (nI md), va_rf es, va_rf nk, .null]))], u0_52] 0 0 from ?_)
            refine g_callV (q := 63) (is := [0, 0]) (kc2 := 0) (ks2 := 0) B [.ref b] (ct_J10_rotateLeft g J (t := t) (vs := vs) (n := n) (md := md) (es := es) (nk := nk) (ns := ns) (key := key) (val := val) (l := l) (r := r) (p := p) (col := fup (fup col s true) b false) (lo := lo) (hi := hi) (root := root) (M := M) (kc := kc) (a := b) (b := s) hu0_52 (hT) (hbm) (hsr)) dJ10_fixAfterDeletion_60 rfl (rc_at B (ci := 27) rfl (k := 0) rfl) rfl q2156 q2158 qs20 q91 q2159 rfl rfl moJ10_rotateLeft rfl rfl (by decide) (by decide) (Nat.le_of_ble_eq_true rfl) (Nat.le_of_ble_eq_true rfl) (Nat.le_of_ble_eq_true rfl) (fun _ _ hx => noX_x hx) (fun v60 L1 hp60 => ?_)
            obtain ⟨u1_60, rfl, rfl, hu1_60, hT2_60⟩ := hp60
            refine (show Go g κ 63 [some (.ref t), some (.ref x), some (.ref s)] [] [[(t, .inr (27, [.null, va_rf vs, .null, va_rf (rlRoot root b s), .int (nI n), .int (nI md), va_rf es, va_rf nk, .null]))], u1_60] 0 0 from ?_)
            refine g_aload_n (q := 64) B dJ10_fixAfterDeletion_63 rfl rfl (rv_r _) ?_
            refine g_callS (q := 67) (is := [1]) (kc2 := 0) (ks2 := 0) B [.ref x] (ct_J10_parentOf_r g J (ns := ns) (key := kc) (val := val) (l := rlL l b s) (r := rlR l r b s) (p := rlP l p b s) (col := (fup (fup col s true) b false)) (a := x) hu1_60 (by first | assumption | omega | rfl)) dJ10_fixAfterDeletion_64 rfl q2141 q2142 q91 q2143 rfl rfl moJ10_parentOf rfl rfl (by decide) (by decide) (Nat.le_of_ble_eq_true rfl) (Nat.le_of_ble_eq_true rfl) (Nat.le_of_ble_eq_true rfl) (fun _ _ hx => noX_x hx) (fun v64 L1 hp64 => ?_)
            obtain ⟨rfl, rfl⟩ := hp64
            rw [(show (rlP l p b s) x = some b from sb.1)]
            refine (show Go g κ 67 [some (.ref t), some (.ref x), some (.ref s)] [.ref b] [[(t, .inr (27, [.null, va_rf vs, .null, va_rf (rlRoot root b s), .int (nI n), .int (nI md), va_rf es, va_rf nk, .null]))], u1_60] 0 0 from ?_)
            refine g_callS (q := 70) (is := [1]) (kc2 := 0) (ks2 := 0) B [.ref b] (ct_J10_rightOf_r g J (ns := ns) (key := kc) (val := val) (l := rlL l b s) (r := rlR l r b s) (p := rlP l p b s) (col := (fup (fup col s true) b false)) (a := b) hu1_60 (by first | assumption | omega | rfl)) dJ10_fixAfterDeletion_67 rfl q2147 q2148 q91 q2149 rfl rfl moJ10_rightOf rfl rfl (by decide) (by decide) (Nat.le_of_ble_eq_true rfl) (Nat.le_of_ble_eq_true rfl) (Nat.le_of_ble_eq_true rfl) (fun _ _ hx => noX_x hx) (fun v67 L1 hp67 => ?_)
            obtain ⟨rfl, rfl⟩ := hp67
            refine (show Go g κ 70 [some (.ref t), some (.ref x), some (.ref s)] [va_rf ((rlR l r b s) b)] [[(t, .inr (27, [.null, va_rf vs, .null, va_rf (rlRoot root b s), .int (nI n), .int (nI md), va_rf es, va_rf nk, .null]))], u1_60] 0 0 from ?_)
            refine g_astore_n (q := 71) (lv2 := [some (.ref t), some (.ref x), some (va_rf ((rlR l r b s) b))]) B dJ10_fixAfterDeletion_70 rfl (Nat.le_of_ble_eq_true rfl) (rv_o _) rfl ?_
            have sb := sb_L hT hbm hfb hsr
            exact ct71 (rlL l b s) (rlR l r b s) (rlP l p b s) (fup (fup col s true) b false) _ _ (rlRoot root b s) u1_60 hu1_60 (hT2_60) (sb.1) (sb.2.1) (ph_L hT hbm hfb hsr hq) (by rw [sb.2.2]; exact hw0)
  exact lp0 _ x l r p col lo hi root w1 hw1 (hT) (hx) (hq) rfl
