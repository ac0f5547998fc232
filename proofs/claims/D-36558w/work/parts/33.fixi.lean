set_option maxRecDepth 100000
theorem acn {x : Nat} {y : Option Nat} : ¬ some x = y ↔ ¬ y = some x := ⟨fun h e => h e.symm, fun h e => h e.symm⟩
section
variable {ns : List Nat} {key : Nat → Nat} {l r p : Nat → Option Nat} {lo hi : Nat → Nat} {root : Option Nat} {M : Nat} {col : Nat → Bool}
theorem om_l (h : Tr ns key l r p lo hi root M) {a : Nat} (ha : a ∈ ns) : om ns (l a) := by
  cases e : l a with
  | none => trivial
  | some b => exact tr_lm h ha e
theorem om_r (h : Tr ns key l r p lo hi root M) {a : Nat} (ha : a ∈ ns) : om ns (r a) := by
  cases e : r a with
  | none => trivial
  | some b => exact tr_rm h ha e
theorem oc_f {x : Option Nat} (h : ¬ oc col x = true) : ∃ y, x = some y ∧ col y = false := by
  cases x with
  | none => exact absurd rfl h
  | some y => exact ⟨y, rfl, by simpa [oc] using h⟩
def fim (M : Nat) (lo hi : Nat → Nat) (p : Nat → Option Nat) (col : Nat → Bool) (x : Nat) : Nat := match p x with
  | none => 0
  | some b => if col b = true then 0 else 1 + (M - wid lo hi (some x))
theorem fim_le (x : Nat) : fim M lo hi p col x ≤ 1 + (M - wid lo hi (some x)) := by
  unfold fim
  split
  · omega
  · split <;> omega
theorem fim_0 {x b : Nat} (h : p x = some b) (hc : col b = true) : fim M lo hi p col x = 0 := by
  unfold fim; rw [h]; exact if_pos hc
theorem fim_1 {x b : Nat} (h : p x = some b) (hc : ¬ col b = true) : fim M lo hi p col x = 1 + (M - wid lo hi (some x)) := by
  unfold fim; rw [h]; exact if_neg hc
theorem fim_up (h : Tr ns key l r p lo hi root M) {x b c : Nat} {col2 : Nat → Bool} (hx : x ∈ ns) (h1 : p x = some b) (h2 : p b = some c) (hc : ¬ col b = true) : fim M lo hi p col2 c < fim M lo hi p col x := by
  rw [fim_1 h1 hc]
  have q1 := wid_p h hx h1
  have hb := tr_pm h hx h1
  have q2 := wid_p h hb h2
  have q3 := h.2.1 c (tr_pm h hb h2)
  have q4 := fim_le (M := M) (lo := lo) (hi := hi) (p := p) (col := col2) c
  have q5 : wid lo hi (some c) ≤ M := by simp only [wid]; omega
  omega
theorem fim_z (x : Nat) {b y : Nat} {lo2 hi2 : Nat → Nat} {p2 : Nat → Option Nat} {col2 : Nat → Bool} {z : Nat} (h1 : p x = some b) (hc : ¬ col b = true) (h2 : p2 z = some y) (hc2 : col2 y = true) : fim M lo2 hi2 p2 col2 z < fim M lo hi p col x := by
  rw [fim_1 h1 hc, fim_0 h2 hc2]; omega
/-- x, its parent b, b's parent c: all apart -/
theorem tr_3 (h : Tr ns key l r p lo hi root M) {x b : Nat} (hx : x ∈ ns) (h1 : p x = some b) : x ≠ b ∧ (∀ c, p b = some c → x ≠ c ∧ b ≠ c) := by
  have q1 := wid_p h hx h1
  refine ⟨by rintro rfl; omega, fun c h2 => ?_⟩
  have q2 := wid_p h (tr_pm h hx h1) h2
  exact ⟨by rintro rfl; omega, by rintro rfl; omega⟩
theorem tr_lr (h : Tr ns key l r p lo hi root M) {x b : Nat} (hb : b ∈ ns) (h1 : l b = some x) (h2 : r b = some x) : False := by
  have q1 := h.2.2.2.1 b hb x h1
  have q2 := h.2.2.2.2.2.1 b hb x h2
  have q3 := h.2.1 b hb
  omega
end
theorem moJ10_parentOf : Mo yJ10_parentOf 1 := by
  refine ⟨by decide, by decide, by decide +kernel⟩
theorem moJ10_leftOf : Mo yJ10_leftOf 1 := by
  refine ⟨by decide, by decide, by decide +kernel⟩
theorem moJ10_colorOf : Mo yJ10_colorOf 1 := by
  refine ⟨by decide, by decide, by decide +kernel⟩
theorem moJ10_setColor : Mo yJ10_setColor 2 := by
  refine ⟨by decide, by decide, by decide +kernel⟩
theorem moJ10_rotateLeft : Mo yJ10_rotateLeft 1 := by
  refine ⟨by decide, by decide, by decide +kernel⟩
theorem moJ10_rotateRight : Mo yJ10_rotateRight 1 := by
  refine ⟨by decide, by decide, by decide +kernel⟩
theorem moJ10_rightOf : Mo yJ10_rightOf 1 := by
  refine ⟨by decide, by decide, by decide +kernel⟩
theorem ct_J10_fixAfterInsertion (g : Gv) (J : Jd g) {t : Nat} {vs : Option Nat} {n : Nat} {md : Nat} {es : Option Nat} {nk : Option Nat} {ns : List Nat} {key : Nat → Nat} {val : Nat → Nat} {l : Nat → Option Nat} {r : Nat → Option Nat} {p : Nat → Option Nat} {col : Nat → Bool} {lo : Nat → Nat} {hi : Nat → Nat} {root : Option Nat} {M : Nat} {x : Nat} {w1 : va_W} (hw1 : EntG g ns key val l r p col w1) (hT : Tr ns key l r p lo hi root M) (hx : x ∈ ns) : Ct g yJ10_fixAfterInsertion (ws_ yJ10_fixAfterInsertion cJ10_fixAfterInsertion 3 none) 1 0 0 [.ref t, .ref x] [[(t, .inr (27, [.null, va_rf vs, .null, va_rf root, .int (nI n), .int (nI md), va_rf es, va_rf nk, .null]))], w1] (fun (rv_ : Option Value) (rL_ : List va_W) => ∃ (l2 : Nat → Option Nat) (r2 : Nat → Option Nat) (p2 : Nat → Option Nat) (col2 : Nat → Bool) (lo2 : Nat → Nat) (hi2 : Nat → Nat) (root2 : Option Nat) (u1 : va_W), rv_ = none ∧ rL_ = [[(t, .inr (27, [.null, va_rf vs, .null, va_rf root2, .int (nI n), .int (nI md), va_rf es, va_rf nk, .null]))], u1] ∧ EntG g ns key val l2 r2 p2 col2 u1 ∧ (Tr ns key l2 r2 p2 lo2 hi2 root2 M)) noX := by
  refine Ct.of "java/util/TreeMap" [some (.ref t), some (.ref x), none] rfl (by decide) rfl (Nat.le_of_ble_eq_true rfl) rfl ?_
  intro κ B E tb
  refine g_aload_n (q := 1) B dJ10_fixAfterInsertion_0 rfl rfl (rv_r _) ?_
  refine g_iconst (v := nI 0) (q := 2) B dJ10_fixAfterInsertion_1 rfl (by decide) ?_
  refine g_putE5 (q := 5) (k := 1) (x := false) B hw1 hx dJ10_fixAfterInsertion_2 rfl rfl q2119 (fun we_1_2 hwe_1_2 => ?_)
  refine (show Go g κ 5 [some (.ref t), some (.ref x), none] [] [[(t, .inr (27, [.null, va_rf vs, .null, va_rf root, .int (nI n), .int (nI md), va_rf es, va_rf nk, .null]))], we_1_2] 0 0 from ?_)
  have lp5 : ∀ (n5 : Nat) (x : Nat) (l : Nat → Option Nat) (r : Nat → Option Nat) (p : Nat → Option Nat) (col : Nat → Bool) (lo : Nat → Nat) (hi : Nat → Nat) (root : Option Nat) (l5_1 : va_W), EntG g ns key val l r p col l5_1 → (Tr ns key l r p lo hi root M) → (x ∈ ns) → fim M lo hi p col x = n5 → Go g κ 5 [some (.ref t), some (.ref x), none] [] [[(t, .inr (27, [.null, va_rf vs, .null, va_rf root, .int (nI n), .int (nI md), va_rf es, va_rf nk, .null]))], l5_1] 0 0 := by
    intro n5
    induction n5 using Nat.strongRecOn with
    | _ n5 ih5 =>
    intro x l r p col lo hi root l5_1 hl5_1 hT hx hmu5
    refine g_aload_n (q := 6) B dJ10_fixAfterInsertion_5 rfl rfl (rv_r _) ?_
    refine g_ifnull_r (q := 9) B dJ10_fixAfterInsertion_6 rfl ?_
    refine g_aload_n (q := 10) B dJ10_fixAfterInsertion_9 rfl rfl (rv_r _) ?_
    refine g_aload_n (q := 11) B dJ10_fixAfterInsertion_10 rfl rfl (rv_r _) ?_
    refine g_get (q := 14) B (ci := 27) (k := 0) (j := 3) in_J10 rfl dJ10_fixAfterInsertion_11 rfl rfl (Nat.le_of_ble_eq_true rfl) q1871 rfl rfl ?_
    refine g_acmp_eq (rx := some x) (ry := root) (tgt := 258) (q := 17) B dJ10_fixAfterInsertion_14 rfl (by decide) rfl rfl (Iff.rfl) (fun c14 => ?_) (fun c14 => ?_)
    · skip
      obtain ⟨tt, htt⟩ : ∃ tt, root = some tt := by
        cases e : root with
        | none => exact absurd hx (by rw [hT.2.2.2.2.2.2.2.2.1 e]; simp)
        | some z => exact ⟨z, rfl⟩
      have htm := tr_tm hT htt
      subst htt
      refine (show Go g κ 258 [some (.ref t), some (.ref x), none] [] [[(t, .inr (27, [.null, va_rf vs, .null, .ref tt, .int (nI n), .int (nI md), va_rf es, va_rf nk, .null]))], l5_1] 0 0 from ?_)
      refine g_aload_n (q := 259) B dJ10_fixAfterInsertion_258 rfl rfl (rv_r _) ?_
      refine g_get (q := 262) B (ci := 27) (k := 0) (j := 3) in_J10 rfl dJ10_fixAfterInsertion_259 rfl rfl (Nat.le_of_ble_eq_true rfl) q1871 rfl rfl ?_
      refine g_iconst (v := nI 1) (q := 263) B dJ10_fixAfterInsertion_262 rfl (by decide) ?_
      refine g_putE5 (q := 266) (k := 1) (x := true) B hl5_1 htm dJ10_fixAfterInsertion_263 rfl rfl q2119 (fun we_2_263 hwe_2_263 => ?_)
      refine (show Go g κ 266 [some (.ref t), some (.ref x), none] [] [[(t, .inr (27, [.null, va_rf vs, .null, .ref tt, .int (nI n), .int (nI md), va_rf es, va_rf nk, .null]))], we_2_263] 0 0 from ?_)
      exact g_vret B E dJ10_fixAfterInsertion_266 (⟨l, r, p, _, lo, hi, _, _, rfl, rfl, hwe_2_263, hT⟩)
    · skip
      obtain ⟨b, hpx⟩ : ∃ b, p x = some b := by
        cases e : p x with
        | none => exact absurd (hT.2.2.2.2.2.2.1 x hx e).symm c14
        | some b => exact ⟨b, rfl⟩
      have hbm := tr_pm hT hx hpx
      obtain ⟨hxb, hxc⟩ := tr_3 hT hx hpx
      refine g_aload_n (q := 18) B dJ10_fixAfterInsertion_17 rfl rfl (rv_r _) ?_
      refine g_getM (v := .ref b) (q := 21) B (ci := 28) (k := 1) (j := 4) in_J37 rfl dJ10_fixAfterInsertion_18 rfl rfl (EntG.mem hl5_1 hx) (Nat.le_of_ble_eq_true rfl) q2117 rfl (congrArg some (congrArg va_rf hpx)) ?_
      refine g_getM (v := .int (nI (if col b = true then 1 else 0))) (q := 24) B (ci := 28) (k := 1) (j := 5) in_J37 rfl dJ10_fixAfterInsertion_21 rfl rfl (EntG.mem hl5_1 hbm) (Nat.le_of_ble_eq_true rfl) q2119 rfl rfl ?_
      refine g_if_ne (tgt := 258) (q := 27) B dJ10_fixAfterInsertion_24 rfl (by decide) (bo_ne) (fun c24 => ?_) (fun c24 => ?_)
      · skip
        obtain ⟨tt, htt⟩ : ∃ tt, root = some tt := by
          cases e : root with
          | none => exact absurd hx (by rw [hT.2.2.2.2.2.2.2.2.1 e]; simp)
          | some z => exact ⟨z, rfl⟩
        have htm := tr_tm hT htt
        subst htt
        refine (show Go g κ 258 [some (.ref t), some (.ref x), none] [] [[(t, .inr (27, [.null, va_rf vs, .null, .ref tt, .int (nI n), .int (nI md), va_rf es, va_rf nk, .null]))], l5_1] 0 0 from ?_)
        refine g_aload_n (q := 259) B dJ10_fixAfterInsertion_258 rfl rfl (rv_r _) ?_
        refine g_get (q := 262) B (ci := 27) (k := 0) (j := 3) in_J10 rfl dJ10_fixAfterInsertion_259 rfl rfl (Nat.le_of_ble_eq_true rfl) q1871 rfl rfl ?_
        refine g_iconst (v := nI 1) (q := 263) B dJ10_fixAfterInsertion_262 rfl (by decide) ?_
        refine g_putE5 (q := 266) (k := 1) (x := true) B hl5_1 htm dJ10_fixAfterInsertion_263 rfl rfl q2119 (fun we_3_263 hwe_3_263 => ?_)
        refine (show Go g κ 266 [some (.ref t), some (.ref x), none] [] [[(t, .inr (27, [.null, va_rf vs, .null, .ref tt, .int (nI n), .int (nI md), va_rf es, va_rf nk, .null]))], we_3_263] 0 0 from ?_)
        exact g_vret B E dJ10_fixAfterInsertion_266 (⟨l, r, p, _, lo, hi, _, _, rfl, rfl, hwe_3_263, hT⟩)
      · skip
        rcases hgp : p b with _ | c
        · skip
          refine g_aload_n (q := 28) B dJ10_fixAfterInsertion_27 rfl rfl (rv_r _) ?_
          refine g_callS (q := 31) (is := [1]) (kc2 := 0) (ks2 := 0) B [.ref x] (ct_J10_parentOf_r g J (ns := ns) (key := key) (val := val) (l := l) (r := r) (p := p) (col := col) (a := x) hl5_1 (by first | assumption | omega | rfl)) dJ10_fixAfterInsertion_28 rfl q2141 q2142 q91 q2143 rfl rfl moJ10_parentOf rfl rfl (by decide) (by decide) (Nat.le_of_ble_eq_true rfl) (Nat.le_of_ble_eq_true rfl) (Nat.le_of_ble_eq_true rfl) (fun _ _ hx => noX_x hx) (fun v28 L1 hp28 => ?_)
          obtain ⟨rfl, rfl⟩ := hp28
          rw [(show p x = some b from hpx)]
          refine (show Go g κ 31 [some (.ref t), some (.ref x), none] [.ref b] [[(t, .inr (27, [.null, va_rf vs, .null, va_rf root, .int (nI n), .int (nI md), va_rf es, va_rf nk, .null]))], l5_1] 0 0 from ?_)
          refine g_aload_n (q := 32) B dJ10_fixAfterInsertion_31 rfl rfl (rv_r _) ?_
          refine g_callS (q := 35) (is := [1]) (kc2 := 0) (ks2 := 0) B [.ref x] (ct_J10_parentOf_r g J (ns := ns) (key := key) (val := val) (l := l) (r := r) (p := p) (col := col) (a := x) hl5_1 (by first | assumption | omega | rfl)) dJ10_fixAfterInsertion_32 rfl q2141 q2142 q91 q2143 rfl rfl moJ10_parentOf rfl rfl (by decide) (by decide) (Nat.le_of_ble_eq_true rfl) (Nat.le_of_ble_eq_true rfl) (Nat.le_of_ble_eq_true rfl) (fun _ _ hx => noX_x hx) (fun v32 L1 hp32 => ?_)
          obtain ⟨rfl, rfl⟩ := hp32
          rw [(show p x = some b from hpx)]
          refine (show Go g κ 35 [some (.ref t), some (.ref x), none] [.ref b, .ref b] [[(t, .inr (27, [.null, va_rf vs, .null, va_rf root, .int (nI n), .int (nI md), va_rf es, va_rf nk, .null]))], l5_1] 0 0 from ?_)
          refine g_callS (q := 38) (is := [1]) (kc2 := 0) (ks2 := 0) B [.ref b] (ct_J10_parentOf_r g J (ns := ns) (key := key) (val := val) (l := l) (r := r) (p := p) (col := col) (a := b) hl5_1 (by first | assumption | omega | rfl)) dJ10_fixAfterInsertion_35 rfl q2141 q2142 q91 q2143 rfl rfl moJ10_parentOf rfl rfl (by decide) (by decide) (Nat.le_of_ble_eq_true rfl) (Nat.le_of_ble_eq_true rfl) (Nat.le_of_ble_eq_true rfl) (fun _ _ hx => noX_x hx) (fun v35 L1 hp35 => ?_)
          obtain ⟨rfl, rfl⟩ := hp35
          rw [(show p b = none from hgp)]
          refine (show Go g κ 38 [some (.ref t), some (.ref x), none] [.null, .ref b] [[(t, .inr (27, [.null, va_rf vs, .null, va_rf root, .int (nI n), .int (nI md), va_rf es, va_rf nk, .null]))], l5_1] 0 0 from ?_)
          refine g_callS (q := 41) (is := []) (kc2 := 0) (ks2 := 0) B [.null] (ct_J10_leftOf_n g J   ) dJ10_fixAfterInsertion_38 rfl q2144 q2145 q91 q2146 rfl rfl moJ10_leftOf rfl rfl (by decide) (by decide) (Nat.le_of_ble_eq_true rfl) (Nat.le_of_ble_eq_true rfl) (Nat.le_of_ble_eq_true rfl) (fun _ _ hx => noX_x hx) (fun v38 L1 hp38 => ?_)
          obtain ⟨rfl, rfl⟩ := hp38
          refine (show Go g κ 41 [some (.ref t), some (.ref x), none] [.null, .ref b] [[(t, .inr (27, [.null, va_rf vs, .null, va_rf root, .int (nI n), .int (nI md), va_rf es, va_rf nk, .null]))], l5_1] 0 0 from ?_)
          refine g_acmp_ne (rx := some b) (ry := none) (tgt := 151) (q := 44) B dJ10_fixAfterInsertion_41 rfl (by decide) rfl rfl (iff_true_intro (by simp)) (fun _ => ?_) (fun z => absurd trivial z)
          refine g_aload_n (q := 152) B dJ10_fixAfterInsertion_151 rfl rfl (rv_r _) ?_
          refine g_callS (q := 155) (is := [1]) (kc2 := 0) (ks2 := 0) B [.ref x] (ct_J10_parentOf_r g J (ns := ns) (key := key) (val := val) (l := l) (r := r) (p := p) (col := col) (a := x) hl5_1 (by first | assumption | omega | rfl)) dJ10_fixAfterInsertion_152 rfl q2141 q2142 q91 q2143 rfl rfl moJ10_parentOf rfl rfl (by decide) (by decide) (Nat.le_of_ble_eq_true rfl) (Nat.le_of_ble_eq_true rfl) (Nat.le_of_ble_eq_true rfl) (fun _ _ hx => noX_x hx) (fun v152 L1 hp152 => ?_)
          obtain ⟨rfl, rfl⟩ := hp152
          rw [(show p x = some b from hpx)]
          refine (show Go g κ 155 [some (.ref t), some (.ref x), none] [.ref b] [[(t, .inr (27, [.null, va_rf vs, .null, va_rf root, .int (nI n), .int (nI md), va_rf es, va_rf nk, .null]))], l5_1] 0 0 from ?_)
          refine g_callS (q := 158) (is := [1]) (kc2 := 0) (ks2 := 0) B [.ref b] (ct_J10_parentOf_r g J (ns := ns) (key := key) (val := val) (l := l) (r := r) (p := p) (col := col) (a := b) hl5_1 (by first | assumption | omega | rfl)) dJ10_fixAfterInsertion_155 rfl q2141 q2142 q91 q2143 rfl rfl moJ10_parentOf rfl rfl (by decide) (by decide) (Nat.le_of_ble_eq_true rfl) (Nat.le_of_ble_eq_true rfl) (Nat.le_of_ble_eq_true rfl) (fun _ _ hx => noX_x hx) (fun v155 L1 hp155 => ?_)
          obtain ⟨rfl, rfl⟩ := hp155
          rw [(show p b = none from hgp)]
          refine (show Go g κ 158 [some (.ref t), some (.ref x), none] [.null] [[(t, .inr (27, [.null, va_rf vs, .null, va_rf root, .int (nI n), .int (nI md), va_rf es, va_rf nk, .null]))], l5_1] 0 0 from ?_)
          refine g_callS (q := 161) (is := []) (kc2 := 0) (ks2 := 0) B [.null] (ct_J10_leftOf_n g J   ) dJ10_fixAfterInsertion_158 rfl q2144 q2145 q91 q2146 rfl rfl moJ10_leftOf rfl rfl (by decide) (by decide) (Nat.le_of_ble_eq_true rfl) (Nat.le_of_ble_eq_true rfl) (Nat.le_of_ble_eq_true rfl) (fun _ _ hx => noX_x hx) (fun v158 L1 hp158 => ?_)
          obtain ⟨rfl, rfl⟩ := hp158
          refine (show Go g κ 161 [some (.ref t), some (.ref x), none] [.null] [[(t, .inr (27, [.null, va_rf vs, .null, va_rf root, .int (nI n), .int (nI md), va_rf es, va_rf nk, .null]))], l5_1] 0 0 from ?_)
          refine g_astore_n (q := 162) (lv2 := [some (.ref t), some (.ref x), some (.null)]) B dJ10_fixAfterInsertion_161 rfl (Nat.le_of_ble_eq_true rfl) rv_n rfl ?_
          refine g_aload_n (q := 163) B dJ10_fixAfterInsertion_162 rfl rfl rv_n ?_
          refine g_callS (q := 166) (is := []) (kc2 := 0) (ks2 := 0) B [.null] (ct_J10_colorOf_n g J   ) dJ10_fixAfterInsertion_163 rfl q2150 q2151 q91 q2152 rfl rfl moJ10_colorOf rfl rfl (by decide) (by decide) (Nat.le_of_ble_eq_true rfl) (Nat.le_of_ble_eq_true rfl) (Nat.le_of_ble_eq_true rfl) (fun _ _ hx => noX_x hx) (fun v163 L1 hp163 => ?_)
          obtain ⟨rfl, rfl⟩ := hp163
          refine (show Go g κ 166 [some (.ref t), some (.ref x), some (.null)] [.int (nI 1)] [[(t, .inr (27, [.null, va_rf vs, .null, va_rf root, .int (nI n), .int (nI md), va_rf es, va_rf nk, .null]))], l5_1] 0 0 from ?_)
          refine g_if_ne (tgt := 204) (q := 169) B dJ10_fixAfterInsertion_166 rfl (by decide) (iff_true_intro (by decide)) (fun _ => ?_) (fun z => absurd trivial z)
          refine g_aload_n (q := 205) B dJ10_fixAfterInsertion_204 rfl rfl (rv_r _) ?_
          refine g_aload_n (q := 206) B dJ10_fixAfterInsertion_205 rfl rfl (rv_r _) ?_
          refine g_callS (q := 209) (is := [1]) (kc2 := 0) (ks2 := 0) B [.ref x] (ct_J10_parentOf_r g J (ns := ns) (key := key) (val := val) (l := l) (r := r) (p := p) (col := col) (a := x) hl5_1 (by first | assumption | omega | rfl)) dJ10_fixAfterInsertion_206 rfl q2141 q2142 q91 q2143 rfl rfl moJ10_parentOf rfl rfl (by decide) (by decide) (Nat.le_of_ble_eq_true rfl) (Nat.le_of_ble_eq_true rfl) (Nat.le_of_ble_eq_true rfl) (fun _ _ hx => noX_x hx) (fun v206 L1 hp206 => ?_)
          obtain ⟨rfl, rfl⟩ := hp206
          rw [(show p x = some b from hpx)]
          refine (show Go g κ 209 [some (.ref t), some (.ref x), some (.null)] [.ref b, .ref x] [[(t, .inr (27, [.null, va_rf vs, .null, va_rf root, .int (nI n), .int (nI md), va_rf es, va_rf nk, .null]))], l5_1] 0 0 from ?_)
          refine g_callS (q := 212) (is := [1]) (kc2 := 0) (ks2 := 0) B [.ref b] (ct_J10_leftOf_r g J (ns := ns) (key := key) (val := val) (l := l) (r := r) (p := p) (col := col) (a := b) hl5_1 (by first | assumption | omega | rfl)) dJ10_fixAfterInsertion_209 rfl q2144 q2145 q91 q2146 rfl rfl moJ10_leftOf rfl rfl (by decide) (by decide) (Nat.le_of_ble_eq_true rfl) (Nat.le_of_ble_eq_true rfl) (Nat.le_of_ble_eq_true rfl) (fun _ _ hx => noX_x hx) (fun v209 L1 hp209 => ?_)
          obtain ⟨rfl, rfl⟩ := hp209
          refine (show Go g κ 212 [some (.ref t), some (.ref x), some (.null)] [va_rf (l b), .ref x] [[(t, .inr (27, [.null, va_rf vs, .null, va_rf root, .int (nI n), .int (nI md), va_rf es, va_rf nk, .null]))], l5_1] 0 0 from ?_)
          refine g_acmp_ne (rx := some x) (ry := l b) (tgt := 225) (q := 215) B dJ10_fixAfterInsertion_212 rfl (by decide) rfl rfl (acn) (fun c212 => ?_) (fun c212 => ?_)
          · skip
            have hob : r b = some x := (hT.2.2.2.2.2.2.2.1 x hx b hpx).2.resolve_left c212
            refine g_aload_n (q := 226) B dJ10_fixAfterInsertion_225 rfl rfl (rv_r _) ?_
            refine g_callS (q := 229) (is := [1]) (kc2 := 0) (ks2 := 0) B [.ref x] (ct_J10_parentOf_r g J (ns := ns) (key := key) (val := val) (l := l) (r := r) (p := p) (col := col) (a := x) hl5_1 (by first | assumption | omega | rfl)) dJ10_fixAfterInsertion_226 rfl q2141 q2142 q91 q2143 rfl rfl moJ10_parentOf rfl rfl (by decide) (by decide) (Nat.le_of_ble_eq_true rfl) (Nat.le_of_ble_eq_true rfl) (Nat.le_of_ble_eq_true rfl) (fun _ _ hx => noX_x hx) (fun v226 L1 hp226 => ?_)
            obtain ⟨rfl, rfl⟩ := hp226
            rw [(show p x = some b from hpx)]
            refine (show Go g κ 229 [some (.ref t), some (.ref x), some (.null)] [.ref b] [[(t, .inr (27, [.null, va_rf vs, .null, va_rf root, .int (nI n), .int (nI md), va_rf es, va_rf nk, .null]))], l5_1] 0 0 from ?_)
            refine g_iconst (v := nI 1) (q := 230) B dJ10_fixAfterInsertion_229 rfl (by decide) ?_
            refine g_callS (q := 233) (is := [1]) (kc2 := 0) (ks2 := 0) B [.ref b, .int (nI 1)] (ct_J10_setColor_r g J (ns := ns) (key := key) (val := val) (l := l) (r := r) (p := p) (col := col) (a := b) (c := true) hl5_1 (by first | assumption | omega | rfl)) dJ10_fixAfterInsertion_230 rfl q2153 q2154 q91 q2155 rfl rfl moJ10_setColor rfl rfl (by decide) (by decide) (Nat.le_of_ble_eq_true rfl) (Nat.le_of_ble_eq_true rfl) (Nat.le_of_ble_eq_true rfl) (fun _ _ hx => noX_x hx) (fun v230 L1 hp230 => ?_)
            obtain ⟨u0_230, rfl, rfl, hu0_230⟩ := hp230
            refine (show Go g κ 233 [some (.ref t), some (.ref x), some (.null)] [] [[(t, .inr (27, [.null, va_rf vs, .null, va_rf root, .int (nI n), .int (nI md), va_rf es, va_rf nk, .null]))], u0_230] 0 0 from ?_)
            refine g_aload_n (q := 234) B dJ10_fixAfterInsertion_233 rfl rfl (rv_r _) ?_
            refine g_callS (q := 237) (is := [1]) (kc2 := 0) (ks2 := 0) B [.ref x] (ct_J10_parentOf_r g J (ns := ns) (key := key) (val := val) (l := l) (r := r) (p := p) (col := fup col b true) (a := x) hu0_230 (by first | assumption | omega | rfl)) dJ10_fixAfterInsertion_234 rfl q2141 q2142 q91 q2143 rfl rfl moJ10_parentOf rfl rfl (by decide) (by decide) (Nat.le_of_ble_eq_true rfl) (Nat.le_of_ble_eq_true rfl) (Nat.le_of_ble_eq_true rfl) (fun _ _ hx => noX_x hx) (fun v234 L1 hp234 => ?_)
            obtain ⟨rfl, rfl⟩ := hp234
            rw [(show p x = some b from hpx)]
            refine (show Go g κ 237 [some (.ref t), some (.ref x), some (.null)] [.ref b] [[(t, .inr (27, [.null, va_rf vs, .null, va_rf root, .int (nI n), .int (nI md), va_rf es, va_rf nk, .null]))], u0_230] 0 0 from ?_)
            refine g_callS (q := 240) (is := [1]) (kc2 := 0) (ks2 := 0) B [.ref b] (ct_J10_parentOf_r g J (ns := ns) (key := key) (val := val) (l := l) (r := r) (p := p) (col := fup col b true) (a := b) hu0_230 (by first | assumption | omega | rfl)) dJ10_fixAfterInsertion_237 rfl q2141 q2142 q91 q2143 rfl rfl moJ10_parentOf rfl rfl (by decide) (by decide) (Nat.le_of_ble_eq_true rfl) (Nat.le_of_ble_eq_true rfl) (Nat.le_of_ble_eq_true rfl) (fun _ _ hx => noX_x hx) (fun v237 L1 hp237 => ?_)
            obtain ⟨rfl, rfl⟩ := hp237
            rw [(show p b = none from hgp)]
            refine (show Go g κ 240 [some (.ref t), some (.ref x), some (.null)] [.null] [[(t, .inr (27, [.null, va_rf vs, .null, va_rf root, .int (nI n), .int (nI md), va_rf es, va_rf nk, .null]))], u0_230] 0 0 from ?_)
            refine g_iconst (v := nI 0) (q := 241) B dJ10_fixAfterInsertion_240 rfl (by decide) ?_
            refine g_callS (q := 244) (is := []) (kc2 := 0) (ks2 := 0) B [.null, .int (nI 0)] (ct_J10_setColor_n g J (c := false)  ) dJ10_fixAfterInsertion_241 rfl q2153 q2154 q91 q2155 rfl rfl moJ10_setColor rfl rfl (by decide) (by decide) (Nat.le_of_ble_eq_true rfl) (Nat.le_of_ble_eq_true rfl) (Nat.le_of_ble_eq_true rfl) (fun _ _ hx => noX_x hx) (fun v241 L1 hp241 => ?_)
            obtain ⟨rfl, rfl⟩ := hp241
            refine (show Go g κ 244 [some (.ref t), some (.ref x), some (.null)] [] [[(t, .inr (27, [.null, va_rf vs, .null, va_rf root, .int (nI n), .int (nI md), va_rf es, va_rf nk, .null]))], u0_230] 0 0 from ?_)
            refine g_aload_n (q := 245) B dJ10_fixAfterInsertion_244 rfl rfl (rv_r _) ?_
            refine g_aload_n (q := 246) B dJ10_fixAfterInsertion_245 rfl rfl (rv_r _) ?_
            refine g_callS (q := 249) (is := [1]) (kc2 := 0) (ks2 := 0) B [.ref x] (ct_J10_parentOf_r g J (ns := ns) (key := key) (val := val) (l := l) (r := r) (p := p) (col := fup col b true) (a := x) hu0_230 (by first | assumption | omega | rfl)) dJ10_fixAfterInsertion_246 rfl q2141 q2142 q91 q2143 rfl rfl moJ10_parentOf rfl rfl (by decide) (by decide) (Nat.le_of_ble_eq_true rfl) (Nat.le_of_ble_eq_true rfl) (Nat.le_of_ble_eq_true rfl) (fun _ _ hx => noX_x hx) (fun v246 L1 hp246 => ?_)
            obtain ⟨rfl, rfl⟩ := hp246
            rw [(show p x = some b from hpx)]
            refine (show Go g κ 249 [some (.ref t), some (.ref x), some (.null)] [.ref b, .ref t] [[(t, .inr (27, [.null, va_rf vs, .null, va_rf root, .int (nI n), .int (nI md), va_rf es, va_rf nk, .null]))], u0_230] 0 0 from ?_)
            refine g_callS (q := 252) (is := [1]) (kc2 := 0) (ks2 := 0) B [.ref b] (ct_J10_parentOf_r g J (ns := ns) (key := key) (val := val) (l := l) (r := r) (p := p) (col := fup col b true) (a := b) hu0_230 (by first | assumption | omega | rfl)) dJ10_fixAfterInsertion_249 rfl q2141 q2142 q91 q2143 rfl rfl moJ10_parentOf rfl rfl (by decide) (by decide) (Nat.le_of_ble_eq_true rfl) (Nat.le_of_ble_eq_true rfl) (Nat.le_of_ble_eq_true rfl) (fun _ _ hx => noX_x hx) (fun v249 L1 hp249 => ?_)
            obtain ⟨rfl, rfl⟩ := hp249
            rw [(show p b = none from hgp)]
            refine (show Go g κ 252 [some (.ref t), some (.ref x), some (.null)] [.null, .ref t] [[(t, .inr (27, [.null, va_rf vs, .null, va_rf root, .int (nI n), .int (nI md), va_rf es, va_rf nk, .null]))], u0_230] 0 0 from ?_)
            refine g_callV (q := 255) (is := []) (kc2 := 0) (ks2 := 0) B [.null] (ct_J10_rotateLeft_n g J (t := t)  ) dJ10_fixAfterInsertion_252 rfl (rc_at B (ci := 27) rfl (k := 0) rfl) rfl q2156 q2158 qs20 q91 q2159 rfl rfl moJ10_rotateLeft rfl rfl (by decide) (by decide) (Nat.le_of_ble_eq_true rfl) (Nat.le_of_ble_eq_true rfl) (Nat.le_of_ble_eq_true rfl) (fun _ _ hx => noX_x hx) (fun v252 L1 hp252 => ?_)
            obtain ⟨rfl, rfl⟩ := hp252
            refine (show Go g κ 255 [some (.ref t), some (.ref x), some (.null)] [] [[(t, .inr (27, [.null, va_rf vs, .null, va_rf root, .int (nI n), .int (nI md), va_rf es, va_rf nk, .null]))], u0_230] 0 0 from ?_)
            refine g_goto (tgt := 5) B dJ10_fixAfterInsertion_255 (by decide) ?_
            refine g_fg 2 rfl ?_
            exact ih5 _ (by rw [← hmu5]; exact fim_z _ hpx c24 hpx (fup_s _ _ _)) x l r p (fup col b true) lo hi root u0_230 hu0_230 (hT) (hx) rfl
          · skip
            have hfb : l b = some x := Classical.not_not.mp c212
            refine g_aload_n (q := 216) B dJ10_fixAfterInsertion_215 rfl rfl (rv_r _) ?_
            refine g_callS (q := 219) (is := [1]) (kc2 := 0) (ks2 := 0) B [.ref x] (ct_J10_parentOf_r g J (ns := ns) (key := key) (val := val) (l := l) (r := r) (p := p) (col := col) (a := x) hl5_1 (by first | assumption | omega | rfl)) dJ10_fixAfterInsertion_216 rfl q2141 q2142 q91 q2143 rfl rfl moJ10_parentOf rfl rfl (by decide) (by decide) (Nat.le_of_ble_eq_true rfl) (Nat.le_of_ble_eq_true rfl) (Nat.le_of_ble_eq_true rfl) (fun _ _ hx => noX_x hx) (fun v216 L1 hp216 => ?_)
            obtain ⟨rfl, rfl⟩ := hp216
            rw [(show p x = some b from hpx)]
            refine (show Go g κ 219 [some (.ref t), some (.ref x), some (.null)] [.ref b] [[(t, .inr (27, [.null, va_rf vs, .null, va_rf root, .int (nI n), .int (nI md), va_rf es, va_rf nk, .null]))], l5_1] 0 0 from ?_)
            refine g_astore_n (q := 220) (lv2 := [some (.ref t), some (.ref b), some (.null)]) B dJ10_fixAfterInsertion_219 rfl (Nat.le_of_ble_eq_true rfl) (rv_r _) rfl ?_
            refine g_aload_n (q := 221) B dJ10_fixAfterInsertion_220 rfl rfl (rv_r _) ?_
            refine g_aload_n (q := 222) B dJ10_fixAfterInsertion_221 rfl rfl (rv_r _) ?_
            refine g_callV (q := 225) (is := [0, 0]) (kc2 := 0) (ks2 := 0) B [.ref b] (ct_J10_rotateRight g J (t := t) (vs := vs) (n := n) (md := md) (es := es) (nk := nk) (ns := ns) (key := key) (val := val) (l := l) (r := r) (p := p) (col := col) (lo := _) (hi := _) (root := root) (M := M) (kc := key) (a := b) (b := x) hl5_1 (hT) (hbm) (hfb)) dJ10_fixAfterInsertion_222 rfl (rc_at B (ci := 27) rfl (k := 0) rfl) rfl q2160 q2162 qs21 q91 q2163 rfl rfl moJ10_rotateRight rfl rfl (by decide) (by decide) (Nat.le_of_ble_eq_true rfl) (Nat.le_of_ble_eq_true rfl) (Nat.le_of_ble_eq_true rfl) (fun _ _ hx => noX_x hx) (fun v222 L1 hp222 => ?_)
            obtain ⟨u1_222, rfl, rfl, hu1_222, hT2_222⟩ := hp222
            refine (show Go g κ 225 [some (.ref t), some (.ref b), some (.null)] [] [[(t, .inr (27, [.null, va_rf vs, .null, va_rf (rlRoot root b x), .int (nI n), .int (nI md), va_rf es, va_rf nk, .null]))], u1_222] 0 0 from ?_)
            have e1 : (rrP r p b x) b = some x := by simp [rrP]
            have e2 : (rrP r p b x) x = p b := by simp [rrP, hxb]
            refine g_aload_n (q := 226) B dJ10_fixAfterInsertion_225 rfl rfl (rv_r _) ?_
            refine g_callS (q := 229) (is := [1]) (kc2 := 0) (ks2 := 0) B [.ref b] (ct_J10_parentOf_r g J (ns := ns) (key := key) (val := val) (l := rrL l r b x) (r := rrR r b x) (p := rrP r p b x) (col := col) (a := b) hu1_222 (by first | assumption | omega | rfl)) dJ10_fixAfterInsertion_226 rfl q2141 q2142 q91 q2143 rfl rfl moJ10_parentOf rfl rfl (by decide) (by decide) (Nat.le_of_ble_eq_true rfl) (Nat.le_of_ble_eq_true rfl) (Nat.le_of_ble_eq_true rfl) (fun _ _ hx => noX_x hx) (fun v226 L1 hp226 => ?_)
            obtain ⟨rfl, rfl⟩ := hp226
            rw [(show (rrP r p b x) b = some x from e1)]
            refine (show Go g κ 229 [some (.ref t), some (.ref b), some (.null)] [.ref x] [[(t, .inr (27, [.null, va_rf vs, .null, va_rf (rlRoot root b x), .int (nI n), .int (nI md), va_rf es, va_rf nk, .null]))], u1_222] 0 0 from ?_)
            refine g_iconst (v := nI 1) (q := 230) B dJ10_fixAfterInsertion_229 rfl (by decide) ?_
            refine g_callS (q := 233) (is := [1]) (kc2 := 0) (ks2 := 0) B [.ref x, .int (nI 1)] (ct_J10_setColor_r g J (ns := ns) (key := key) (val := val) (l := rrL l r b x) (r := rrR r b x) (p := rrP r p b x) (col := col) (a := x) (c := true) hu1_222 (by first | assumption | omega | rfl)) dJ10_fixAfterInsertion_230 rfl q2153 q2154 q91 q2155 rfl rfl moJ10_setColor rfl rfl (by decide) (by decide) (Nat.le_of_ble_eq_true rfl) (Nat.le_of_ble_eq_true rfl) (Nat.le_of_ble_eq_true rfl) (fun _ _ hx => noX_x hx) (fun v230 L1 hp230 => ?_)
            obtain ⟨u0_230, rfl, rfl, hu0_230⟩ := hp230
            refine (show Go g κ 233 [some (.ref t), some (.ref b), some (.null)] [] [[(t, .inr (27, [.null, va_rf vs, .null, va_rf (rlRoot root b x), .int (nI n), .int (nI md), va_rf es, va_rf nk, .null]))], u0_230] 0 0 from ?_)
            refine g_aload_n (q := 234) B dJ10_fixAfterInsertion_233 rfl rfl (rv_r _) ?_
            refine g_callS (q := 237) (is := [1]) (kc2 := 0) (ks2 := 0) B [.ref b] (ct_J10_parentOf_r g J (ns := ns) (key := key) (val := val) (l := (rrL l r b x)) (r := (rrR r b x)) (p := (rrP r p b x)) (col := fup col x true) (a := b) hu0_230 (by first | assumption | omega | rfl)) dJ10_fixAfterInsertion_234 rfl q2141 q2142 q91 q2143 rfl rfl moJ10_parentOf rfl rfl (by decide) (by decide) (Nat.le_of_ble_eq_true rfl) (Nat.le_of_ble_eq_true rfl) (Nat.le_of_ble_eq_true rfl) (fun _ _ hx => noX_x hx) (fun v234 L1 hp234 => ?_)
            obtain ⟨rfl, rfl⟩ := hp234
            rw [(show (rrP r p b x) b = some x from e1)]
            refine (show Go g κ 237 [some (.ref t), some (.ref b), some (.null)] [.ref x] [[(t, .inr (27, [.null, va_rf vs, .null, va_rf (rlRoot root b x), .int (nI n), .int (nI md), va_rf es, va_rf nk, .null]))], u0_230] 0 0 from ?_)
            refine g_callS (q := 240) (is := [1]) (kc2 := 0) (ks2 := 0) B [.ref x] (ct_J10_parentOf_r g J (ns := ns) (key := key) (val := val) (l := (rrL l r b x)) (r := (rrR r b x)) (p := (rrP r p b x)) (col := fup col x true) (a := x) hu0_230 (by first | assumption | omega | rfl)) dJ10_fixAfterInsertion_237 rfl q2141 q2142 q91 q2143 rfl rfl moJ10_parentOf rfl rfl (by decide) (by decide) (Nat.le_of_ble_eq_true rfl) (Nat.le_of_ble_eq_true rfl) (Nat.le_of_ble_eq_true rfl) (fun _ _ hx => noX_x hx) (fun v237 L1 hp237 => ?_)
            obtain ⟨rfl, rfl⟩ := hp237
            rw [(show (rrP r p b x) x = none from (e2.trans hgp))]
            refine (show Go g κ 240 [some (.ref t), some (.ref b), some (.null)] [.null] [[(t, .inr (27, [.null, va_rf vs, .null, va_rf (rlRoot root b x), .int (nI n), .int (nI md), va_rf es, va_rf nk, .null]))], u0_230] 0 0 from ?_)
            refine g_iconst (v := nI 0) (q := 241) B dJ10_fixAfterInsertion_240 rfl (by decide) ?_
            refine g_callS (q := 244) (is := []) (kc2 := 0) (ks2 := 0) B [.null, .int (nI 0)] (ct_J10_setColor_n g J (c := false)  ) dJ10_fixAfterInsertion_241 rfl q2153 q2154 q91 q2155 rfl rfl moJ10_setColor rfl rfl (by decide) (by decide) (Nat.le_of_ble_eq_true rfl) (Nat.le_of_ble_eq_true rfl) (Nat.le_of_ble_eq_true rfl) (fun _ _ hx => noX_x hx) (fun v241 L1 hp241 => ?_)
            obtain ⟨rfl, rfl⟩ := hp241
            refine (show Go g κ 244 [some (.ref t), some (.ref b), some (.null)] [] [[(t, .inr (27, [.null, va_rf vs, .null, va_rf (rlRoot root b x), .int (nI n), .int (nI md), va_rf es, va_rf nk, .null]))], u0_230] 0 0 from ?_)
            refine g_aload_n (q := 245) B dJ10_fixAfterInsertion_244 rfl rfl (rv_r _) ?_
            refine g_aload_n (q := 246) B dJ10_fixAfterInsertion_245 rfl rfl (rv_r _) ?_
            refine g_callS (q := 249) (is := [1]) (kc2 := 0) (ks2 := 0) B [.ref b] (ct_J10_parentOf_r g J (ns := ns) (key := key) (val := val) (l := (rrL l r b x)) (r := (rrR r b x)) (p := (rrP r p b x)) (col := fup col x true) (a := b) hu0_230 (by first | assumption | omega | rfl)) dJ10_fixAfterInsertion_246 rfl q2141 q2142 q91 q2143 rfl rfl moJ10_parentOf rfl rfl (by decide) (by decide) (Nat.le_of_ble_eq_true rfl) (Nat.le_of_ble_eq_true rfl) (Nat.le_of_ble_eq_true rfl) (fun _ _ hx => noX_x hx) (fun v246 L1 hp246 => ?_)
            obtain ⟨rfl, rfl⟩ := hp246
            rw [(show (rrP r p b x) b = some x from e1)]
            refine (show Go g κ 249 [some (.ref t), some (.ref b), some (.null)] [.ref x, .ref t] [[(t, .inr (27, [.null, va_rf vs, .null, va_rf (rlRoot root b x), .int (nI n), .int (nI md), va_rf es, va_rf nk, .null]))], u0_230] 0 0 from ?_)
            refine g_callS (q := 252) (is := [1]) (kc2 := 0) (ks2 := 0) B [.ref x] (ct_J10_parentOf_r g J (ns := ns) (key := key) (val := val) (l := (rrL l r b x)) (r := (rrR r b x)) (p := (rrP r p b x)) (col := fup col x true) (a := x) hu0_230 (by first | assumption | omega | rfl)) dJ10_fixAfterInsertion_249 rfl q2141 q2142 q91 q2143 rfl rfl moJ10_parentOf rfl rfl (by decide) (by decide) (Nat.le_of_ble_eq_true rfl) (Nat.le_of_ble_eq_true rfl) (Nat.le_of_ble_eq_true rfl) (fun _ _ hx => noX_x hx) (fun v249 L1 hp249 => ?_)
            obtain ⟨rfl, rfl⟩ := hp249
            rw [(show (rrP r p b x) x = none from (e2.trans hgp))]
            refine (show Go g κ 252 [some (.ref t), some (.ref b), some (.null)] [.null, .ref t] [[(t, .inr (27, [.null, va_rf vs, .null, va_rf (rlRoot root b x), .int (nI n), .int (nI md), va_rf es, va_rf nk, .null]))], u0_230] 0 0 from ?_)
            refine g_callV (q := 255) (is := []) (kc2 := 0) (ks2 := 0) B [.null] (ct_J10_rotateLeft_n g J (t := t)  ) dJ10_fixAfterInsertion_252 rfl (rc_at B (ci := 27) rfl (k := 0) rfl) rfl q2156 q2158 qs20 q91 q2159 rfl rfl moJ10_rotateLeft rfl rfl (by decide) (by decide) (Nat.le_of_ble_eq_true rfl) (Nat.le_of_ble_eq_true rfl) (Nat.le_of_ble_eq_true rfl) (fun _ _ hx => noX_x hx) (fun v252 L1 hp252 => ?_)
            obtain ⟨rfl, rfl⟩ := hp252
            refine (show Go g κ 255 [some (.ref t), some (.ref b), some (.null)] [] [[(t, .inr (27, [.null, va_rf vs, .null, va_rf (rlRoot root b x), .int (nI n), .int (nI md), va_rf es, va_rf nk, .null]))], u0_230] 0 0 from ?_)
            refine g_goto (tgt := 5) B dJ10_fixAfterInsertion_255 (by decide) ?_
            refine g_fg 2 rfl ?_
            exact ih5 _ (by rw [← hmu5]; exact fim_z _ hpx c24 e1 (fup_s _ _ _)) b (rrL l r b x) (rrR r b x) (rrP r p b x) (fup col x true) _ _ (rlRoot root b x) u0_230 hu0_230 (hT2_222) (hbm) rfl
        · skip
          have hcm := tr_pm hT hbm hgp
          obtain ⟨hxc, hbc⟩ := hxc c hgp
          refine g_aload_n (q := 28) B dJ10_fixAfterInsertion_27 rfl rfl (rv_r _) ?_
          refine g_callS (q := 31) (is := [1]) (kc2 := 0) (ks2 := 0) B [.ref x] (ct_J10_parentOf_r g J (ns := ns) (key := key) (val := val) (l := l) (r := r) (p := p) (col := col) (a := x) hl5_1 (by first | assumption | omega | rfl)) dJ10_fixAfterInsertion_28 rfl q2141 q2142 q91 q2143 rfl rfl moJ10_parentOf rfl rfl (by decide) (by decide) (Nat.le_of_ble_eq_true rfl) (Nat.le_of_ble_eq_true rfl) (Nat.le_of_ble_eq_true rfl) (fun _ _ hx => noX_x hx) (fun v28 L1 hp28 => ?_)
          obtain ⟨rfl, rfl⟩ := hp28
          rw [(show p x = some b from hpx)]
          refine (show Go g κ 31 [some (.ref t), some (.ref x), none] [.ref b] [[(t, .inr (27, [.null, va_rf vs, .null, va_rf root, .int (nI n), .int (nI md), va_rf es, va_rf nk, .null]))], l5_1] 0 0 from ?_)
          refine g_aload_n (q := 32) B dJ10_fixAfterInsertion_31 rfl rfl (rv_r _) ?_
          refine g_callS (q := 35) (is := [1]) (kc2 := 0) (ks2 := 0) B [.ref x] (ct_J10_parentOf_r g J (ns := ns) (key := key) (val := val) (l := l) (r := r) (p := p) (col := col) (a := x) hl5_1 (by first | assumption | omega | rfl)) dJ10_fixAfterInsertion_32 rfl q2141 q2142 q91 q2143 rfl rfl moJ10_parentOf rfl rfl (by decide) (by decide) (Nat.le_of_ble_eq_true rfl) (Nat.le_of_ble_eq_true rfl) (Nat.le_of_ble_eq_true rfl) (fun _ _ hx => noX_x hx) (fun v32 L1 hp32 => ?_)
          obtain ⟨rfl, rfl⟩ := hp32
          rw [(show p x = some b from hpx)]
          refine (show Go g κ 35 [some (.ref t), some (.ref x), none] [.ref b, .ref b] [[(t, .inr (27, [.null, va_rf vs, .null, va_rf root, .int (nI n), .int (nI md), va_rf es, va_rf nk, .null]))], l5_1] 0 0 from ?_)
          refine g_callS (q := 38) (is := [1]) (kc2 := 0) (ks2 := 0) B [.ref b] (ct_J10_parentOf_r g J (ns := ns) (key := key) (val := val) (l := l) (r := r) (p := p) (col := col) (a := b) hl5_1 (by first | assumption | omega | rfl)) dJ10_fixAfterInsertion_35 rfl q2141 q2142 q91 q2143 rfl rfl moJ10_parentOf rfl rfl (by decide) (by decide) (Nat.le_of_ble_eq_true rfl) (Nat.le_of_ble_eq_true rfl) (Nat.le_of_ble_eq_true rfl) (fun _ _ hx => noX_x hx) (fun v35 L1 hp35 => ?_)
          obtain ⟨rfl, rfl⟩ := hp35
          rw [(show p b = some c from hgp)]
          refine (show Go g κ 38 [some (.ref t), some (.ref x), none] [.ref c, .ref b] [[(t, .inr (27, [.null, va_rf vs, .null, va_rf root, .int (nI n), .int (nI md), va_rf es, va_rf nk, .null]))], l5_1] 0 0 from ?_)
          refine g_callS (q := 41) (is := [1]) (kc2 := 0) (ks2 := 0) B [.ref c] (ct_J10_leftOf_r g J (ns := ns) (key := key) (val := val) (l := l) (r := r) (p := p) (col := col) (a := c) hl5_1 (by first | assumption | omega | rfl)) dJ10_fixAfterInsertion_38 rfl q2144 q2145 q91 q2146 rfl rfl moJ10_leftOf rfl rfl (by decide) (by decide) (Nat.le_of_ble_eq_true rfl) (Nat.le_of_ble_eq_true rfl) (Nat.le_of_ble_eq_true rfl) (fun _ _ hx => noX_x hx) (fun v38 L1 hp38 => ?_)
          obtain ⟨rfl, rfl⟩ := hp38
          refine (show Go g κ 41 [some (.ref t), some (.ref x), none] [va_rf (l c), .ref b] [[(t, .inr (27, [.null, va_rf vs, .null, va_rf root, .int (nI n), .int (nI md), va_rf es, va_rf nk, .null]))], l5_1] 0 0 from ?_)
          refine g_acmp_ne (rx := some b) (ry := l c) (tgt := 151) (q := 44) B dJ10_fixAfterInsertion_41 rfl (by decide) rfl rfl (acn) (fun c41 => ?_) (fun c41 => ?_)
          · skip
            have hrc : r c = some b := (hT.2.2.2.2.2.2.2.1 b hbm c hgp).2.resolve_left c41
            refine g_aload_n (q := 152) B dJ10_fixAfterInsertion_151 rfl rfl (rv_r _) ?_
            refine g_callS (q := 155) (is := [1]) (kc2 := 0) (ks2 := 0) B [.ref x] (ct_J10_parentOf_r g J (ns := ns) (key := key) (val := val) (l := l) (r := r) (p := p) (col := col) (a := x) hl5_1 (by first | assumption | omega | rfl)) dJ10_fixAfterInsertion_152 rfl q2141 q2142 q91 q2143 rfl rfl moJ10_parentOf rfl rfl (by decide) (by decide) (Nat.le_of_ble_eq_true rfl) (Nat.le_of_ble_eq_true rfl) (Nat.le_of_ble_eq_true rfl) (fun _ _ hx => noX_x hx) (fun v152 L1 hp152 => ?_)
            obtain ⟨rfl, rfl⟩ := hp152
            rw [(show p x = some b from hpx)]
            refine (show Go g κ 155 [some (.ref t), some (.ref x), none] [.ref b] [[(t, .inr (27, [.null, va_rf vs, .null, va_rf root, .int (nI n), .int (nI md), va_rf es, va_rf nk, .null]))], l5_1] 0 0 from ?_)
            refine g_callS (q := 158) (is := [1]) (kc2 := 0) (ks2 := 0) B [.ref b] (ct_J10_parentOf_r g J (ns := ns) (key := key) (val := val) (l := l) (r := r) (p := p) (col := col) (a := b) hl5_1 (by first | assumption | omega | rfl)) dJ10_fixAfterInsertion_155 rfl q2141 q2142 q91 q2143 rfl rfl moJ10_parentOf rfl rfl (by decide) (by decide) (Nat.le_of_ble_eq_true rfl) (Nat.le_of_ble_eq_true rfl) (Nat.le_of_ble_eq_true rfl) (fun _ _ hx => noX_x hx) (fun v155 L1 hp155 => ?_)
            obtain ⟨rfl, rfl⟩ := hp155
            rw [(show p b = some c from hgp)]
            refine (show Go g κ 158 [some (.ref t), some (.ref x), none] [.ref c] [[(t, .inr (27, [.null, va_rf vs, .null, va_rf root, .int (nI n), .int (nI md), va_rf es, va_rf nk, .null]))], l5_1] 0 0 from ?_)
            refine g_callS (q := 161) (is := [1]) (kc2 := 0) (ks2 := 0) B [.ref c] (ct_J10_leftOf_r g J (ns := ns) (key := key) (val := val) (l := l) (r := r) (p := p) (col := col) (a := c) hl5_1 (by first | assumption | omega | rfl)) dJ10_fixAfterInsertion_158 rfl q2144 q2145 q91 q2146 rfl rfl moJ10_leftOf rfl rfl (by decide) (by decide) (Nat.le_of_ble_eq_true rfl) (Nat.le_of_ble_eq_true rfl) (Nat.le_of_ble_eq_true rfl) (fun _ _ hx => noX_x hx) (fun v158 L1 hp158 => ?_)
            obtain ⟨rfl, rfl⟩ := hp158
            refine (show Go g κ 161 [some (.ref t), some (.ref x), none] [va_rf (l c)] [[(t, .inr (27, [.null, va_rf vs, .null, va_rf root, .int (nI n), .int (nI md), va_rf es, va_rf nk, .null]))], l5_1] 0 0 from ?_)
            refine g_astore_n (q := 162) (lv2 := [some (.ref t), some (.ref x), some (va_rf (l c))]) B dJ10_fixAfterInsertion_161 rfl (Nat.le_of_ble_eq_true rfl) (rv_o _) rfl ?_
            refine g_aload_n (q := 163) B dJ10_fixAfterInsertion_162 rfl rfl (rv_o _) ?_
            refine g_callS (q := 166) (is := [1]) (kc2 := 0) (ks2 := 0) B [va_rf (l c)] (ct_J10_colorOf g J (ns := ns) (key := key) (val := val) (l := l) (r := r) (p := p) (col := col) (x := l c) hl5_1 (om_l hT hcm)) dJ10_fixAfterInsertion_163 rfl q2150 q2151 q91 q2152 rfl rfl moJ10_colorOf rfl rfl (by decide) (by decide) (Nat.le_of_ble_eq_true rfl) (Nat.le_of_ble_eq_true rfl) (Nat.le_of_ble_eq_true rfl) (fun _ _ hx => noX_x hx) (fun v163 L1 hp163 => ?_)
            obtain ⟨rfl, rfl⟩ := hp163
            refine (show Go g κ 166 [some (.ref t), some (.ref x), some (va_rf (l c))] [.int (nI (if oc col (l c) = true then 1 else 0))] [[(t, .inr (27, [.null, va_rf vs, .null, va_rf root, .int (nI n), .int (nI md), va_rf es, va_rf nk, .null]))], l5_1] 0 0 from ?_)
            refine g_if_ne (tgt := 204) (q := 169) B dJ10_fixAfterInsertion_166 rfl (by decide) (bo_ne) (fun c166 => ?_) (fun c166 => ?_)
            · skip
              refine g_aload_n (q := 205) B dJ10_fixAfterInsertion_204 rfl rfl (rv_r _) ?_
              refine g_aload_n (q := 206) B dJ10_fixAfterInsertion_205 rfl rfl (rv_r _) ?_
              refine g_callS (q := 209) (is := [1]) (kc2 := 0) (ks2 := 0) B [.ref x] (ct_J10_parentOf_r g J (ns := ns) (key := key) (val := val) (l := l) (r := r) (p := p) (col := col) (a := x) hl5_1 (by first | assumption | omega | rfl)) dJ10_fixAfterInsertion_206 rfl q2141 q2142 q91 q2143 rfl rfl moJ10_parentOf rfl rfl (by decide) (by decide) (Nat.le_of_ble_eq_true rfl) (Nat.le_of_ble_eq_true rfl) (Nat.le_of_ble_eq_true rfl) (fun _ _ hx => noX_x hx) (fun v206 L1 hp206 => ?_)
              obtain ⟨rfl, rfl⟩ := hp206
              rw [(show p x = some b from hpx)]
              refine (show Go g κ 209 [some (.ref t), some (.ref x), some (va_rf (l c))] [.ref b, .ref x] [[(t, .inr (27, [.null, va_rf vs, .null, va_rf root, .int (nI n), .int (nI md), va_rf es, va_rf nk, .null]))], l5_1] 0 0 from ?_)
              refine g_callS (q := 212) (is := [1]) (kc2 := 0) (ks2 := 0) B [.ref b] (ct_J10_leftOf_r g J (ns := ns) (key := key) (val := val) (l := l) (r := r) (p := p) (col := col) (a := b) hl5_1 (by first | assumption | omega | rfl)) dJ10_fixAfterInsertion_209 rfl q2144 q2145 q91 q2146 rfl rfl moJ10_leftOf rfl rfl (by decide) (by decide) (Nat.le_of_ble_eq_true rfl) (Nat.le_of_ble_eq_true rfl) (Nat.le_of_ble_eq_true rfl) (fun _ _ hx => noX_x hx) (fun v209 L1 hp209 => ?_)
              obtain ⟨rfl, rfl⟩ := hp209
              refine (show Go g κ 212 [some (.ref t), some (.ref x), some (va_rf (l c))] [va_rf (l b), .ref x] [[(t, .inr (27, [.null, va_rf vs, .null, va_rf root, .int (nI n), .int (nI md), va_rf es, va_rf nk, .null]))], l5_1] 0 0 from ?_)
              refine g_acmp_ne (rx := some x) (ry := l b) (tgt := 225) (q := 215) B dJ10_fixAfterInsertion_212 rfl (by decide) rfl rfl (acn) (fun c212 => ?_) (fun c212 => ?_)
              · skip
                have hob : r b = some x := (hT.2.2.2.2.2.2.2.1 x hx b hpx).2.resolve_left c212
                refine g_aload_n (q := 226) B dJ10_fixAfterInsertion_225 rfl rfl (rv_r _) ?_
                refine g_callS (q := 229) (is := [1]) (kc2 := 0) (ks2 := 0) B [.ref x] (ct_J10_parentOf_r g J (ns := ns) (key := key) (val := val) (l := l) (r := r) (p := p) (col := col) (a := x) hl5_1 (by first | assumption | omega | rfl)) dJ10_fixAfterInsertion_226 rfl q2141 q2142 q91 q2143 rfl rfl moJ10_parentOf rfl rfl (by decide) (by decide) (Nat.le_of_ble_eq_true rfl) (Nat.le_of_ble_eq_true rfl) (Nat.le_of_ble_eq_true rfl) (fun _ _ hx => noX_x hx) (fun v226 L1 hp226 => ?_)
                obtain ⟨rfl, rfl⟩ := hp226
                rw [(show p x = some b from hpx)]
                refine (show Go g κ 229 [some (.ref t), some (.ref x), some (va_rf (l c))] [.ref b] [[(t, .inr (27, [.null, va_rf vs, .null, va_rf root, .int (nI n), .int (nI md), va_rf es, va_rf nk, .null]))], l5_1] 0 0 from ?_)
                refine g_iconst (v := nI 1) (q := 230) B dJ10_fixAfterInsertion_229 rfl (by decide) ?_
                refine g_callS (q := 233) (is := [1]) (kc2 := 0) (ks2 := 0) B [.ref b, .int (nI 1)] (ct_J10_setColor_r g J (ns := ns) (key := key) (val := val) (l := l) (r := r) (p := p) (col := col) (a := b) (c := true) hl5_1 (by first | assumption | omega | rfl)) dJ10_fixAfterInsertion_230 rfl q2153 q2154 q91 q2155 rfl rfl moJ10_setColor rfl rfl (by decide) (by decide) (Nat.le_of_ble_eq_true rfl) (Nat.le_of_ble_eq_true rfl) (Nat.le_of_ble_eq_true rfl) (fun _ _ hx => noX_x hx) (fun v230 L1 hp230 => ?_)
                obtain ⟨u0_230, rfl, rfl, hu0_230⟩ := hp230
                refine (show Go g κ 233 [some (.ref t), some (.ref x), some (va_rf (l c))] [] [[(t, .inr (27, [.null, va_rf vs, .null, va_rf root, .int (nI n), .int (nI md), va_rf es, va_rf nk, .null]))], u0_230] 0 0 from ?_)
                refine g_aload_n (q := 234) B dJ10_fixAfterInsertion_233 rfl rfl (rv_r _) ?_
                refine g_callS (q := 237) (is := [1]) (kc2 := 0) (ks2 := 0) B [.ref x] (ct_J10_parentOf_r g J (ns := ns) (key := key) (val := val) (l := l) (r := r) (p := p) (col := fup col b true) (a := x) hu0_230 (by first | assumption | omega | rfl)) dJ10_fixAfterInsertion_234 rfl q2141 q2142 q91 q2143 rfl rfl moJ10_parentOf rfl rfl (by decide) (by decide) (Nat.le_of_ble_eq_true rfl) (Nat.le_of_ble_eq_true rfl) (Nat.le_of_ble_eq_true rfl) (fun _ _ hx => noX_x hx) (fun v234 L1 hp234 => ?_)
                obtain ⟨rfl, rfl⟩ := hp234
                rw [(show p x = some b from hpx)]
                refine (show Go g κ 237 [some (.ref t), some (.ref x), some (va_rf (l c))] [.ref b] [[(t, .inr (27, [.null, va_rf vs, .null, va_rf root, .int (nI n), .int (nI md), va_rf es, va_rf nk, .null]))], u0_230] 0 0 from ?_)
                refine g_callS (q := 240) (is := [1]) (kc2 := 0) (ks2 := 0) B [.ref b] (ct_J10_parentOf_r g J (ns := ns) (key := key) (val := val) (l := l) (r := r) (p := p) (col := fup col b true) (a := b) hu0_230 (by first | assumption | omega | rfl)) dJ10_fixAfterInsertion_237 rfl q2141 q2142 q91 q2143 rfl rfl moJ10_parentOf rfl rfl (by decide) (by decide) (Nat.le_of_ble_eq_true rfl) (Nat.le_of_ble_eq_true rfl) (Nat.le_of_ble_eq_true rfl) (fun _ _ hx => noX_x hx) (fun v237 L1 hp237 => ?_)
                obtain ⟨rfl, rfl⟩ := hp237
                rw [(show p b = some c from hgp)]
                refine (show Go g κ 240 [some (.ref t), some (.ref x), some (va_rf (l c))] [.ref c] [[(t, .inr (27, [.null, va_rf vs, .null, va_rf root, .int (nI n), .int (nI md), va_rf es, va_rf nk, .null]))], u0_230] 0 0 from ?_)
                refine g_iconst (v := nI 0) (q := 241) B dJ10_fixAfterInsertion_240 rfl (by decide) ?_
                refine g_callS (q := 244) (is := [1]) (kc2 := 0) (ks2 := 0) B [.ref c, .int (nI 0)] (ct_J10_setColor_r g J (ns := ns) (key := key) (val := val) (l := l) (r := r) (p := p) (col := fup col b true) (a := c) (c := false) hu0_230 (by first | assumption | omega | rfl)) dJ10_fixAfterInsertion_241 rfl q2153 q2154 q91 q2155 rfl rfl moJ10_setColor rfl rfl (by decide) (by decide) (Nat.le_of_ble_eq_true rfl) (Nat.le_of_ble_eq_true rfl) (Nat.le_of_ble_eq_true rfl) (fun _ _ hx => noX_x hx) (fun v241 L1 hp241 => ?_)
                obtain ⟨u0_241, rfl, rfl, hu0_241⟩ := hp241
                refine (show Go g κ 244 [some (.ref t), some (.ref x), some (va_rf (l c))] [] [[(t, .inr (27, [.null, va_rf vs, .null, va_rf root, .int (nI n), .int (nI md), va_rf es, va_rf nk, .null]))], u0_241] 0 0 from ?_)
                refine g_aload_n (q := 245) B dJ10_fixAfterInsertion_244 rfl rfl (rv_r _) ?_
                refine g_aload_n (q := 246) B dJ10_fixAfterInsertion_245 rfl rfl (rv_r _) ?_
                refine g_callS (q := 249) (is := [1]) (kc2 := 0) (ks2 := 0) B [.ref x] (ct_J10_parentOf_r g J (ns := ns) (key := key) (val := val) (l := l) (r := r) (p := p) (col := fup (fup col b true) c false) (a := x) hu0_241 (by first | assumption | omega | rfl)) dJ10_fixAfterInsertion_246 rfl q2141 q2142 q91 q2143 rfl rfl moJ10_parentOf rfl rfl (by decide) (by decide) (Nat.le_of_ble_eq_true rfl) (Nat.le_of_ble_eq_true rfl) (Nat.le_of_ble_eq_true rfl) (fun _ _ hx => noX_x hx) (fun v246 L1 hp246 => ?_)
                obtain ⟨rfl, rfl⟩ := hp246
                rw [(show p x = some b from hpx)]
                refine (show Go g κ 249 [some (.ref t), some (.ref x), some (va_rf (l c))] [.ref b, .ref t] [[(t, .inr (27, [.null, va_rf vs, .null, va_rf root, .int (nI n), .int (nI md), va_rf es, va_rf nk, .null]))], u0_241] 0 0 from ?_)
                refine g_callS (q := 252) (is := [1]) (kc2 := 0) (ks2 := 0) B [.ref b] (ct_J10_parentOf_r g J (ns := ns) (key := key) (val := val) (l := l) (r := r) (p := p) (col := fup (fup col b true) c false) (a := b) hu0_241 (by first | assumption | omega | rfl)) dJ10_fixAfterInsertion_249 rfl q2141 q2142 q91 q2143 rfl rfl moJ10_parentOf rfl rfl (by decide) (by decide) (Nat.le_of_ble_eq_true rfl) (Nat.le_of_ble_eq_true rfl) (Nat.le_of_ble_eq_true rfl) (fun _ _ hx => noX_x hx) (fun v249 L1 hp249 => ?_)
                obtain ⟨rfl, rfl⟩ := hp249
                rw [(show p b = some c from hgp)]
                refine (show Go g κ 252 [some (.ref t), some (.ref x), some (va_rf (l c))] [.ref c, .ref t] [[(t, .inr (27, [.null, va_rf vs, .null, va_rf root, .int (nI n), .int (nI md), va_rf es, va_rf nk, .null]))], u0_241] 0 0 from ?_)
                refine g_callV (q := 255) (is := [0, 0]) (kc2 := 0) (ks2 := 0) B [.ref c] (ct_J10_rotateLeft g J (t := t) (vs := vs) (n := n) (md := md) (es := es) (nk := nk) (ns := ns) (key := key) (val := val) (l := l) (r := r) (p := p) (col := fup (fup col b true) c false) (lo := _) (hi := _) (root := root) (M := M) (kc := key) (a := c) (b := b) hu0_241 (hT) (hcm) (hrc)) dJ10_fixAfterInsertion_252 rfl (rc_at B (ci := 27) rfl (k := 0) rfl) rfl q2156 q2158 qs20 q91 q2159 rfl rfl moJ10_rotateLeft rfl rfl (by decide) (by decide) (Nat.le_of_ble_eq_true rfl) (Nat.le_of_ble_eq_true rfl) (Nat.le_of_ble_eq_true rfl) (fun _ _ hx => noX_x hx) (fun v252 L1 hp252 => ?_)
                obtain ⟨u1_252, rfl, rfl, hu1_252, hT2_252⟩ := hp252
                refine (show Go g κ 255 [some (.ref t), some (.ref x), some (va_rf (l c))] [] [[(t, .inr (27, [.null, va_rf vs, .null, va_rf (rlRoot root c b), .int (nI n), .int (nI md), va_rf es, va_rf nk, .null]))], u1_252] 0 0 from ?_)
                have e9 : (rlP l p c b) x = some b := by
                  have z1 := tr_lr (x := x) hT hbm
                  have z2 := hT.2.2.2.1 x hx b
                  have z3 := hT.2.2.2.2.2.1 x hx b
                  grind [rlP, rrP, rlL, rlR, rrL, rrR]
                refine g_goto (tgt := 5) B dJ10_fixAfterInsertion_255 (by decide) ?_
                refine g_fg 2 rfl ?_
                exact ih5 _ (by rw [← hmu5]; exact fim_z _ hpx c24 e9 ((fup_n hbc).trans (fup_s _ _ _))) x (rlL l c b) (rlR l r c b) (rlP l p c b) (fup (fup col b true) c false) _ _ (rlRoot root c b) u1_252 hu1_252 (hT2_252) (hx) rfl
              · skip
                have hfb : l b = some x := Classical.not_not.mp c212
                refine g_aload_n (q := 216) B dJ10_fixAfterInsertion_215 rfl rfl (rv_r _) ?_
                refine g_callS (q := 219) (is := [1]) (kc2 := 0) (ks2 := 0) B [.ref x] (ct_J10_parentOf_r g J (ns := ns) (key := key) (val := val) (l := l) (r := r) (p := p) (col := col) (a := x) hl5_1 (by first | assumption | omega | rfl)) dJ10_fixAfterInsertion_216 rfl q2141 q2142 q91 q2143 rfl rfl moJ10_parentOf rfl rfl (by decide) (by decide) (Nat.le_of_ble_eq_true rfl) (Nat.le_of_ble_eq_true rfl) (Nat.le_of_ble_eq_true rfl) (fun _ _ hx => noX_x hx) (fun v216 L1 hp216 => ?_)
                obtain ⟨rfl, rfl⟩ := hp216
                rw [(show p x = some b from hpx)]
                refine (show Go g κ 219 [some (.ref t), some (.ref x), some (va_rf (l c))] [.ref b] [[(t, .inr (27, [.null, va_rf vs, .null, va_rf root, .int (nI n), .int (nI md), va_rf es, va_rf nk, .null]))], l5_1] 0 0 from ?_)
                refine g_astore_n (q := 220) (lv2 := [some (.ref t), some (.ref b), some (va_rf (l c))]) B dJ10_fixAfterInsertion_219 rfl (Nat.le_of_ble_eq_true rfl) (rv_r _) rfl ?_
                refine g_aload_n (q := 221) B dJ10_fixAfterInsertion_220 rfl rfl (rv_r _) ?_
                refine g_aload_n (q := 222) B dJ10_fixAfterInsertion_221 rfl rfl (rv_r _) ?_
                refine g_callV (q := 225) (is := [0, 0]) (kc2 := 0) (ks2 := 0) B [.ref b] (ct_J10_rotateRight g J (t := t) (vs := vs) (n := n) (md := md) (es := es) (nk := nk) (ns := ns) (key := key) (val := val) (l := l) (r := r) (p := p) (col := col) (lo := _) (hi := _) (root := root) (M := M) (kc := key) (a := b) (b := x) hl5_1 (hT) (hbm) (hfb)) dJ10_fixAfterInsertion_222 rfl (rc_at B (ci := 27) rfl (k := 0) rfl) rfl q2160 q2162 qs21 q91 q2163 rfl rfl moJ10_rotateRight rfl rfl (by decide) (by decide) (Nat.le_of_ble_eq_true rfl) (Nat.le_of_ble_eq_true rfl) (Nat.le_of_ble_eq_true rfl) (fun _ _ hx => noX_x hx) (fun v222 L1 hp222 => ?_)
                obtain ⟨u1_222, rfl, rfl, hu1_222, hT2_222⟩ := hp222
                refine (show Go g κ 225 [some (.ref t), some (.ref b), some (va_rf (l c))] [] [[(t, .inr (27, [.null, va_rf vs, .null, va_rf (rlRoot root b x), .int (nI n), .int (nI md), va_rf es, va_rf nk, .null]))], u1_222] 0 0 from ?_)
                have e1 : (rrP r p b x) b = some x := by simp [rrP]
                have e2 : (rrP r p b x) x = p b := by simp [rrP, hxb]
                have e3 : (rrR r b x) c = some x := by simp [rrR, Ne.symm hxc, Ne.symm hbc, hrc]
                refine g_aload_n (q := 226) B dJ10_fixAfterInsertion_225 rfl rfl (rv_r _) ?_
                refine g_callS (q := 229) (is := [1]) (kc2 := 0) (ks2 := 0) B [.ref b] (ct_J10_parentOf_r g J (ns := ns) (key := key) (val := val) (l := rrL l r b x) (r := rrR r b x) (p := rrP r p b x) (col := col) (a := b) hu1_222 (by first | assumption | omega | rfl)) dJ10_fixAfterInsertion_226 rfl q2141 q2142 q91 q2143 rfl rfl moJ10_parentOf rfl rfl (by decide) (by decide) (Nat.le_of_ble_eq_true rfl) (Nat.le_of_ble_eq_true rfl) (Nat.le_of_ble_eq_true rfl) (fun _ _ hx => noX_x hx) (fun v226 L1 hp226 => ?_)
                obtain ⟨rfl, rfl⟩ := hp226
                rw [(show (rrP r p b x) b = some x from e1)]
                refine (show Go g κ 229 [some (.ref t), some (.ref b), some (va_rf (l c))] [.ref x] [[(t, .inr (27, [.null, va_rf vs, .null, va_rf (rlRoot root b x), .int (nI n), .int (nI md), va_rf es, va_rf nk, .null]))], u1_222] 0 0 from ?_)
                refine g_iconst (v := nI 1) (q := 230) B dJ10_fixAfterInsertion_229 rfl (by decide) ?_
                refine g_callS (q := 233) (is := [1]) (kc2 := 0) (ks2 := 0) B [.ref x, .int (nI 1)] (ct_J10_setColor_r g J (ns := ns) (key := key) (val := val) (l := rrL l r b x) (r := rrR r b x) (p := rrP r p b x) (col := col) (a := x) (c := true) hu1_222 (by first | assumption | omega | rfl)) dJ10_fixAfterInsertion_230 rfl q2153 q2154 q91 q2155 rfl rfl moJ10_setColor rfl rfl (by decide) (by decide) (Nat.le_of_ble_eq_true rfl) (Nat.le_of_ble_eq_true rfl) (Nat.le_of_ble_eq_true rfl) (fun _ _ hx => noX_x hx) (fun v230 L1 hp230 => ?_)
                obtain ⟨u0_230, rfl, rfl, hu0_230⟩ := hp230
                refine (show Go g κ 233 [some (.ref t), some (.ref b), some (va_rf (l c))] [] [[(t, .inr (27, [.null, va_rf vs, .null, va_rf (rlRoot root b x), .int (nI n), .int (nI md), va_rf es, va_rf nk, .null]))], u0_230] 0 0 from ?_)
                refine g_aload_n (q := 234) B dJ10_fixAfterInsertion_233 rfl rfl (rv_r _) ?_
                refine g_callS (q := 237) (is := [1]) (kc2 := 0) (ks2 := 0) B [.ref b] (ct_J10_parentOf_r g J (ns := ns) (key := key) (val := val) (l := (rrL l r b x)) (r := (rrR r b x)) (p := (rrP r p b x)) (col := fup col x true) (a := b) hu0_230 (by first | assumption | omega | rfl)) dJ10_fixAfterInsertion_234 rfl q2141 q2142 q91 q2143 rfl rfl moJ10_parentOf rfl rfl (by decide) (by decide) (Nat.le_of_ble_eq_true rfl) (Nat.le_of_ble_eq_true rfl) (Nat.le_of_ble_eq_true rfl) (fun _ _ hx => noX_x hx) (fun v234 L1 hp234 => ?_)
                obtain ⟨rfl, rfl⟩ := hp234
                rw [(show (rrP r p b x) b = some x from e1)]
                refine (show Go g κ 237 [some (.ref t), some (.ref b), some (va_rf (l c))] [.ref x] [[(t, .inr (27, [.null, va_rf vs, .null, va_rf (rlRoot root b x), .int (nI n), .int (nI md), va_rf es, va_rf nk, .null]))], u0_230] 0 0 from ?_)
                refine g_callS (q := 240) (is := [1]) (kc2 := 0) (ks2 := 0) B [.ref x] (ct_J10_parentOf_r g J (ns := ns) (key := key) (val := val) (l := (rrL l r b x)) (r := (rrR r b x)) (p := (rrP r p b x)) (col := fup col x true) (a := x) hu0_230 (by first | assumption | omega | rfl)) dJ10_fixAfterInsertion_237 rfl q2141 q2142 q91 q2143 rfl rfl moJ10_parentOf rfl rfl (by decide) (by decide) (Nat.le_of_ble_eq_true rfl) (Nat.le_of_ble_eq_true rfl) (Nat.le_of_ble_eq_true rfl) (fun _ _ hx => noX_x hx) (fun v237 L1 hp237 => ?_)
                obtain ⟨rfl, rfl⟩ := hp237
                rw [(show (rrP r p b x) x = some c from (e2.trans hgp))]
                refine (show Go g κ 240 [some (.ref t), some (.ref b), some (va_rf (l c))] [.ref c] [[(t, .inr (27, [.null, va_rf vs, .null, va_rf (rlRoot root b x), .int (nI n), .int (nI md), va_rf es, va_rf nk, .null]))], u0_230] 0 0 from ?_)
                refine g_iconst (v := nI 0) (q := 241) B dJ10_fixAfterInsertion_240 rfl (by decide) ?_
                refine g_callS (q := 244) (is := [1]) (kc2 := 0) (ks2 := 0) B [.ref c, .int (nI 0)] (ct_J10_setColor_r g J (ns := ns) (key := key) (val := val) (l := (rrL l r b x)) (r := (rrR r b x)) (p := (rrP r p b x)) (col := fup col x true) (a := c) (c := false) hu0_230 (by first | assumption | omega | rfl)) dJ10_fixAfterInsertion_241 rfl q2153 q2154 q91 q2155 rfl rfl moJ10_setColor rfl rfl (by decide) (by decide) (Nat.le_of_ble_eq_true rfl) (Nat.le_of_ble_eq_true rfl) (Nat.le_of_ble_eq_true rfl) (fun _ _ hx => noX_x hx) (fun v241 L1 hp241 => ?_)
                obtain ⟨u0_241, rfl, rfl, hu0_241⟩ := hp241
                refine (show Go g κ 244 [some (.ref t), some (.ref b), some (va_rf (l c))] [] [[(t, .inr (27, [.null, va_rf vs, .null, va_rf (rlRoot root b x), .int (nI n), .int (nI md), va_rf es, va_rf nk, .null]))], u0_241] 0 0 from ?_)
                refine g_aload_n (q := 245) B dJ10_fixAfterInsertion_244 rfl rfl (rv_r _) ?_
                refine g_aload_n (q := 246) B dJ10_fixAfterInsertion_245 rfl rfl (rv_r _) ?_
                refine g_callS (q := 249) (is := [1]) (kc2 := 0) (ks2 := 0) B [.ref b] (ct_J10_parentOf_r g J (ns := ns) (key := key) (val := val) (l := (rrL l r b x)) (r := (rrR r b x)) (p := (rrP r p b x)) (col := fup (fup col x true) c false) (a := b) hu0_241 (by first | assumption | omega | rfl)) dJ10_fixAfterInsertion_246 rfl q2141 q2142 q91 q2143 rfl rfl moJ10_parentOf rfl rfl (by decide) (by decide) (Nat.le_of_ble_eq_true rfl) (Nat.le_of_ble_eq_true rfl) (Nat.le_of_ble_eq_true rfl) (fun _ _ hx => noX_x hx) (fun v246 L1 hp246 => ?_)
                obtain ⟨rfl, rfl⟩ := hp246
                rw [(show (rrP r p b x) b = some x from e1)]
                refine (show Go g κ 249 [some (.ref t), some (.ref b), some (va_rf (l c))] [.ref x, .ref t] [[(t, .inr (27, [.null, va_rf vs, .null, va_rf (rlRoot root b x), .int (nI n), .int (nI md), va_rf es, va_rf nk, .null]))], u0_241] 0 0 from ?_)
                refine g_callS (q := 252) (is := [1]) (kc2 := 0) (ks2 := 0) B [.ref x] (ct_J10_parentOf_r g J (ns := ns) (key := key) (val := val) (l := (rrL l r b x)) (r := (rrR r b x)) (p := (rrP r p b x)) (col := fup (fup col x true) c false) (a := x) hu0_241 (by first | assumption | omega | rfl)) dJ10_fixAfterInsertion_249 rfl q2141 q2142 q91 q2143 rfl rfl moJ10_parentOf rfl rfl (by decide) (by decide) (Nat.le_of_ble_eq_true rfl) (Nat.le_of_ble_eq_true rfl) (Nat.le_of_ble_eq_true rfl) (fun _ _ hx => noX_x hx) (fun v249 L1 hp249 => ?_)
                obtain ⟨rfl, rfl⟩ := hp249
                rw [(show (rrP r p b x) x = some c from (e2.trans hgp))]
                refine (show Go g κ 252 [some (.ref t), some (.ref b), some (va_rf (l c))] [.ref c, .ref t] [[(t, .inr (27, [.null, va_rf vs, .null, va_rf (rlRoot root b x), .int (nI n), .int (nI md), va_rf es, va_rf nk, .null]))], u0_241] 0 0 from ?_)
                refine g_callV (q := 255) (is := [0, 0]) (kc2 := 0) (ks2 := 0) B [.ref c] (ct_J10_rotateLeft g J (t := t) (vs := vs) (n := n) (md := md) (es := es) (nk := nk) (ns := ns) (key := key) (val := val) (l := (rrL l r b x)) (r := (rrR r b x)) (p := (rrP r p b x)) (col := fup (fup col x true) c false) (lo := _) (hi := _) (root := rlRoot root b x) (M := M) (kc := key) (a := c) (b := x) hu0_241 (hT2_222) (hcm) (e3)) dJ10_fixAfterInsertion_252 rfl (rc_at B (ci := 27) rfl (k := 0) rfl) rfl q2156 q2158 qs20 q91 q2159 rfl rfl moJ10_rotateLeft rfl rfl (by decide) (by decide) (Nat.le_of_ble_eq_true rfl) (Nat.le_of_ble_eq_true rfl) (Nat.le_of_ble_eq_true rfl) (fun _ _ hx => noX_x hx) (fun v252 L1 hp252 => ?_)
                obtain ⟨u1_252, rfl, rfl, hu1_252, hT2_252⟩ := hp252
                refine (show Go g κ 255 [some (.ref t), some (.ref b), some (va_rf (l c))] [] [[(t, .inr (27, [.null, va_rf vs, .null, va_rf (rlRoot (rlRoot root b x) c x), .int (nI n), .int (nI md), va_rf es, va_rf nk, .null]))], u1_252] 0 0 from ?_)
                have e9 : (rlP (rrL l r b x) (rrP r p b x) c x) b = some x := by
                  have z1 := tr_lr (x := x) hT hbm
                  have z2 := hT.2.2.2.1 x hx b
                  have z3 := hT.2.2.2.2.2.1 x hx b
                  grind [rlP, rrP, rlL, rlR, rrL, rrR]
                refine g_goto (tgt := 5) B dJ10_fixAfterInsertion_255 (by decide) ?_
                refine g_fg 2 rfl ?_
                exact ih5 _ (by rw [← hmu5]; exact fim_z _ hpx c24 e9 ((fup_n hxc).trans (fup_s _ _ _))) b (rlL (rrL l r b x) c x) (rlR (rrL l r b x) (rrR r b x) c x) (rlP (rrL l r b x) (rrP r p b x) c x) (fup (fup col x true) c false) _ _ (rlRoot (rlRoot root b x) c x) u1_252 hu1_252 (hT2_252) (hbm) rfl
            · skip
              obtain ⟨y, hy, hyc⟩ := oc_f c166
              have hym := tr_lm hT hcm hy
              rw [hy]
              refine (show Go g κ 169 [some (.ref t), some (.ref x), some (.ref y)] [] [[(t, .inr (27, [.null, va_rf vs, .null, va_rf root, .int (nI n), .int (nI md), va_rf es, va_rf nk, .null]))], l5_1] 0 0 from ?_)
              refine g_aload_n (q := 170) B dJ10_fixAfterInsertion_169 rfl rfl (rv_r _) ?_
              refine g_callS (q := 173) (is := [1]) (kc2 := 0) (ks2 := 0) B [.ref x] (ct_J10_parentOf_r g J (ns := ns) (key := key) (val := val) (l := l) (r := r) (p := p) (col := col) (a := x) hl5_1 (by first | assumption | omega | rfl)) dJ10_fixAfterInsertion_170 rfl q2141 q2142 q91 q2143 rfl rfl moJ10_parentOf rfl rfl (by decide) (by decide) (Nat.le_of_ble_eq_true rfl) (Nat.le_of_ble_eq_true rfl) (Nat.le_of_ble_eq_true rfl) (fun _ _ hx => noX_x hx) (fun v170 L1 hp170 => ?_)
              obtain ⟨rfl, rfl⟩ := hp170
              rw [(show p x = some b from hpx)]
              refine (show Go g κ 173 [some (.ref t), some (.ref x), some (.ref y)] [.ref b] [[(t, .inr (27, [.null, va_rf vs, .null, va_rf root, .int (nI n), .int (nI md), va_rf es, va_rf nk, .null]))], l5_1] 0 0 from ?_)
              refine g_iconst (v := nI 1) (q := 174) B dJ10_fixAfterInsertion_173 rfl (by decide) ?_
              refine g_callS (q := 177) (is := [1]) (kc2 := 0) (ks2 := 0) B [.ref b, .int (nI 1)] (ct_J10_setColor_r g J (ns := ns) (key := key) (val := val) (l := l) (r := r) (p := p) (col := col) (a := b) (c := true) hl5_1 (by first | assumption | omega | rfl)) dJ10_fixAfterInsertion_174 rfl q2153 q2154 q91 q2155 rfl rfl moJ10_setColor rfl rfl (by decide) (by decide) (Nat.le_of_ble_eq_true rfl) (Nat.le_of_ble_eq_true rfl) (Nat.le_of_ble_eq_true rfl) (fun _ _ hx => noX_x hx) (fun v174 L1 hp174 => ?_)
              obtain ⟨u0_174, rfl, rfl, hu0_174⟩ := hp174
              refine (show Go g κ 177 [some (.ref t), some (.ref x), some (.ref y)] [] [[(t, .inr (27, [.null, va_rf vs, .null, va_rf root, .int (nI n), .int (nI md), va_rf es, va_rf nk, .null]))], u0_174] 0 0 from ?_)
              refine g_aload_n (q := 178) B dJ10_fixAfterInsertion_177 rfl rfl (rv_r _) ?_
              refine g_iconst (v := nI 1) (q := 179) B dJ10_fixAfterInsertion_178 rfl (by decide) ?_
              refine g_callS (q := 182) (is := [1]) (kc2 := 0) (ks2 := 0) B [.ref y, .int (nI 1)] (ct_J10_setColor_r g J (ns := ns) (key := key) (val := val) (l := l) (r := r) (p := p) (col := fup col b true) (a := y) (c := true) hu0_174 (by first | assumption | omega | rfl)) dJ10_fixAfterInsertion_179 rfl q2153 q2154 q91 q2155 rfl rfl moJ10_setColor rfl rfl (by decide) (by decide) (Nat.le_of_ble_eq_true rfl) (Nat.le_of_ble_eq_true rfl) (Nat.le_of_ble_eq_true rfl) (fun _ _ hx => noX_x hx) (fun v179 L1 hp179 => ?_)
              obtain ⟨u0_179, rfl, rfl, hu0_179⟩ := hp179
              refine (show Go g κ 182 [some (.ref t), some (.ref x), some (.ref y)] [] [[(t, .inr (27, [.null, va_rf vs, .null, va_rf root, .int (nI n), .int (nI md), va_rf es, va_rf nk, .null]))], u0_179] 0 0 from ?_)
              refine g_aload_n (q := 183) B dJ10_fixAfterInsertion_182 rfl rfl (rv_r _) ?_
              refine g_callS (q := 186) (is := [1]) (kc2 := 0) (ks2 := 0) B [.ref x] (ct_J10_parentOf_r g J (ns := ns) (key := key) (val := val) (l := l) (r := r) (p := p) (col := fup (fup col b true) y true) (a := x) hu0_179 (by first | assumption | omega | rfl)) dJ10_fixAfterInsertion_183 rfl q2141 q2142 q91 q2143 rfl rfl moJ10_parentOf rfl rfl (by decide) (by decide) (Nat.le_of_ble_eq_true rfl) (Nat.le_of_ble_eq_true rfl) (Nat.le_of_ble_eq_true rfl) (fun _ _ hx => noX_x hx) (fun v183 L1 hp183 => ?_)
              obtain ⟨rfl, rfl⟩ := hp183
              rw [(show p x = some b from hpx)]
              refine (show Go g κ 186 [some (.ref t), some (.ref x), some (.ref y)] [.ref b] [[(t, .inr (27, [.null, va_rf vs, .null, va_rf root, .int (nI n), .int (nI md), va_rf es, va_rf nk, .null]))], u0_179] 0 0 from ?_)
              refine g_callS (q := 189) (is := [1]) (kc2 := 0) (ks2 := 0) B [.ref b] (ct_J10_parentOf_r g J (ns := ns) (key := key) (val := val) (l := l) (r := r) (p := p) (col := fup (fup col b true) y true) (a := b) hu0_179 (by first | assumption | omega | rfl)) dJ10_fixAfterInsertion_186 rfl q2141 q2142 q91 q2143 rfl rfl moJ10_parentOf rfl rfl (by decide) (by decide) (Nat.le_of_ble_eq_true rfl) (Nat.le_of_ble_eq_true rfl) (Nat.le_of_ble_eq_true rfl) (fun _ _ hx => noX_x hx) (fun v186 L1 hp186 => ?_)
              obtain ⟨rfl, rfl⟩ := hp186
              rw [(show p b = some c from hgp)]
              refine (show Go g κ 189 [some (.ref t), some (.ref x), some (.ref y)] [.ref c] [[(t, .inr (27, [.null, va_rf vs, .null, va_rf root, .int (nI n), .int (nI md), va_rf es, va_rf nk, .null]))], u0_179] 0 0 from ?_)
              refine g_iconst (v := nI 0) (q := 190) B dJ10_fixAfterInsertion_189 rfl (by decide) ?_
              refine g_callS (q := 193) (is := [1]) (kc2 := 0) (ks2 := 0) B [.ref c, .int (nI 0)] (ct_J10_setColor_r g J (ns := ns) (key := key) (val := val) (l := l) (r := r) (p := p) (col := fup (fup col b true) y true) (a := c) (c := false) hu0_179 (by first | assumption | omega | rfl)) dJ10_fixAfterInsertion_190 rfl q2153 q2154 q91 q2155 rfl rfl moJ10_setColor rfl rfl (by decide) (by decide) (Nat.le_of_ble_eq_true rfl) (Nat.le_of_ble_eq_true rfl) (Nat.le_of_ble_eq_true rfl) (fun _ _ hx => noX_x hx) (fun v190 L1 hp190 => ?_)
              obtain ⟨u0_190, rfl, rfl, hu0_190⟩ := hp190
              refine (show Go g κ 193 [some (.ref t), some (.ref x), some (.ref y)] [] [[(t, .inr (27, [.null, va_rf vs, .null, va_rf root, .int (nI n), .int (nI md), va_rf es, va_rf nk, .null]))], u0_190] 0 0 from ?_)
              refine g_aload_n (q := 194) B dJ10_fixAfterInsertion_193 rfl rfl (rv_r _) ?_
              refine g_callS (q := 197) (is := [1]) (kc2 := 0) (ks2 := 0) B [.ref x] (ct_J10_parentOf_r g J (ns := ns) (key := key) (val := val) (l := l) (r := r) (p := p) (col := fup (fup (fup col b true) y true) c false) (a := x) hu0_190 (by first | assumption | omega | rfl)) dJ10_fixAfterInsertion_194 rfl q2141 q2142 q91 q2143 rfl rfl moJ10_parentOf rfl rfl (by decide) (by decide) (Nat.le_of_ble_eq_true rfl) (Nat.le_of_ble_eq_true rfl) (Nat.le_of_ble_eq_true rfl) (fun _ _ hx => noX_x hx) (fun v194 L1 hp194 => ?_)
              obtain ⟨rfl, rfl⟩ := hp194
              rw [(show p x = some b from hpx)]
              refine (show Go g κ 197 [some (.ref t), some (.ref x), some (.ref y)] [.ref b] [[(t, .inr (27, [.null, va_rf vs, .null, va_rf root, .int (nI n), .int (nI md), va_rf es, va_rf nk, .null]))], u0_190] 0 0 from ?_)
              refine g_callS (q := 200) (is := [1]) (kc2 := 0) (ks2 := 0) B [.ref b] (ct_J10_parentOf_r g J (ns := ns) (key := key) (val := val) (l := l) (r := r) (p := p) (col := fup (fup (fup col b true) y true) c false) (a := b) hu0_190 (by first | assumption | omega | rfl)) dJ10_fixAfterInsertion_197 rfl q2141 q2142 q91 q2143 rfl rfl moJ10_parentOf rfl rfl (by decide) (by decide) (Nat.le_of_ble_eq_true rfl) (Nat.le_of_ble_eq_true rfl) (Nat.le_of_ble_eq_true rfl) (fun _ _ hx => noX_x hx) (fun v197 L1 hp197 => ?_)
              obtain ⟨rfl, rfl⟩ := hp197
              rw [(show p b = some c from hgp)]
              refine (show Go g κ 200 [some (.ref t), some (.ref x), some (.ref y)] [.ref c] [[(t, .inr (27, [.null, va_rf vs, .null, va_rf root, .int (nI n), .int (nI md), va_rf es, va_rf nk, .null]))], u0_190] 0 0 from ?_)
              refine g_astore_n (q := 201) (lv2 := [some (.ref t), some (.ref c), some (.ref y)]) B dJ10_fixAfterInsertion_200 rfl (Nat.le_of_ble_eq_true rfl) (rv_r _) rfl ?_
              refine g_goto (tgt := 255) B dJ10_fixAfterInsertion_201 (by decide) ?_
              refine g_goto (tgt := 5) B dJ10_fixAfterInsertion_255 (by decide) ?_
              refine g_fg 2 rfl ?_
              exact ih5 _ (by rw [← hmu5]; exact fim_up hT hx hpx hgp c24) c l r p (fup (fup (fup col b true) y true) c false) lo hi root u0_190 hu0_190 (hT) (hcm) rfl
          · skip
            have hlc : l c = some b := Classical.not_not.mp c41
            refine g_aload_n (q := 45) B dJ10_fixAfterInsertion_44 rfl rfl (rv_r _) ?_
            refine g_callS (q := 48) (is := [1]) (kc2 := 0) (ks2 := 0) B [.ref x] (ct_J10_parentOf_r g J (ns := ns) (key := key) (val := val) (l := l) (r := r) (p := p) (col := col) (a := x) hl5_1 (by first | assumption | omega | rfl)) dJ10_fixAfterInsertion_45 rfl q2141 q2142 q91 q2143 rfl rfl moJ10_parentOf rfl rfl (by decide) (by decide) (Nat.le_of_ble_eq_true rfl) (Nat.le_of_ble_eq_true rfl) (Nat.le_of_ble_eq_true rfl) (fun _ _ hx => noX_x hx) (fun v45 L1 hp45 => ?_)
            obtain ⟨rfl, rfl⟩ := hp45
            rw [(show p x = some b from hpx)]
            refine (show Go g κ 48 [some (.ref t), some (.ref x), none] [.ref b] [[(t, .inr (27, [.null, va_rf vs, .null, va_rf root, .int (nI n), .int (nI md), va_rf es, va_rf nk, .null]))], l5_1] 0 0 from ?_)
            refine g_callS (q := 51) (is := [1]) (kc2 := 0) (ks2 := 0) B [.ref b] (ct_J10_parentOf_r g J (ns := ns) (key := key) (val := val) (l := l) (r := r) (p := p) (col := col) (a := b) hl5_1 (by first | assumption | omega | rfl)) dJ10_fixAfterInsertion_48 rfl q2141 q2142 q91 q2143 rfl rfl moJ10_parentOf rfl rfl (by decide) (by decide) (Nat.le_of_ble_eq_true rfl) (Nat.le_of_ble_eq_true rfl) (Nat.le_of_ble_eq_true rfl) (fun _ _ hx => noX_x hx) (fun v48 L1 hp48 => ?_)
            obtain ⟨rfl, rfl⟩ := hp48
            rw [(show p b = some c from hgp)]
            refine (show Go g κ 51 [some (.ref t), some (.ref x), none] [.ref c] [[(t, .inr (27, [.null, va_rf vs, .null, va_rf root, .int (nI n), .int (nI md), va_rf es, va_rf nk, .null]))], l5_1] 0 0 from ?_)
            refine g_callS (q := 54) (is := [1]) (kc2 := 0) (ks2 := 0) B [.ref c] (ct_J10_rightOf_r g J (ns := ns) (key := key) (val := val) (l := l) (r := r) (p := p) (col := col) (a := c) hl5_1 (by first | assumption | omega | rfl)) dJ10_fixAfterInsertion_51 rfl q2147 q2148 q91 q2149 rfl rfl moJ10_rightOf rfl rfl (by decide) (by decide) (Nat.le_of_ble_eq_true rfl) (Nat.le_of_ble_eq_true rfl) (Nat.le_of_ble_eq_true rfl) (fun _ _ hx => noX_x hx) (fun v51 L1 hp51 => ?_)
            obtain ⟨rfl, rfl⟩ := hp51
            refine (show Go g κ 54 [some (.ref t), some (.ref x), none] [va_rf (r c)] [[(t, .inr (27, [.null, va_rf vs, .null, va_rf root, .int (nI n), .int (nI md), va_rf es, va_rf nk, .null]))], l5_1] 0 0 from ?_)
            refine g_astore_n (q := 55) (lv2 := [some (.ref t), some (.ref x), some (va_rf (r c))]) B dJ10_fixAfterInsertion_54 rfl (Nat.le_of_ble_eq_true rfl) (rv_o _) rfl ?_
            refine g_aload_n (q := 56) B dJ10_fixAfterInsertion_55 rfl rfl (rv_o _) ?_
            refine g_callS (q := 59) (is := [1]) (kc2 := 0) (ks2 := 0) B [va_rf (r c)] (ct_J10_colorOf g J (ns := ns) (key := key) (val := val) (l := l) (r := r) (p := p) (col := col) (x := r c) hl5_1 (om_r hT hcm)) dJ10_fixAfterInsertion_56 rfl q2150 q2151 q91 q2152 rfl rfl moJ10_colorOf rfl rfl (by decide) (by decide) (Nat.le_of_ble_eq_true rfl) (Nat.le_of_ble_eq_true rfl) (Nat.le_of_ble_eq_true rfl) (fun _ _ hx => noX_x hx) (fun v56 L1 hp56 => ?_)
            obtain ⟨rfl, rfl⟩ := hp56
            refine (show Go g κ 59 [some (.ref t), some (.ref x), some (va_rf (r c))] [.int (nI (if oc col (r c) = true then 1 else 0))] [[(t, .inr (27, [.null, va_rf vs, .null, va_rf root, .int (nI n), .int (nI md), va_rf es, va_rf nk, .null]))], l5_1] 0 0 from ?_)
            refine g_if_ne (tgt := 97) (q := 62) B dJ10_fixAfterInsertion_59 rfl (by decide) (bo_ne) (fun c59 => ?_) (fun c59 => ?_)
            · skip
              refine g_aload_n (q := 98) B dJ10_fixAfterInsertion_97 rfl rfl (rv_r _) ?_
              refine g_aload_n (q := 99) B dJ10_fixAfterInsertion_98 rfl rfl (rv_r _) ?_
              refine g_callS (q := 102) (is := [1]) (kc2 := 0) (ks2 := 0) B [.ref x] (ct_J10_parentOf_r g J (ns := ns) (key := key) (val := val) (l := l) (r := r) (p := p) (col := col) (a := x) hl5_1 (by first | assumption | omega | rfl)) dJ10_fixAfterInsertion_99 rfl q2141 q2142 q91 q2143 rfl rfl moJ10_parentOf rfl rfl (by decide) (by decide) (Nat.le_of_ble_eq_true rfl) (Nat.le_of_ble_eq_true rfl) (Nat.le_of_ble_eq_true rfl) (fun _ _ hx => noX_x hx) (fun v99 L1 hp99 => ?_)
              obtain ⟨rfl, rfl⟩ := hp99
              rw [(show p x = some b from hpx)]
              refine (show Go g κ 102 [some (.ref t), some (.ref x), some (va_rf (r c))] [.ref b, .ref x] [[(t, .inr (27, [.null, va_rf vs, .null, va_rf root, .int (nI n), .int (nI md), va_rf es, va_rf nk, .null]))], l5_1] 0 0 from ?_)
              refine g_callS (q := 105) (is := [1]) (kc2 := 0) (ks2 := 0) B [.ref b] (ct_J10_rightOf_r g J (ns := ns) (key := key) (val := val) (l := l) (r := r) (p := p) (col := col) (a := b) hl5_1 (by first | assumption | omega | rfl)) dJ10_fixAfterInsertion_102 rfl q2147 q2148 q91 q2149 rfl rfl moJ10_rightOf rfl rfl (by decide) (by decide) (Nat.le_of_ble_eq_true rfl) (Nat.le_of_ble_eq_true rfl) (Nat.le_of_ble_eq_true rfl) (fun _ _ hx => noX_x hx) (fun v102 L1 hp102 => ?_)
              obtain ⟨rfl, rfl⟩ := hp102
              refine (show Go g κ 105 [some (.ref t), some (.ref x), some (va_rf (r c))] [va_rf (r b), .ref x] [[(t, .inr (27, [.null, va_rf vs, .null, va_rf root, .int (nI n), .int (nI md), va_rf es, va_rf nk, .null]))], l5_1] 0 0 from ?_)
              refine g_acmp_ne (rx := some x) (ry := r b) (tgt := 118) (q := 108) B dJ10_fixAfterInsertion_105 rfl (by decide) rfl rfl (acn) (fun c105 => ?_) (fun c105 => ?_)
              · skip
                have hob : l b = some x := (hT.2.2.2.2.2.2.2.1 x hx b hpx).2.resolve_right c105
                refine g_aload_n (q := 119) B dJ10_fixAfterInsertion_118 rfl rfl (rv_r _) ?_
                refine g_callS (q := 122) (is := [1]) (kc2 := 0) (ks2 := 0) B [.ref x] (ct_J10_parentOf_r g J (ns := ns) (key := key) (val := val) (l := l) (r := r) (p := p) (col := col) (a := x) hl5_1 (by first | assumption | omega | rfl)) dJ10_fixAfterInsertion_119 rfl q2141 q2142 q91 q2143 rfl rfl moJ10_parentOf rfl rfl (by decide) (by decide) (Nat.le_of_ble_eq_true rfl) (Nat.le_of_ble_eq_true rfl) (Nat.le_of_ble_eq_true rfl) (fun _ _ hx => noX_x hx) (fun v119 L1 hp119 => ?_)
                obtain ⟨rfl, rfl⟩ := hp119
                rw [(show p x = some b from hpx)]
                refine (show Go g κ 122 [some (.ref t), some (.ref x), some (va_rf (r c))] [.ref b] [[(t, .inr (27, [.null, va_rf vs, .null, va_rf root, .int (nI n), .int (nI md), va_rf es, va_rf nk, .null]))], l5_1] 0 0 from ?_)
                refine g_iconst (v := nI 1) (q := 123) B dJ10_fixAfterInsertion_122 rfl (by decide) ?_
                refine g_callS (q := 126) (is := [1]) (kc2 := 0) (ks2 := 0) B [.ref b, .int (nI 1)] (ct_J10_setColor_r g J (ns := ns) (key := key) (val := val) (l := l) (r := r) (p := p) (col := col) (a := b) (c := true) hl5_1 (by first | assumption | omega | rfl)) dJ10_fixAfterInsertion_123 rfl q2153 q2154 q91 q2155 rfl rfl moJ10_setColor rfl rfl (by decide) (by decide) (Nat.le_of_ble_eq_true rfl) (Nat.le_of_ble_eq_true rfl) (Nat.le_of_ble_eq_true rfl) (fun _ _ hx => noX_x hx) (fun v123 L1 hp123 => ?_)
                obtain ⟨u0_123, rfl, rfl, hu0_123⟩ := hp123
                refine (show Go g κ 126 [some (.ref t), some (.ref x), some (va_rf (r c))] [] [[(t, .inr (27, [.null, va_rf vs, .null, va_rf root, .int (nI n), .int (nI md), va_rf es, va_rf nk, .null]))], u0_123] 0 0 from ?_)
                refine g_aload_n (q := 127) B dJ10_fixAfterInsertion_126 rfl rfl (rv_r _) ?_
                refine g_callS (q := 130) (is := [1]) (kc2 := 0) (ks2 := 0) B [.ref x] (ct_J10_parentOf_r g J (ns := ns) (key := key) (val := val) (l := l) (r := r) (p := p) (col := fup col b true) (a := x) hu0_123 (by first | assumption | omega | rfl)) dJ10_fixAfterInsertion_127 rfl q2141 q2142 q91 q2143 rfl rfl moJ10_parentOf rfl rfl (by decide) (by decide) (Nat.le_of_ble_eq_true rfl) (Nat.le_of_ble_eq_true rfl) (Nat.le_of_ble_eq_true rfl) (fun _ _ hx => noX_x hx) (fun v127 L1 hp127 => ?_)
                obtain ⟨rfl, rfl⟩ := hp127
                rw [(show p x = some b from hpx)]
                refine (show Go g κ 130 [some (.ref t), some (.ref x), some (va_rf (r c))] [.ref b] [[(t, .inr (27, [.null, va_rf vs, .null, va_rf root, .int (nI n), .int (nI md), va_rf es, va_rf nk, .null]))], u0_123] 0 0 from ?_)
                refine g_callS (q := 133) (is := [1]) (kc2 := 0) (ks2 := 0) B [.ref b] (ct_J10_parentOf_r g J (ns := ns) (key := key) (val := val) (l := l) (r := r) (p := p) (col := fup col b true) (a := b) hu0_123 (by first | assumption | omega | rfl)) dJ10_fixAfterInsertion_130 rfl q2141 q2142 q91 q2143 rfl rfl moJ10_parentOf rfl rfl (by decide) (by decide) (Nat.le_of_ble_eq_true rfl) (Nat.le_of_ble_eq_true rfl) (Nat.le_of_ble_eq_true rfl) (fun _ _ hx => noX_x hx) (fun v130 L1 hp130 => ?_)
                obtain ⟨rfl, rfl⟩ := hp130
                rw [(show p b = some c from hgp)]
                refine (show Go g κ 133 [some (.ref t), some (.ref x), some (va_rf (r c))] [.ref c] [[(t, .inr (27, [.null, va_rf vs, .null, va_rf root, .int (nI n), .int (nI md), va_rf es, va_rf nk, .null]))], u0_123] 0 0 from ?_)
                refine g_iconst (v := nI 0) (q := 134) B dJ10_fixAfterInsertion_133 rfl (by decide) ?_
                refine g_callS (q := 137) (is := [1]) (kc2 := 0) (ks2 := 0) B [.ref c, .int (nI 0)] (ct_J10_setColor_r g J (ns := ns) (key := key) (val := val) (l := l) (r := r) (p := p) (col := fup col b true) (a := c) (c := false) hu0_123 (by first | assumption | omega | rfl)) dJ10_fixAfterInsertion_134 rfl q2153 q2154 q91 q2155 rfl rfl moJ10_setColor rfl rfl (by decide) (by decide) (Nat.le_of_ble_eq_true rfl) (Nat.le_of_ble_eq_true rfl) (Nat.le_of_ble_eq_true rfl) (fun _ _ hx => noX_x hx) (fun v134 L1 hp134 => ?_)
                obtain ⟨u0_134, rfl, rfl, hu0_134⟩ := hp134
                refine (show Go g κ 137 [some (.ref t), some (.ref x), some (va_rf (r c))] [] [[(t, .inr (27, [.null, va_rf vs, .null, va_rf root, .int (nI n), .int (nI md), va_rf es, va_rf nk, .null]))], u0_134] 0 0 from ?_)
                refine g_aload_n (q := 138) B dJ10_fixAfterInsertion_137 rfl rfl (rv_r _) ?_
                refine g_aload_n (q := 139) B dJ10_fixAfterInsertion_138 rfl rfl (rv_r _) ?_
                refine g_callS (q := 142) (is := [1]) (kc2 := 0) (ks2 := 0) B [.ref x] (ct_J10_parentOf_r g J (ns := ns) (key := key) (val := val) (l := l) (r := r) (p := p) (col := fup (fup col b true) c false) (a := x) hu0_134 (by first | assumption | omega | rfl)) dJ10_fixAfterInsertion_139 rfl q2141 q2142 q91 q2143 rfl rfl moJ10_parentOf rfl rfl (by decide) (by decide) (Nat.le_of_ble_eq_true rfl) (Nat.le_of_ble_eq_true rfl) (Nat.le_of_ble_eq_true rfl) (fun _ _ hx => noX_x hx) (fun v139 L1 hp139 => ?_)
                obtain ⟨rfl, rfl⟩ := hp139
                rw [(show p x = some b from hpx)]
                refine (show Go g κ 142 [some (.ref t), some (.ref x), some (va_rf (r c))] [.ref b, .ref t] [[(t, .inr (27, [.null, va_rf vs, .null, va_rf root, .int (nI n), .int (nI md), va_rf es, va_rf nk, .null]))], u0_134] 0 0 from ?_)
                refine g_callS (q := 145) (is := [1]) (kc2 := 0) (ks2 := 0) B [.ref b] (ct_J10_parentOf_r g J (ns := ns) (key := key) (val := val) (l := l) (r := r) (p := p) (col := fup (fup col b true) c false) (a := b) hu0_134 (by first | assumption | omega | rfl)) dJ10_fixAfterInsertion_142 rfl q2141 q2142 q91 q2143 rfl rfl moJ10_parentOf rfl rfl (by decide) (by decide) (Nat.le_of_ble_eq_true rfl) (Nat.le_of_ble_eq_true rfl) (Nat.le_of_ble_eq_true rfl) (fun _ _ hx => noX_x hx) (fun v142 L1 hp142 => ?_)
                obtain ⟨rfl, rfl⟩ := hp142
                rw [(show p b = some c from hgp)]
                refine (show Go g κ 145 [some (.ref t), some (.ref x), some (va_rf (r c))] [.ref c, .ref t] [[(t, .inr (27, [.null, va_rf vs, .null, va_rf root, .int (nI n), .int (nI md), va_rf es, va_rf nk, .null]))], u0_134] 0 0 from ?_)
                refine g_callV (q := 148) (is := [0, 0]) (kc2 := 0) (ks2 := 0) B [.ref c] (ct_J10_rotateRight g J (t := t) (vs := vs) (n := n) (md := md) (es := es) (nk := nk) (ns := ns) (key := key) (val := val) (l := l) (r := r) (p := p) (col := fup (fup col b true) c false) (lo := _) (hi := _) (root := root) (M := M) (kc := key) (a := c) (b := b) hu0_134 (hT) (hcm) (hlc)) dJ10_fixAfterInsertion_145 rfl (rc_at B (ci := 27) rfl (k := 0) rfl) rfl q2160 q2162 qs21 q91 q2163 rfl rfl moJ10_rotateRight rfl rfl (by decide) (by decide) (Nat.le_of_ble_eq_true rfl) (Nat.le_of_ble_eq_true rfl) (Nat.le_of_ble_eq_true rfl) (fun _ _ hx => noX_x hx) (fun v145 L1 hp145 => ?_)
                obtain ⟨u1_145, rfl, rfl, hu1_145, hT2_145⟩ := hp145
                refine (show Go g κ 148 [some (.ref t), some (.ref x), some (va_rf (r c))] [] [[(t, .inr (27, [.null, va_rf vs, .null, va_rf (rlRoot root c b), .int (nI n), .int (nI md), va_rf es, va_rf nk, .null]))], u1_145] 0 0 from ?_)
                have e9 : (rrP r p c b) x = some b := by
                  have z1 := tr_lr (x := x) hT hbm
                  have z2 := hT.2.2.2.1 x hx b
                  have z3 := hT.2.2.2.2.2.1 x hx b
                  grind [rlP, rrP, rlL, rlR, rrL, rrR]
                refine g_goto (tgt := 5) B dJ10_fixAfterInsertion_148 (by decide) ?_
                refine g_fg 2 rfl ?_
                exact ih5 _ (by rw [← hmu5]; exact fim_z _ hpx c24 e9 ((fup_n hbc).trans (fup_s _ _ _))) x (rrL l r c b) (rrR r c b) (rrP r p c b) (fup (fup col b true) c false) _ _ (rlRoot root c b) u1_145 hu1_145 (hT2_145) (hx) rfl
              · skip
                have hfb : r b = some x := Classical.not_not.mp c105
                refine g_aload_n (q := 109) B dJ10_fixAfterInsertion_108 rfl rfl (rv_r _) ?_
                refine g_callS (q := 112) (is := [1]) (kc2 := 0) (ks2 := 0) B [.ref x] (ct_J10_parentOf_r g J (ns := ns) (key := key) (val := val) (l := l) (r := r) (p := p) (col := col) (a := x) hl5_1 (by first | assumption | omega | rfl)) dJ10_fixAfterInsertion_109 rfl q2141 q2142 q91 q2143 rfl rfl moJ10_parentOf rfl rfl (by decide) (by decide) (Nat.le_of_ble_eq_true rfl) (Nat.le_of_ble_eq_true rfl) (Nat.le_of_ble_eq_true rfl) (fun _ _ hx => noX_x hx) (fun v109 L1 hp109 => ?_)
                obtain ⟨rfl, rfl⟩ := hp109
                rw [(show p x = some b from hpx)]
                refine (show Go g κ 112 [some (.ref t), some (.ref x), some (va_rf (r c))] [.ref b] [[(t, .inr (27, [.null, va_rf vs, .null, va_rf root, .int (nI n), .int (nI md), va_rf es, va_rf nk, .null]))], l5_1] 0 0 from ?_)
                refine g_astore_n (q := 113) (lv2 := [some (.ref t), some (.ref b), some (va_rf (r c))]) B dJ10_fixAfterInsertion_112 rfl (Nat.le_of_ble_eq_true rfl) (rv_r _) rfl ?_
                refine g_aload_n (q := 114) B dJ10_fixAfterInsertion_113 rfl rfl (rv_r _) ?_
                refine g_aload_n (q := 115) B dJ10_fixAfterInsertion_114 rfl rfl (rv_r _) ?_
                refine g_callV (q := 118) (is := [0, 0]) (kc2 := 0) (ks2 := 0) B [.ref b] (ct_J10_rotateLeft g J (t := t) (vs := vs) (n := n) (md := md) (es := es) (nk := nk) (ns := ns) (key := key) (val := val) (l := l) (r := r) (p := p) (col := col) (lo := _) (hi := _) (root := root) (M := M) (kc := key) (a := b) (b := x) hl5_1 (hT) (hbm) (hfb)) dJ10_fixAfterInsertion_115 rfl (rc_at B (ci := 27) rfl (k := 0) rfl) rfl q2156 q2158 qs20 q91 q2159 rfl rfl moJ10_rotateLeft rfl rfl (by decide) (by decide) (Nat.le_of_ble_eq_true rfl) (Nat.le_of_ble_eq_true rfl) (Nat.le_of_ble_eq_true rfl) (fun _ _ hx => noX_x hx) (fun v115 L1 hp115 => ?_)
                obtain ⟨u1_115, rfl, rfl, hu1_115, hT2_115⟩ := hp115
                refine (show Go g κ 118 [some (.ref t), some (.ref b), some (va_rf (r c))] [] [[(t, .inr (27, [.null, va_rf vs, .null, va_rf (rlRoot root b x), .int (nI n), .int (nI md), va_rf es, va_rf nk, .null]))], u1_115] 0 0 from ?_)
                have e1 : (rlP l p b x) b = some x := by simp [rlP]
                have e2 : (rlP l p b x) x = p b := by simp [rlP, hxb]
                have e3 : (rlL l b x) c = some x := by simp [rlL, Ne.symm hxc, Ne.symm hbc, hlc]
                refine g_aload_n (q := 119) B dJ10_fixAfterInsertion_118 rfl rfl (rv_r _) ?_
                refine g_callS (q := 122) (is := [1]) (kc2 := 0) (ks2 := 0) B [.ref b] (ct_J10_parentOf_r g J (ns := ns) (key := key) (val := val) (l := rlL l b x) (r := rlR l r b x) (p := rlP l p b x) (col := col) (a := b) hu1_115 (by first | assumption | omega | rfl)) dJ10_fixAfterInsertion_119 rfl q2141 q2142 q91 q2143 rfl rfl moJ10_parentOf rfl rfl (by decide) (by decide) (Nat.le_of_ble_eq_true rfl) (Nat.le_of_ble_eq_true rfl) (Nat.le_of_ble_eq_true rfl) (fun _ _ hx => noX_x hx) (fun v119 L1 hp119 => ?_)
                obtain ⟨rfl, rfl⟩ := hp119
                rw [(show (rlP l p b x) b = some x from e1)]
                refine (show Go g κ 122 [some (.ref t), some (.ref b), some (va_rf (r c))] [.ref x] [[(t, .inr (27, [.null, va_rf vs, .null, va_rf (rlRoot root b x), .int (nI n), .int (nI md), va_rf es, va_rf nk, .null]))], u1_115] 0 0 from ?_)
                refine g_iconst (v := nI 1) (q := 123) B dJ10_fixAfterInsertion_122 rfl (by decide) ?_
                refine g_callS (q := 126) (is := [1]) (kc2 := 0) (ks2 := 0) B [.ref x, .int (nI 1)] (ct_J10_setColor_r g J (ns := ns) (key := key) (val := val) (l := rlL l b x) (r := rlR l r b x) (p := rlP l p b x) (col := col) (a := x) (c := true) hu1_115 (by first | assumption | omega | rfl)) dJ10_fixAfterInsertion_123 rfl q2153 q2154 q91 q2155 rfl rfl moJ10_setColor rfl rfl (by decide) (by decide) (Nat.le_of_ble_eq_true rfl) (Nat.le_of_ble_eq_true rfl) (Nat.le_of_ble_eq_true rfl) (fun _ _ hx => noX_x hx) (fun v123 L1 hp123 => ?_)
                obtain ⟨u0_123, rfl, rfl, hu0_123⟩ := hp123
                refine (show Go g κ 126 [some (.ref t), some (.ref b), some (va_rf (r c))] [] [[(t, .inr (27, [.null, va_rf vs, .null, va_rf (rlRoot root b x), .int (nI n), .int (nI md), va_rf es, va_rf nk, .null]))], u0_123] 0 0 from ?_)
                refine g_aload_n (q := 127) B dJ10_fixAfterInsertion_126 rfl rfl (rv_r _) ?_
                refine g_callS (q := 130) (is := [1]) (kc2 := 0) (ks2 := 0) B [.ref b] (ct_J10_parentOf_r g J (ns := ns) (key := key) (val := val) (l := (rlL l b x)) (r := (rlR l r b x)) (p := (rlP l p b x)) (col := fup col x true) (a := b) hu0_123 (by first | assumption | omega | rfl)) dJ10_fixAfterInsertion_127 rfl q2141 q2142 q91 q2143 rfl rfl moJ10_parentOf rfl rfl (by decide) (by decide) (Nat.le_of_ble_eq_true rfl) (Nat.le_of_ble_eq_true rfl) (Nat.le_of_ble_eq_true rfl) (fun _ _ hx => noX_x hx) (fun v127 L1 hp127 => ?_)
                obtain ⟨rfl, rfl⟩ := hp127
                rw [(show (rlP l p b x) b = some x from e1)]
                refine (show Go g κ 130 [some (.ref t), some (.ref b), some (va_rf (r c))] [.ref x] [[(t, .inr (27, [.null, va_rf vs, .null, va_rf (rlRoot root b x), .int (nI n), .int (nI md), va_rf es, va_rf nk, .null]))], u0_123] 0 0 from ?_)
                refine g_callS (q := 133) (is := [1]) (kc2 := 0) (ks2 := 0) B [.ref x] (ct_J10_parentOf_r g J (ns := ns) (key := key) (val := val) (l := (rlL l b x)) (r := (rlR l r b x)) (p := (rlP l p b x)) (col := fup col x true) (a := x) hu0_123 (by first | assumption | omega | rfl)) dJ10_fixAfterInsertion_130 rfl q2141 q2142 q91 q2143 rfl rfl moJ10_parentOf rfl rfl (by decide) (by decide) (Nat.le_of_ble_eq_true rfl) (Nat.le_of_ble_eq_true rfl) (Nat.le_of_ble_eq_true rfl) (fun _ _ hx => noX_x hx) (fun v130 L1 hp130 => ?_)
                obtain ⟨rfl, rfl⟩ := hp130
                rw [(show (rlP l p b x) x = some c from (e2.trans hgp))]
                refine (show Go g κ 133 [some (.ref t), some (.ref b), some (va_rf (r c))] [.ref c] [[(t, .inr (27, [.null, va_rf vs, .null, va_rf (rlRoot root b x), .int (nI n), .int (nI md), va_rf es, va_rf nk, .null]))], u0_123] 0 0 from ?_)
                refine g_iconst (v := nI 0) (q := 134) B dJ10_fixAfterInsertion_133 rfl (by decide) ?_
                refine g_callS (q := 137) (is := [1]) (kc2 := 0) (ks2 := 0) B [.ref c, .int (nI 0)] (ct_J10_setColor_r g J (ns := ns) (key := key) (val := val) (l := (rlL l b x)) (r := (rlR l r b x)) (p := (rlP l p b x)) (col := fup col x true) (a := c) (c := false) hu0_123 (by first | assumption | omega | rfl)) dJ10_fixAfterInsertion_134 rfl q2153 q2154 q91 q2155 rfl rfl moJ10_setColor rfl rfl (by decide) (by decide) (Nat.le_of_ble_eq_true rfl) (Nat.le_of_ble_eq_true rfl) (Nat.le_of_ble_eq_true rfl) (fun _ _ hx => noX_x hx) (fun v134 L1 hp134 => ?_)
                obtain ⟨u0_134, rfl, rfl, hu0_134⟩ := hp134
                refine (show Go g κ 137 [some (.ref t), some (.ref b), some (va_rf (r c))] [] [[(t, .inr (27, [.null, va_rf vs, .null, va_rf (rlRoot root b x), .int (nI n), .int (nI md), va_rf es, va_rf nk, .null]))], u0_134] 0 0 from ?_)
                refine g_aload_n (q := 138) B dJ10_fixAfterInsertion_137 rfl rfl (rv_r _) ?_
                refine g_aload_n (q := 139) B dJ10_fixAfterInsertion_138 rfl rfl (rv_r _) ?_
                refine g_callS (q := 142) (is := [1]) (kc2 := 0) (ks2 := 0) B [.ref b] (ct_J10_parentOf_r g J (ns := ns) (key := key) (val := val) (l := (rlL l b x)) (r := (rlR l r b x)) (p := (rlP l p b x)) (col := fup (fup col x true) c false) (a := b) hu0_134 (by first | assumption | omega | rfl)) dJ10_fixAfterInsertion_139 rfl q2141 q2142 q91 q2143 rfl rfl moJ10_parentOf rfl rfl (by decide) (by decide) (Nat.le_of_ble_eq_true rfl) (Nat.le_of_ble_eq_true rfl) (Nat.le_of_ble_eq_true rfl) (fun _ _ hx => noX_x hx) (fun v139 L1 hp139 => ?_)
                obtain ⟨rfl, rfl⟩ := hp139
                rw [(show (rlP l p b x) b = some x from e1)]
                refine (show Go g κ 142 [some (.ref t), some (.ref b), some (va_rf (r c))] [.ref x, .ref t] [[(t, .inr (27, [.null, va_rf vs, .null, va_rf (rlRoot root b x), .int (nI n), .int (nI md), va_rf es, va_rf nk, .null]))], u0_134] 0 0 from ?_)
                refine g_callS (q := 145) (is := [1]) (kc2 := 0) (ks2 := 0) B [.ref x] (ct_J10_parentOf_r g J (ns := ns) (key := key) (val := val) (l := (rlL l b x)) (r := (rlR l r b x)) (p := (rlP l p b x)) (col := fup (fup col x true) c false) (a := x) hu0_134 (by first | assumption | omega | rfl)) dJ10_fixAfterInsertion_142 rfl q2141 q2142 q91 q2143 rfl rfl moJ10_parentOf rfl rfl (by decide) (by decide) (Nat.le_of_ble_eq_true rfl) (Nat.le_of_ble_eq_true rfl) (Nat.le_of_ble_eq_true rfl) (fun _ _ hx => noX_x hx) (fun v142 L1 hp142 => ?_)
                obtain ⟨rfl, rfl⟩ := hp142
                rw [(show (rlP l p b x) x = some c from (e2.trans hgp))]
                refine (show Go g κ 145 [some (.ref t), some (.ref b), some (va_rf (r c))] [.ref c, .ref t] [[(t, .inr (27, [.null, va_rf vs, .null, va_rf (rlRoot root b x), .int (nI n), .int (nI md), va_rf es, va_rf nk, .null]))], u0_134] 0 0 from ?_)
                refine g_callV (q := 148) (is := [0, 0]) (kc2 := 0) (ks2 := 0) B [.ref c] (ct_J10_rotateRight g J (t := t) (vs := vs) (n := n) (md := md) (es := es) (nk := nk) (ns := ns) (key := key) (val := val) (l := (rlL l b x)) (r := (rlR l r b x)) (p := (rlP l p b x)) (col := fup (fup col x true) c false) (lo := _) (hi := _) (root := rlRoot root b x) (M := M) (kc := key) (a := c) (b := x) hu0_134 (hT2_115) (hcm) (e3)) dJ10_fixAfterInsertion_145 rfl (rc_at B (ci := 27) rfl (k := 0) rfl) rfl q2160 q2162 qs21 q91 q2163 rfl rfl moJ10_rotateRight rfl rfl (by decide) (by decide) (Nat.le_of_ble_eq_true rfl) (Nat.le_of_ble_eq_true rfl) (Nat.le_of_ble_eq_true rfl) (fun _ _ hx => noX_x hx) (fun v145 L1 hp145 => ?_)
                obtain ⟨u1_145, rfl, rfl, hu1_145, hT2_145⟩ := hp145
                refine (show Go g κ 148 [some (.ref t), some (.ref b), some (va_rf (r c))] [] [[(t, .inr (27, [.null, va_rf vs, .null, va_rf (rlRoot (rlRoot root b x) c x), .int (nI n), .int (nI md), va_rf es, va_rf nk, .null]))], u1_145] 0 0 from ?_)
                have e9 : (rrP (rlR l r b x) (rlP l p b x) c x) b = some x := by
                  have z1 := tr_lr (x := x) hT hbm
                  have z2 := hT.2.2.2.1 x hx b
                  have z3 := hT.2.2.2.2.2.1 x hx b
                  grind [rlP, rrP, rlL, rlR, rrL, rrR]
                refine g_goto (tgt := 5) B dJ10_fixAfterInsertion_148 (by decide) ?_
                refine g_fg 2 rfl ?_
                exact ih5 _ (by rw [← hmu5]; exact fim_z _ hpx c24 e9 ((fup_n hxc).trans (fup_s _ _ _))) b (rrL (rlL l b x) (rlR l r b x) c x) (rrR (rlR l r b x) c x) (rrP (rlR l r b x) (rlP l p b x) c x) (fup (fup col x true) c false) _ _ (rlRoot (rlRoot root b x) c x) u1_145 hu1_145 (hT2_145) (hbm) rfl
            · skip
              obtain ⟨y, hy, hyc⟩ := oc_f c59
              have hym := tr_rm hT hcm hy
              rw [hy]
              refine (show Go g κ 62 [some (.ref t), some (.ref x), some (.ref y)] [] [[(t, .inr (27, [.null, va_rf vs, .null, va_rf root, .int (nI n), .int (nI md), va_rf es, va_rf nk, .null]))], l5_1] 0 0 from ?_)
              refine g_aload_n (q := 63) B dJ10_fixAfterInsertion_62 rfl rfl (rv_r _) ?_
              refine g_callS (q := 66) (is := [1]) (kc2 := 0) (ks2 := 0) B [.ref x] (ct_J10_parentOf_r g J (ns := ns) (key := key) (val := val) (l := l) (r := r) (p := p) (col := col) (a := x) hl5_1 (by first | assumption | omega | rfl)) dJ10_fixAfterInsertion_63 rfl q2141 q2142 q91 q2143 rfl rfl moJ10_parentOf rfl rfl (by decide) (by decide) (Nat.le_of_ble_eq_true rfl) (Nat.le_of_ble_eq_true rfl) (Nat.le_of_ble_eq_true rfl) (fun _ _ hx => noX_x hx) (fun v63 L1 hp63 => ?_)
              obtain ⟨rfl, rfl⟩ := hp63
              rw [(show p x = some b from hpx)]
              refine (show Go g κ 66 [some (.ref t), some (.ref x), some (.ref y)] [.ref b] [[(t, .inr (27, [.null, va_rf vs, .null, va_rf root, .int (nI n), .int (nI md), va_rf es, va_rf nk, .null]))], l5_1] 0 0 from ?_)
              refine g_iconst (v := nI 1) (q := 67) B dJ10_fixAfterInsertion_66 rfl (by decide) ?_
              refine g_callS (q := 70) (is := [1]) (kc2 := 0) (ks2 := 0) B [.ref b, .int (nI 1)] (ct_J10_setColor_r g J (ns := ns) (key := key) (val := val) (l := l) (r := r) (p := p) (col := col) (a := b) (c := true) hl5_1 (by first | assumption | omega | rfl)) dJ10_fixAfterInsertion_67 rfl q2153 q2154 q91 q2155 rfl rfl moJ10_setColor rfl rfl (by decide) (by decide) (Nat.le_of_ble_eq_true rfl) (Nat.le_of_ble_eq_true rfl) (Nat.le_of_ble_eq_true rfl) (fun _ _ hx => noX_x hx) (fun v67 L1 hp67 => ?_)
              obtain ⟨u0_67, rfl, rfl, hu0_67⟩ := hp67
              refine (show Go g κ 70 [some (.ref t), some (.ref x), some (.ref y)] [] [[(t, .inr (27, [.null, va_rf vs, .null, va_rf root, .int (nI n), .int (nI md), va_rf es, va_rf nk, .null]))], u0_67] 0 0 from ?_)
              refine g_aload_n (q := 71) B dJ10_fixAfterInsertion_70 rfl rfl (rv_r _) ?_
              refine g_iconst (v := nI 1) (q := 72) B dJ10_fixAfterInsertion_71 rfl (by decide) ?_
              refine g_callS (q := 75) (is := [1]) (kc2 := 0) (ks2 := 0) B [.ref y, .int (nI 1)] (ct_J10_setColor_r g J (ns := ns) (key := key) (val := val) (l := l) (r := r) (p := p) (col := fup col b true) (a := y) (c := true) hu0_67 (by first | assumption | omega | rfl)) dJ10_fixAfterInsertion_72 rfl q2153 q2154 q91 q2155 rfl rfl moJ10_setColor rfl rfl (by decide) (by decide) (Nat.le_of_ble_eq_true rfl) (Nat.le_of_ble_eq_true rfl) (Nat.le_of_ble_eq_true rfl) (fun _ _ hx => noX_x hx) (fun v72 L1 hp72 => ?_)
              obtain ⟨u0_72, rfl, rfl, hu0_72⟩ := hp72
              refine (show Go g κ 75 [some (.ref t), some (.ref x), some (.ref y)] [] [[(t, .inr (27, [.null, va_rf vs, .null, va_rf root, .int (nI n), .int (nI md), va_rf es, va_rf nk, .null]))], u0_72] 0 0 from ?_)
              refine g_aload_n (q := 76) B dJ10_fixAfterInsertion_75 rfl rfl (rv_r _) ?_
              refine g_callS (q := 79) (is := [1]) (kc2 := 0) (ks2 := 0) B [.ref x] (ct_J10_parentOf_r g J (ns := ns) (key := key) (val := val) (l := l) (r := r) (p := p) (col := fup (fup col b true) y true) (a := x) hu0_72 (by first | assumption | omega | rfl)) dJ10_fixAfterInsertion_76 rfl q2141 q2142 q91 q2143 rfl rfl moJ10_parentOf rfl rfl (by decide) (by decide) (Nat.le_of_ble_eq_true rfl) (Nat.le_of_ble_eq_true rfl) (Nat.le_of_ble_eq_true rfl) (fun _ _ hx => noX_x hx) (fun v76 L1 hp76 => ?_)
              obtain ⟨rfl, rfl⟩ := hp76
              rw [(show p x = some b from hpx)]
              refine (show Go g κ 79 [some (.ref t), some (.ref x), some (.ref y)] [.ref b] [[(t, .inr (27, [.null, va_rf vs, .null, va_rf root, .int (nI n), .int (nI md), va_rf es, va_rf nk, .null]))], u0_72] 0 0 from ?_)
              refine g_callS (q := 82) (is := [1]) (kc2 := 0) (ks2 := 0) B [.ref b] (ct_J10_parentOf_r g J (ns := ns) (key := key) (val := val) (l := l) (r := r) (p := p) (col := fup (fup col b true) y true) (a := b) hu0_72 (by first | assumption | omega | rfl)) dJ10_fixAfterInsertion_79 rfl q2141 q2142 q91 q2143 rfl rfl moJ10_parentOf rfl rfl (by decide) (by decide) (Nat.le_of_ble_eq_true rfl) (Nat.le_of_ble_eq_true rfl) (Nat.le_of_ble_eq_true rfl) (fun _ _ hx => noX_x hx) (fun v79 L1 hp79 => ?_)
              obtain ⟨rfl, rfl⟩ := hp79
              rw [(show p b = some c from hgp)]
              refine (show Go g κ 82 [some (.ref t), some (.ref x), some (.ref y)] [.ref c] [[(t, .inr (27, [.null, va_rf vs, .null, va_rf root, .int (nI n), .int (nI md), va_rf es, va_rf nk, .null]))], u0_72] 0 0 from ?_)
              refine g_iconst (v := nI 0) (q := 83) B dJ10_fixAfterInsertion_82 rfl (by decide) ?_
              refine g_callS (q := 86) (is := [1]) (kc2 := 0) (ks2 := 0) B [.ref c, .int (nI 0)] (ct_J10_setColor_r g J (ns := ns) (key := key) (val := val) (l := l) (r := r) (p := p) (col := fup (fup col b true) y true) (a := c) (c := false) hu0_72 (by first | assumption | omega | rfl)) dJ10_fixAfterInsertion_83 rfl q2153 q2154 q91 q2155 rfl rfl moJ10_setColor rfl rfl (by decide) (by decide) (Nat.le_of_ble_eq_true rfl) (Nat.le_of_ble_eq_true rfl) (Nat.le_of_ble_eq_true rfl) (fun _ _ hx => noX_x hx) (fun v83 L1 hp83 => ?_)
              obtain ⟨u0_83, rfl, rfl, hu0_83⟩ := hp83
              refine (show Go g κ 86 [some (.ref t), some (.ref x), some (.ref y)] [] [[(t, .inr (27, [.null, va_rf vs, .null, va_rf root, .int (nI n), .int (nI md), va_rf es, va_rf nk, .null]))], u0_83] 0 0 from ?_)
              refine g_aload_n (q := 87) B dJ10_fixAfterInsertion_86 rfl rfl (rv_r _) ?_
              refine g_callS (q := 90) (is := [1]) (kc2 := 0) (ks2 := 0) B [.ref x] (ct_J10_parentOf_r g J (ns := ns) (key := key) (val := val) (l := l) (r := r) (p := p) (col := fup (fup (fup col b true) y true) c false) (a := x) hu0_83 (by first | assumption | omega | rfl)) dJ10_fixAfterInsertion_87 rfl q2141 q2142 q91 q2143 rfl rfl moJ10_parentOf rfl rfl (by decide) (by decide) (Nat.le_of_ble_eq_true rfl) (Nat.le_of_ble_eq_true rfl) (Nat.le_of_ble_eq_true rfl) (fun _ _ hx => noX_x hx) (fun v87 L1 hp87 => ?_)
              obtain ⟨rfl, rfl⟩ := hp87
              rw [(show p x = some b from hpx)]
              refine (show Go g κ 90 [some (.ref t), some (.ref x), some (.ref y)] [.ref b] [[(t, .inr (27, [.null, va_rf vs, .null, va_rf root, .int (nI n), .int (nI md), va_rf es, va_rf nk, .null]))], u0_83] 0 0 from ?_)
              refine g_callS (q := 93) (is := [1]) (kc2 := 0) (ks2 := 0) B [.ref b] (ct_J10_parentOf_r g J (ns := ns) (key := key) (val := val) (l := l) (r := r) (p := p) (col := fup (fup (fup col b true) y true) c false) (a := b) hu0_83 (by first | assumption | omega | rfl)) dJ10_fixAfterInsertion_90 rfl q2141 q2142 q91 q2143 rfl rfl moJ10_parentOf rfl rfl (by decide) (by decide) (Nat.le_of_ble_eq_true rfl) (Nat.le_of_ble_eq_true rfl) (Nat.le_of_ble_eq_true rfl) (fun _ _ hx => noX_x hx) (fun v90 L1 hp90 => ?_)
              obtain ⟨rfl, rfl⟩ := hp90
              rw [(show p b = some c from hgp)]
              refine (show Go g κ 93 [some (.ref t), some (.ref x), some (.ref y)] [.ref c] [[(t, .inr (27, [.null, va_rf vs, .null, va_rf root, .int (nI n), .int (nI md), va_rf es, va_rf nk, .null]))], u0_83] 0 0 from ?_)
              refine g_astore_n (q := 94) (lv2 := [some (.ref t), some (.ref c), some (.ref y)]) B dJ10_fixAfterInsertion_93 rfl (Nat.le_of_ble_eq_true rfl) (rv_r _) rfl ?_
              refine g_goto (tgt := 148) B dJ10_fixAfterInsertion_94 (by decide) ?_
              refine g_goto (tgt := 5) B dJ10_fixAfterInsertion_148 (by decide) ?_
              refine g_fg 2 rfl ?_
              exact ih5 _ (by rw [← hmu5]; exact fim_up hT hx hpx hgp c24) c l r p (fup (fup (fup col b true) y true) c false) lo hi root u0_83 hu0_83 (hT) (hcm) rfl
  exact lp5 _ x l r p (fup col x false) lo hi root we_1_2 hwe_1_2 (hT) (hx) rfl
