set_option maxRecDepth 100000
theorem ct_word (S : Nat → Bool) (k : Nat) : fb_ct S (64 * k) + pc64 (wd S k) = fb_ct S (64 * (k + 1)) := by
  rw [Nat.mul_add, fb_ct_split, pc64_wd]
theorem ct_end {S : Nat → Bool} {n m : Nat} (h : ∀ i, 64 * n ≤ i → S i = false) (hm : n ≤ m) : fb_ct S (64 * n) = fb_ct S (64 * m) := by
  obtain ⟨d, rfl⟩ : ∃ d, m = n + d := ⟨m - n, by omega⟩
  rw [Nat.mul_add, fb_ct_split, (fb_ct_zero (p := fun k => S (64 * n + k))).mpr (fun k _ => h _ (by omega)), Nat.add_zero]
def oI (r : Option Nat) : Int32 := match r with
  | none => -1
  | some n => nI n
theorem moJ36_bitCount : Mo yJ36_bitCount 1 := by
  refine ⟨by decide, by decide, by decide +kernel⟩
theorem ct_J5_cardinality (g : Gv) (J : Jd g) {b : Nat} {S : Nat → Bool} {cap : Nat} {w0 : va_W} (hw0 : SetP g b S cap w0) : Ct g yJ5_cardinality (ws_ yJ5_cardinality cJ5_cardinality 3 (some .int)) 1 0 0 [.ref b] [w0] (fun (rv_ : Option Value) (rL_ : List va_W) => rv_ = some (.int (nI (fb_ct S (64 * cap)))) ∧ rL_ = [w0]) noX := by
  refine Ct.of "java/util/BitSet" [some (.ref b), none, none] rfl (by decide) rfl (Nat.le_of_ble_eq_true rfl) rfl ?_
  intro κ B E tb
  obtain ⟨n, arr, hn, hc0, hc1, hS, hpb, hpa⟩ := SetP.cell hw0
  refine g_iconst (v := nI 0) (q := 1) B dJ5_cardinality_0 rfl (by decide) ?_
  refine g_istore_n (q := 2) (lv2 := [some (.ref b), some (.int (nI 0)), none]) B dJ5_cardinality_1 rfl (Nat.le_of_ble_eq_true rfl) rfl ?_
  refine g_iconst (v := nI 0) (q := 3) B dJ5_cardinality_2 rfl (by decide) ?_
  refine g_istore_n (q := 4) (lv2 := [some (.ref b), some (.int (nI 0)), some (.int (nI 0))]) B dJ5_cardinality_3 rfl (Nat.le_of_ble_eq_true rfl) rfl ?_
  have lp4 : ∀ (n4 : Nat) (k : Nat) , k ≤ n → n - k = n4 → Go g κ 4 [some (.ref b), some (.int (nI (fb_ct S (64 * k)))), some (.int (nI k))] [] [w0] 0 0 := by
    intro n4
    induction n4 using Nat.strongRecOn with
    | _ n4 ih4 =>
    intro k  hk hmu4
    refine g_iload_n (q := 5) B dJ5_cardinality_4 rfl rfl ?_
    refine g_aload_n (q := 6) B dJ5_cardinality_5 rfl rfl (rv_r _) ?_
    refine g_getM (q := 9) B (ci := 26) (k := 0) (j := 1) in_J5 rfl dJ5_cardinality_6 rfl rfl (hpb) (Nat.le_of_ble_eq_true rfl) q266 rfl rfl ?_
    refine g_icmp_ge (tgt := 30) (q := 12) B dJ5_cardinality_9 rfl (by decide) (nI_leI (by omega) (by omega)) (fun c9 => ?_) (fun c9 => ?_)
    · skip
      refine g_iload_n (q := 31) B dJ5_cardinality_30 rfl rfl ?_
      exact g_iret B E dJ5_cardinality_31 (⟨by rw [show k = n by omega, ct_end hS hn], rfl⟩)
    · skip
      refine g_iload_n (q := 13) B dJ5_cardinality_12 rfl rfl ?_
      refine g_aload_n (q := 14) B dJ5_cardinality_13 rfl rfl (rv_r _) ?_
      refine g_getM (q := 17) B (ci := 26) (k := 0) (j := 0) in_J5 rfl dJ5_cardinality_14 rfl rfl (hpb) (Nat.le_of_ble_eq_true rfl) q265 rfl rfl ?_
      refine g_iload_n (q := 18) B dJ5_cardinality_17 rfl rfl ?_
      refine g_laldM (v := lN (wd S k)) (q := 19) B (k := 0) dJ5_cardinality_18 rfl rfl (hpa) (vp_in_nI (by omega) (by omega)) (by rw [nI_clamp (by omega)]) ?_
      refine g_callS (q := 22) (is := []) (kc2 := 0) (ks2 := 0) B [.long (lN (wd S k))] (ct_J36_bitCount g J (n := wd S k)  (wd_lt _ _)) dJ5_cardinality_19 rfl q1081 q1082 q127 q1083 rfl rfl moJ36_bitCount rfl rfl (by decide) (by decide) (Nat.le_of_ble_eq_true rfl) (Nat.le_of_ble_eq_true rfl) (Nat.le_of_ble_eq_true rfl) (fun _ _ hx => noX_x hx) (fun v19 L1 hp19 => ?_)
      obtain ⟨rfl, rfl⟩ := hp19
      refine (show Go g κ 22 [some (.ref b), some (.int (nI (fb_ct S (64 * k)))), some (.int (nI k))] [.int (nI (pc64 (wd S k))), .int (nI (fb_ct S (64 * k)))] [w0] 0 0 from ?_)
      refine g_iadd (v := nI (fb_ct S (64 * (k + 1)))) (q := 23) B dJ5_cardinality_22 rfl (by rw [nI_add, ct_word]) ?_
      refine g_istore_n (q := 24) (lv2 := [some (.ref b), some (.int (nI (fb_ct S (64 * (k + 1))))), some (.int (nI k))]) B dJ5_cardinality_23 rfl (Nat.le_of_ble_eq_true rfl) rfl ?_
      refine g_iinc (v := nI (k + 1)) (q := 27) (lv2 := [some (.ref b), some (.int (nI (fb_ct S (64 * (k + 1))))), some (.int (nI (k + 1)))]) B dJ5_cardinality_24 rfl rfl (nI_add _ 1) (Nat.le_of_ble_eq_true rfl) rfl ?_
      refine g_goto (tgt := 4) B dJ5_cardinality_27 (by decide) ?_
      exact ih4 _ (by omega) (k + 1) (by first | assumption | omega | rfl) rfl
  exact lp4 _ 0 (by first | assumption | omega | rfl) rfl
/-- the lowest of S from f on -/
def nxt (S : Nat → Bool) (f : Nat) (r : Option Nat) : Prop := match r with
  | none => ∀ j, f ≤ j → S j = false
  | some i => f ≤ i ∧ S i = true ∧ ∀ j, f ≤ j → j < i → S j = false
def mkN (k : Nat) : Nat := (2 ^ 64 - 1) * 2 ^ k % 2 ^ 64
theorem mkN_bit {k j : Nat} (hj : j < 64) : (mkN k).testBit j = decide (k ≤ j) := by
  unfold mkN
  rw [Nat.testBit_mod_two_pow, Nat.mul_comm, Nat.testBit_two_pow_mul, Nat.testBit_two_pow_sub_one]
  simp [hj]
  intro h; omega
theorem sh_m1 {i : Nat} (hi : i < 2 ^ 31) : (-1 : Int64) <<< ((nI i).toInt64 &&& 63) = lN (mkN (i % 64)) := by
  have h := wb_shl (2 ^ 64 - 1) (k := i % 64) (by omega)
  rw [wb_c (i % 64) (by omega)] at h
  rw [sh_amt hi, show (-1 : Int64) = lN (2 ^ 64 - 1) from rfl, h, wb_mod]
  rfl
def nsI (S : Nat → Bool) (f n u x : Nat) : Prop := u < n ∧ x < 2 ^ 64 ∧ f / 64 ≤ u ∧ (∀ j, j < 64 → x.testBit j = (decide (f ≤ 64 * u + j) && S (64 * u + j))) ∧ ∀ j, f ≤ j → j < 64 * u → S j = false
theorem nsI_0 {S : Nat → Bool} {f n : Nat} (h : f / 64 < n) : nsI S f n (f / 64) (wd S (f / 64) &&& mkN (f % 64)) := by
  refine ⟨h, Nat.lt_of_le_of_lt Nat.and_le_left (wd_lt _ _), Nat.le_refl _, fun j hj => ?_, fun j h1 h2 => by omega⟩
  rw [Nat.testBit_and, wd_bit, mkN_bit hj]
  have : (f % 64 ≤ j) ↔ (f ≤ 64 * (f / 64) + j) := by omega
  simp [hj, this, Bool.and_comm]
theorem nsI_s {S : Nat → Bool} {f n u x : Nat} (h : nsI S f n u x) (h0 : x = 0) (hu : u + 1 < n) : nsI S f n (u + 1) (wd S (u + 1)) := by
  obtain ⟨h1, h2, h3, h4, h5⟩ := h
  refine ⟨hu, wd_lt _ _, by omega, fun j hj => ?_, fun j a b => ?_⟩
  · rw [wd_bit]; simp [hj, show f ≤ 64 * (u + 1) + j by omega]
  · by_cases hj : j < 64 * u
    · exact h5 j a hj
    · have := h4 (j - 64 * u) (by omega)
      rw [h0, Nat.zero_testBit, show 64 * u + (j - 64 * u) = j by omega] at this
      simpa [a] using this.symm
theorem nsI_none {S : Nat → Bool} {f n u x : Nat} (h : nsI S f n u x) (h0 : x = 0) (hu : u + 1 = n) (hS : ∀ i, 64 * n ≤ i → S i = false) : nxt S f none := by
  obtain ⟨h1, h2, h3, h4, h5⟩ := h
  intro j a
  by_cases hj : j < 64 * u
  · exact h5 j a hj
  · by_cases hj2 : j < 64 * n
    · have := h4 (j - 64 * u) (by omega)
      rw [h0, Nat.zero_testBit, show 64 * u + (j - 64 * u) = j by omega] at this
      simpa [a] using this.symm
    · exact hS j (by omega)
theorem nsI_some {S : Nat → Bool} {f n u x t : Nat} (h : nsI S f n u x) (ht : t < 64) (h1 : x.testBit t = true) (h2 : ∀ j, j < t → x.testBit j = false) : nxt S f (some (u * 64 + t)) := by
  obtain ⟨a1, a2, a3, h4, h5⟩ := h
  have := h4 t ht
  rw [h1] at this
  simp only [Bool.true_eq, Bool.and_eq_true, decide_eq_true_eq] at this
  refine ⟨by omega, by rw [show u * 64 + t = 64 * u + t by omega]; exact this.2, fun j a b => ?_⟩
  by_cases hj : j < 64 * u
  · exact h5 j a hj
  · have hz := h4 (j - 64 * u) (by omega)
    rw [h2 _ (by omega), show 64 * u + (j - 64 * u) = j by omega] at hz
    simpa [a] using hz.symm
theorem moJ36_numberOfTrailingZeros : Mo yJ36_numberOfTrailingZeros 1 := by
  refine ⟨by decide, by decide, by decide +kernel⟩
theorem ct_J5_nextSetBit (g : Gv) (J : Jd g) {b : Nat} {S : Nat → Bool} {cap : Nat} {f : Nat} {w0 : va_W} (hw0 : SetP g b S cap w0) (hf : f < 2 ^ 31) : Ct g yJ5_nextSetBit (ws_ yJ5_nextSetBit cJ5_nextSetBit 5 (some .int)) 2 0 0 [.ref b, .int (nI f)] [w0] (fun (rv_ : Option Value) (rL_ : List va_W) => ∃ (r : Option Nat), rv_ = some (.int (oI r)) ∧ rL_ = [w0] ∧ nxt S f r) noX := by
  refine Ct.of "java/util/BitSet" [some (.ref b), some (.int (nI f)), none, none, none] rfl (by decide) rfl (Nat.le_of_ble_eq_true rfl) rfl ?_
  intro κ B E tb
  obtain ⟨n, arr, hn, hc0, hc1, hS, hpb, hpa⟩ := SetP.cell hw0
  refine g_iload_n (q := 1) B dJ5_nextSetBit_0 rfl rfl ?_
  refine g_if_ge (tgt := 31) (q := 4) B dJ5_nextSetBit_1 rfl (by decide) (iff_true_intro (nI_pos' (by omega))) (fun _ => ?_) (fun z => absurd trivial z)
  refine g_aload_n (q := 32) B dJ5_nextSetBit_31 rfl rfl (rv_r _) ?_
  refine g_callV (q := 35) (is := []) (kc2 := 0) (ks2 := 0) B [] (ct_J5_checkInvariants g J (b := b)  ) dJ5_nextSetBit_32 rfl (rc_in B (ci := 26) rfl (k := 0) rfl (SetP.hm hw0)) rfl q671 q673 qs2 q84 q674 rfl rfl moJ5_checkInvariants rfl rfl (by decide) (by decide) (Nat.le_of_ble_eq_true rfl) (Nat.le_of_ble_eq_true rfl) (Nat.le_of_ble_eq_true rfl) (fun _ _ hx => noX_x hx) (fun v32 L1 hp32 => ?_)
  obtain ⟨rfl, rfl⟩ := hp32
  refine (show Go g κ 35 [some (.ref b), some (.int (nI f)), none, none, none] [] [w0] 0 0 from ?_)
  refine g_iload_n (q := 36) B dJ5_nextSetBit_35 rfl rfl ?_
  refine g_callS (q := 39) (is := []) (kc2 := 0) (ks2 := 0) B [.int (nI f)] (ct_J5_wordIndex g J (i := f)  (by first | assumption | omega | rfl)) dJ5_nextSetBit_36 rfl q262 q263 q84 q264 rfl rfl moJ5_wordIndex rfl rfl (by decide) (by decide) (Nat.le_of_ble_eq_true rfl) (Nat.le_of_ble_eq_true rfl) (Nat.le_of_ble_eq_true rfl) (fun _ _ hx => noX_x hx) (fun v36 L1 hp36 => ?_)
  obtain ⟨rfl, rfl⟩ := hp36
  refine (show Go g κ 39 [some (.ref b), some (.int (nI f)), none, none, none] [.int (nI (f / 64))] [w0] 0 0 from ?_)
  refine g_istore_n (q := 40) (lv2 := [some (.ref b), some (.int (nI f)), some (.int (nI (f / 64))), none, none]) B dJ5_nextSetBit_39 rfl (Nat.le_of_ble_eq_true rfl) rfl ?_
  refine g_iload_n (q := 41) B dJ5_nextSetBit_40 rfl rfl ?_
  refine g_aload_n (q := 42) B dJ5_nextSetBit_41 rfl rfl (rv_r _) ?_
  refine g_getM (q := 45) B (ci := 26) (k := 0) (j := 1) in_J5 rfl dJ5_nextSetBit_42 rfl rfl (hpb) (Nat.le_of_ble_eq_true rfl) q266 rfl rfl ?_
  refine g_icmp_lt (tgt := 50) (q := 48) B dJ5_nextSetBit_45 rfl (by decide) (nI_ltI (by omega) (by omega)) (fun c45 => ?_) (fun c45 => ?_)
  · skip
    refine g_aload_n (q := 51) B dJ5_nextSetBit_50 rfl rfl (rv_r _) ?_
    refine g_getM (q := 54) B (ci := 26) (k := 0) (j := 0) in_J5 rfl dJ5_nextSetBit_51 rfl rfl (hpb) (Nat.le_of_ble_eq_true rfl) q265 rfl rfl ?_
    refine g_iload_n (q := 55) B dJ5_nextSetBit_54 rfl rfl ?_
    refine g_laldM (v := lN (wd S (f / 64))) (q := 56) B (k := 0) dJ5_nextSetBit_55 rfl rfl (hpa) (vp_in_nI (by omega) (by omega)) (by rw [nI_clamp (by omega)]) ?_
    refine g_ldc2 (v := -1) (q := 59) B dJ5_nextSetBit_56 rfl q677 ?_
    refine g_iload_n (q := 60) B dJ5_nextSetBit_59 rfl rfl ?_
    refine g_lshl (v := lN (mkN (f % 64))) (q := 61) B dJ5_nextSetBit_60 rfl (sh_m1 hf) ?_
    refine g_land (v := lN (wd S (f / 64) &&& mkN (f % 64))) (q := 62) B dJ5_nextSetBit_61 rfl (wb_and (wd_lt _ _) (Nat.mod_lt _ (by decide))) ?_
    refine g_lstore_n (q := 63) (lv2 := [some (.ref b), some (.int (nI f)), some (.int (nI (f / 64))), some (.long (lN (wd S (f / 64) &&& mkN (f % 64)))), none]) B dJ5_nextSetBit_62 rfl (Nat.le_of_ble_eq_true rfl) rfl ?_
    have lp63 : ∀ (n63 : Nat) (u : Nat) (x : Nat) , nsI S f n u x → n - u = n63 → Go g κ 63 [some (.ref b), some (.int (nI f)), some (.int (nI u)), some (.long (lN x)), none] [] [w0] 0 0 := by
      intro n63
      induction n63 using Nat.strongRecOn with
      | _ n63 ih63 =>
      intro u x  hx hmu63
      have hun := hx.1
      refine g_lload_n (q := 64) B dJ5_nextSetBit_63 rfl rfl ?_
      refine g_lconst (v := 0) (q := 65) B dJ5_nextSetBit_64 rfl (by decide) ?_
      refine g_lcmp (v := lg_cmp (lN x) 0) (q := 66) B dJ5_nextSetBit_65 rfl rfl ?_
      refine g_if_eq (tgt := 79) (q := 69) B dJ5_nextSetBit_66 rfl (by decide) (lcmp0 hx.2.1) (fun c66 => ?_) (fun c66 => ?_)
      · skip
        refine g_iinc (v := nI (u + 1)) (q := 82) (lv2 := [some (.ref b), some (.int (nI f)), some (.int (nI (u + 1))), some (.long (lN x)), none]) B dJ5_nextSetBit_79 rfl rfl (nI_add _ 1) (Nat.le_of_ble_eq_true rfl) rfl ?_
        refine g_iload_n (q := 83) B dJ5_nextSetBit_82 rfl rfl ?_
        refine g_aload_n (q := 84) B dJ5_nextSetBit_83 rfl rfl (rv_r _) ?_
        refine g_getM (q := 87) B (ci := 26) (k := 0) (j := 1) in_J5 rfl dJ5_nextSetBit_84 rfl rfl (hpb) (Nat.le_of_ble_eq_true rfl) q266 rfl rfl ?_
        refine g_icmp_ne (tgt := 92) (q := 90) B dJ5_nextSetBit_87 rfl (by decide) (not_congr (nI_eq (by omega) (by omega))) (fun c87 => ?_) (fun c87 => ?_)
        · skip
          refine g_aload_n (q := 93) B dJ5_nextSetBit_92 rfl rfl (rv_r _) ?_
          refine g_getM (q := 96) B (ci := 26) (k := 0) (j := 0) in_J5 rfl dJ5_nextSetBit_93 rfl rfl (hpb) (Nat.le_of_ble_eq_true rfl) q265 rfl rfl ?_
          refine g_iload_n (q := 97) B dJ5_nextSetBit_96 rfl rfl ?_
          refine g_laldM (v := lN (wd S (u + 1))) (q := 98) B (k := 0) dJ5_nextSetBit_97 rfl rfl (hpa) (vp_in_nI (by omega) (by omega)) (by rw [nI_clamp (by omega)]) ?_
          refine g_lstore_n (q := 99) (lv2 := [some (.ref b), some (.int (nI f)), some (.int (nI (u + 1))), some (.long (lN (wd S (u + 1)))), none]) B dJ5_nextSetBit_98 rfl (Nat.le_of_ble_eq_true rfl) rfl ?_
          refine g_goto (tgt := 63) B dJ5_nextSetBit_99 (by decide) ?_
          exact ih63 _ (by have := hx.1; omega) (u + 1) (wd S (u + 1)) (nsI_s hx c66 (by have := hx.1; omega)) rfl
        · skip
          refine g_iconst (v := -1) (q := 91) B dJ5_nextSetBit_90 rfl (by decide) ?_
          exact g_iret B E dJ5_nextSetBit_91 (⟨none, rfl, rfl, nsI_none hx c66 (by omega) hS⟩)
      · skip
        refine g_iload_n (q := 70) B dJ5_nextSetBit_69 rfl rfl ?_
        refine g_bipush (v := nI 64) (q := 72) B dJ5_nextSetBit_70 rfl (by decide) ?_
        refine g_imul (v := nI (u * 64)) (q := 73) B dJ5_nextSetBit_72 rfl (pk_mul _ _) ?_
        refine g_lload_n (q := 74) B dJ5_nextSetBit_73 rfl rfl ?_
        obtain ⟨t, ht, ht1, ht2⟩ := low_ex c66 hx.2.1
        refine g_callS (q := 77) (is := []) (kc2 := 0) (ks2 := 0) B [.long (lN x)] (ct_J36_numberOfTrailingZeros g J (n := x) (t := t)  (hx.2.1) (ht) (ht1) (ht2)) dJ5_nextSetBit_74 rfl q678 q679 q127 q680 rfl rfl moJ36_numberOfTrailingZeros rfl rfl (by decide) (by decide) (Nat.le_of_ble_eq_true rfl) (Nat.le_of_ble_eq_true rfl) (Nat.le_of_ble_eq_true rfl) (fun _ _ hx => noX_x hx) (fun v74 L1 hp74 => ?_)
        obtain ⟨rfl, rfl⟩ := hp74
        refine (show Go g κ 77 [some (.ref b), some (.int (nI f)), some (.int (nI u)), some (.long (lN x)), none] [.int (nI t), .int (nI (u * 64))] [w0] 0 0 from ?_)
        refine g_iadd (v := nI ((u * 64) + t)) (q := 78) B dJ5_nextSetBit_77 rfl (nI_add _ _) ?_
        exact g_iret B E dJ5_nextSetBit_78 (⟨some (u * 64 + t), rfl, rfl, nsI_some hx ht ht1 ht2⟩)
    exact lp63 _ (f / 64) (wd S (f / 64) &&& mkN (f % 64)) (nsI_0 c45) rfl
  · skip
    refine g_iconst (v := -1) (q := 49) B dJ5_nextSetBit_48 rfl (by decide) ?_
    exact g_iret B E dJ5_nextSetBit_49 (⟨none, rfl, rfl, fun j hj => hS j (by omega)⟩)
