set_option maxRecDepth 100000
section
variable {g : Gv} {κ : Kx} {own : String} {cc : ByteArray} {nL : Nat} {ret : Option FieldType} {lvl : Nat} {pc q : Nat} {lv : List (Option Value)} {st : List Value} {L : List va_W} {kc ks : Nat}
theorem g_ldcSw (B : Fx g κ own cc nL ret lvl) {tx : String} {index t : Nat} (hR : Has g (fun _ U _ => vk_R own index tx t U)) (d : decode cc pc = .ok (.ldc_w index, 3)) (hq : pc + 3 = q) (kk : Go g κ q lv (.ref t :: st) L kc ks) : Go g κ pc lv st L kc ks := by
  obtain ⟨p, l, e, R, s, m, args, below, meth, c, A, mc, ms, Q⟩ := κ
  obtain ⟨⟨hx, hb, hml, hown, hts⟩, ⟨-, hlk⟩, ⟨hst, hE, hA⟩, hR1, hR2, hR3, hR4⟩ := B
  subst hq
  intro H locs cells slots ls h1 h2 h3 h4 h5 T hT X
  obtain ⟨t2, a1, b1⟩ := kk H locs cells slots ls h1 h2 h3 h4 h5 T hT X
  have hZ := hR _ _ _ hE.2.2.1
  exact ⟨t2, X.ldcStringW hx hown hZ.1 hZ.2 (g := F0 m pc ls st) rfl (by rw [hb]; exact d) t2 a1, b1⟩
end
def elpI (k : Nat) : Option Nat := if k = 101 then some 0 else if k = 108 then some 1 else if k = 112 then some 2 else none
theorem b8_101 : ∀ k, k < 256 → ((nI 101 ≠ (nI k).toInt8.toInt32) ↔ ¬ k = 101) := by decide +kernel
theorem b8_108 : ∀ k, k < 256 → ((nI 108 ≠ (nI k).toInt8.toInt32) ↔ ¬ k = 108) := by decide +kernel
theorem b8_112 : ∀ k, k < 256 → ((nI 112 ≠ (nI k).toInt8.toInt32) ↔ ¬ k = 112) := by decide +kernel
theorem elpI_hi {k : Nat} (h : 255 < k) : elpI k = none := by unfold elpI; rw [if_neg (by omega), if_neg (by omega), if_neg (by omega)]
theorem elpI_b {k n : Nat} (h : elpI k = some n) : n < 3 := by
  unfold elpI at h
  split at h
  · cases h; decide
  · split at h
    · cases h; decide
    · split at h
      · cases h; decide
      · cases h
theorem ct_J16_coder_e (g : Gv) (J : Jd g)  : Ct g yJ16_coder (ws_ yJ16_coder cJ16_coder 1 (some .byte)) 0 0 0 [.ref (gA g 8)] [] (fun (rv_ : Option Value) (rL_ : List va_W) => rv_ = some (.int (nI 0)) ∧ rL_ = []) noX := by
  refine Ct.of "java/lang/String" [some (.ref (gA g 8))] rfl (by decide) rfl (Nat.le_of_ble_eq_true rfl) rfl ?_
  intro κ B E tb
  refine g_gets (q := 3) B (J.2.2.1 _ (List.mem_of_getElem? (i := 1) rfl)) dJ16_coder_0 rfl q503 ?_
  refine g_if_eq (tgt := 13) (q := 6) B dJ16_coder_3 rfl (by decide) (iff_false_intro (by decide)) (fun z => z.elim) (fun _ => ?_)
  refine g_aload_n (q := 7) B dJ16_coder_6 rfl rfl (rv_r _) ?_
  refine g_getO (q := 10) B J.2.2.2.2.2.2.1.2.2.2.1 dJ16_coder_7 rfl q653 ?_
  refine (show Go g κ 10 [some (.ref (gA g 8))] [.int (nI 0)] [] 0 0 from ?_)
  refine g_goto (tgt := 14) B dJ16_coder_10 (by decide) ?_
  exact g_zret B E dJ16_coder_14 (by decide) (⟨rfl, rfl⟩)
theorem ct_J16_isLatin1_e (g : Gv) (J : Jd g)  : Ct g yJ16_isLatin1 (ws_ yJ16_isLatin1 cJ16_isLatin1 1 (some .boolean)) 0 0 0 [.ref (gA g 8)] [] (fun (rv_ : Option Value) (rL_ : List va_W) => rv_ = some (.int (nI 1)) ∧ rL_ = []) noX := by
  refine Ct.of "java/lang/String" [some (.ref (gA g 8))] rfl (by decide) rfl (Nat.le_of_ble_eq_true rfl) rfl ?_
  intro κ B E tb
  refine g_gets (q := 3) B (J.2.2.1 _ (List.mem_of_getElem? (i := 1) rfl)) dJ16_isLatin1_0 rfl q503 ?_
  refine g_if_eq (tgt := 17) (q := 6) B dJ16_isLatin1_3 rfl (by decide) (iff_false_intro (by decide)) (fun z => z.elim) (fun _ => ?_)
  refine g_aload_n (q := 7) B dJ16_isLatin1_6 rfl rfl (rv_r _) ?_
  refine g_getO (q := 10) B J.2.2.2.2.2.2.1.2.2.2.1 dJ16_isLatin1_7 rfl q653 ?_
  refine (show Go g κ 10 [some (.ref (gA g 8))] [.int (nI 0)] [] 0 0 from ?_)
  refine g_if_ne (tgt := 17) (q := 13) B dJ16_isLatin1_10 rfl (by decide) (iff_false_intro (by decide)) (fun z => z.elim) (fun _ => ?_)
  refine g_iconst (v := nI 1) (q := 14) B dJ16_isLatin1_13 rfl (by decide) ?_
  refine g_goto (tgt := 18) B dJ16_isLatin1_14 (by decide) ?_
  exact g_zret B E dJ16_isLatin1_18 (by decide) (⟨rfl, rfl⟩)
theorem ct_J16_length_e (g : Gv) (J : Jd g)  : Ct g yJ16_length (ws_ yJ16_length cJ16_length 1 (some .int)) 1 0 0 [.ref (gA g 8)] [] (fun (rv_ : Option Value) (rL_ : List va_W) => rv_ = some (.int (nI 3)) ∧ rL_ = []) noX := by
  refine Ct.of "java/lang/String" [some (.ref (gA g 8))] rfl (by decide) rfl (Nat.le_of_ble_eq_true rfl) rfl ?_
  intro κ B E tb
  refine g_aload_n (q := 1) B dJ16_length_0 rfl rfl (rv_r _) ?_
  refine g_getO (q := 4) B J.2.2.2.2.2.2.1.2.2.2.2.1 dJ16_length_1 rfl q652 ?_
  refine (show Go g κ 4 [some (.ref (gA g 8))] [.ref (gA g 9)] [] 0 0 from ?_)
  refine g_tlen (v := nI 3) (q := 5) B J.2.2.2.2.2.2.1.2.2.2.2.2 dJ16_length_4 rfl rfl ?_
  refine g_aload_n (q := 6) B dJ16_length_5 rfl rfl (rv_r _) ?_
  refine g_callV (q := 9) (is := []) (kc2 := 0) (ks2 := 0) B [] (ct_J16_coder_e g J   ) dJ16_length_6 rfl (rc_O B J.2.2.2.2.2.2.1.2.2.1) rfl q499 q500 q501 q99 q502 rfl rfl moJ16_coder rfl rfl (by decide) (by decide) (Nat.le_of_ble_eq_true rfl) (Nat.le_of_ble_eq_true rfl) (Nat.le_of_ble_eq_true rfl) (fun _ _ hx => noX_x hx) (fun v6 L1 hp6 => ?_)
  obtain ⟨rfl, rfl⟩ := hp6
  refine (show Go g κ 9 [some (.ref (gA g 8))] [.int (nI 0), .int (nI 3)] [] 0 0 from ?_)
  refine g_ishr (v := nI 3) (q := 10) B dJ16_length_9 rfl (by decide) ?_
  exact g_iret B E dJ16_length_10 (⟨rfl, rfl⟩)
theorem ct_J24_canEncode (g : Gv) (J : Jd g) {k : Nat} (hk : k < 65536) : Ct g yJ24_canEncode (ws_ yJ24_canEncode cJ24_canEncode 1 (some .boolean)) 0 0 0 [.int (nI k)] [] (fun (rv_ : Option Value) (rL_ : List va_W) => rv_ = some (.int (nI (if k < 256 then 1 else 0))) ∧ rL_ = []) noX := by
  refine Ct.of "java/lang/StringLatin1" [some (.int (nI k))] rfl (by decide) rfl (Nat.le_of_ble_eq_true rfl) rfl ?_
  intro κ B E tb
  refine g_iload_n (q := 1) B dJ24_canEncode_0 rfl rfl ?_
  refine g_if_lt (tgt := 15) (q := 4) B dJ24_canEncode_1 rfl (by decide) (iff_false_intro (nI_pos (by omega))) (fun z => z.elim) (fun _ => ?_)
  refine g_iload_n (q := 5) B dJ24_canEncode_4 rfl rfl ?_
  refine g_sipush (v := nI 255) (q := 8) B dJ24_canEncode_5 rfl (by decide) ?_
  refine g_icmp_gt (tgt := 15) (q := 11) B dJ24_canEncode_8 rfl (by decide) (nI_ltI (by omega) (by omega)) (fun c8 => ?_) (fun c8 => ?_)
  · skip
    refine g_iconst (v := nI 0) (q := 16) B dJ24_canEncode_15 rfl (by decide) ?_
    exact g_zret B E dJ24_canEncode_16 (by decide) (⟨bo0 (by omega), rfl⟩)
  · skip
    refine g_iconst (v := nI 1) (q := 12) B dJ24_canEncode_11 rfl (by decide) ?_
    refine g_goto (tgt := 16) B dJ24_canEncode_12 (by decide) ?_
    exact g_zret B E dJ24_canEncode_16 (by decide) (⟨bo1 (by omega), rfl⟩)
theorem ct_J24_indexOfChar (g : Gv) (J : Jd g) {k : Nat} (hk : k < 256) : Ct g yJ24_indexOfChar (ws_ yJ24_indexOfChar cJ24_indexOfChar 6 (some .int)) 0 0 0 [.ref (gA g 9), .int (nI k), .int (nI 0), .int (nI 3)] [] (fun (rv_ : Option Value) (rL_ : List va_W) => rv_ = some (.int (oI (elpI k))) ∧ rL_ = []) noX := by
  refine Ct.of "java/lang/StringLatin1" [some (.ref (gA g 9)), some (.int (nI k)), some (.int (nI 0)), some (.int (nI 3)), none, none] rfl (by decide) rfl (Nat.le_of_ble_eq_true rfl) rfl ?_
  intro κ B E tb
  refine g_iload_n (q := 1) B dJ24_indexOfChar_0 rfl rfl ?_
  refine g_i2b (v := (nI k).toInt8.toInt32) (q := 2) B dJ24_indexOfChar_1 rfl rfl ?_
  refine g_istore (q := 4) (lv2 := [some (.ref (gA g 9)), some (.int (nI k)), some (.int (nI 0)), some (.int (nI 3)), some (.int ((nI k).toInt8.toInt32)), none]) B dJ24_indexOfChar_2 rfl (Nat.le_of_ble_eq_true rfl) rfl ?_
  refine g_iload_n (q := 5) B dJ24_indexOfChar_4 rfl rfl ?_
  refine g_istore (q := 7) (lv2 := [some (.ref (gA g 9)), some (.int (nI k)), some (.int (nI 0)), some (.int (nI 3)), some (.int ((nI k).toInt8.toInt32)), some (.int (nI 0))]) B dJ24_indexOfChar_5 rfl (Nat.le_of_ble_eq_true rfl) rfl ?_
  refine g_iload (q := 9) B dJ24_indexOfChar_7 rfl rfl ?_
  refine g_iload_n (q := 10) B dJ24_indexOfChar_9 rfl rfl ?_
  refine g_icmp_ge (tgt := 31) (q := 13) B dJ24_indexOfChar_10 rfl (by decide) (iff_false_intro (by decide)) (fun z => z.elim) (fun _ => ?_)
  refine g_aload_n (q := 14) B dJ24_indexOfChar_13 rfl rfl (rv_r _) ?_
  refine g_iload (q := 16) B dJ24_indexOfChar_14 rfl rfl ?_
  refine g_tb (v := .int (nI 101)) (q := 17) B J.2.2.2.2.2.2.1.2.2.2.2.2 dJ24_indexOfChar_16 rfl (by first | decide | (unfold vp_in; decide)) (by first | decide | (unfold vp_in; decide)) ?_
  refine (show Go g κ 17 [some (.ref (gA g 9)), some (.int (nI k)), some (.int (nI 0)), some (.int (nI 3)), some (.int ((nI k).toInt8.toInt32)), some (.int (nI 0))] [.int (nI 101)] [] 0 0 from ?_)
  refine g_iload (q := 19) B dJ24_indexOfChar_17 rfl rfl ?_
  refine g_icmp_ne (tgt := 25) (q := 22) B dJ24_indexOfChar_19 rfl (by decide) (b8_101 k hk) (fun c19 => ?_) (fun c19 => ?_)
  · skip
    have d101 := c19
    refine g_iinc (v := nI 1) (q := 28) (lv2 := [some (.ref (gA g 9)), some (.int (nI k)), some (.int (nI 0)), some (.int (nI 3)), some (.int ((nI k).toInt8.toInt32)), some (.int (nI 1))]) B dJ24_indexOfChar_25 rfl rfl (nI_add _ 1) (Nat.le_of_ble_eq_true rfl) rfl ?_
    refine g_goto (tgt := 7) B dJ24_indexOfChar_28 (by decide) ?_
    refine g_iload (q := 9) B dJ24_indexOfChar_7 rfl rfl ?_
    refine g_iload_n (q := 10) B dJ24_indexOfChar_9 rfl rfl ?_
    refine g_icmp_ge (tgt := 31) (q := 13) B dJ24_indexOfChar_10 rfl (by decide) (iff_false_intro (by decide)) (fun z => z.elim) (fun _ => ?_)
    refine g_aload_n (q := 14) B dJ24_indexOfChar_13 rfl rfl (rv_r _) ?_
    refine g_iload (q := 16) B dJ24_indexOfChar_14 rfl rfl ?_
    refine g_tb (v := .int (nI 108)) (q := 17) B J.2.2.2.2.2.2.1.2.2.2.2.2 dJ24_indexOfChar_16 rfl (by first | decide | (unfold vp_in; decide)) (by first | decide | (unfold vp_in; decide)) ?_
    refine (show Go g κ 17 [some (.ref (gA g 9)), some (.int (nI k)), some (.int (nI 0)), some (.int (nI 3)), some (.int ((nI k).toInt8.toInt32)), some (.int (nI 1))] [.int (nI 108)] [] 0 0 from ?_)
    refine g_iload (q := 19) B dJ24_indexOfChar_17 rfl rfl ?_
    refine g_icmp_ne (tgt := 25) (q := 22) B dJ24_indexOfChar_19 rfl (by decide) (b8_108 k hk) (fun c19 => ?_) (fun c19 => ?_)
    · skip
      have d108 := c19
      refine g_iinc (v := nI 2) (q := 28) (lv2 := [some (.ref (gA g 9)), some (.int (nI k)), some (.int (nI 0)), some (.int (nI 3)), some (.int ((nI k).toInt8.toInt32)), some (.int (nI 2))]) B dJ24_indexOfChar_25 rfl rfl (nI_add _ 1) (Nat.le_of_ble_eq_true rfl) rfl ?_
      refine g_goto (tgt := 7) B dJ24_indexOfChar_28 (by decide) ?_
      refine g_iload (q := 9) B dJ24_indexOfChar_7 rfl rfl ?_
      refine g_iload_n (q := 10) B dJ24_indexOfChar_9 rfl rfl ?_
      refine g_icmp_ge (tgt := 31) (q := 13) B dJ24_indexOfChar_10 rfl (by decide) (iff_false_intro (by decide)) (fun z => z.elim) (fun _ => ?_)
      refine g_aload_n (q := 14) B dJ24_indexOfChar_13 rfl rfl (rv_r _) ?_
      refine g_iload (q := 16) B dJ24_indexOfChar_14 rfl rfl ?_
      refine g_tb (v := .int (nI 112)) (q := 17) B J.2.2.2.2.2.2.1.2.2.2.2.2 dJ24_indexOfChar_16 rfl (by first | decide | (unfold vp_in; decide)) (by first | decide | (unfold vp_in; decide)) ?_
      refine (show Go g κ 17 [some (.ref (gA g 9)), some (.int (nI k)), some (.int (nI 0)), some (.int (nI 3)), some (.int ((nI k).toInt8.toInt32)), some (.int (nI 2))] [.int (nI 112)] [] 0 0 from ?_)
      refine g_iload (q := 19) B dJ24_indexOfChar_17 rfl rfl ?_
      refine g_icmp_ne (tgt := 25) (q := 22) B dJ24_indexOfChar_19 rfl (by decide) (b8_112 k hk) (fun c19 => ?_) (fun c19 => ?_)
      · skip
        have d112 := c19
        refine g_iinc (v := nI 3) (q := 28) (lv2 := [some (.ref (gA g 9)), some (.int (nI k)), some (.int (nI 0)), some (.int (nI 3)), some (.int ((nI k).toInt8.toInt32)), some (.int (nI 3))]) B dJ24_indexOfChar_25 rfl rfl (nI_add _ 1) (Nat.le_of_ble_eq_true rfl) rfl ?_
        refine g_goto (tgt := 7) B dJ24_indexOfChar_28 (by decide) ?_
        refine g_iload (q := 9) B dJ24_indexOfChar_7 rfl rfl ?_
        refine g_iload_n (q := 10) B dJ24_indexOfChar_9 rfl rfl ?_
        refine g_icmp_ge (tgt := 31) (q := 13) B dJ24_indexOfChar_10 rfl (by decide) (iff_true_intro (by decide)) (fun _ => ?_) (fun z => absurd trivial z)
        refine g_iconst (v := -1) (q := 32) B dJ24_indexOfChar_31 rfl (by decide) ?_
        exact g_iret B E dJ24_indexOfChar_32 (⟨by unfold elpI; rw [if_neg d101, if_neg d108, if_neg d112]; rfl, rfl⟩)
      · skip
        have d112 := Classical.not_not.mp c19
        refine g_iload (q := 24) B dJ24_indexOfChar_22 rfl rfl ?_
        exact g_iret B E dJ24_indexOfChar_24 (⟨by unfold elpI; rw [if_neg d101, if_neg d108, if_pos d112]; rfl, rfl⟩)
    · skip
      have d108 := Classical.not_not.mp c19
      refine g_iload (q := 24) B dJ24_indexOfChar_22 rfl rfl ?_
      exact g_iret B E dJ24_indexOfChar_24 (⟨by unfold elpI; rw [if_neg d101, if_pos d108]; rfl, rfl⟩)
  · skip
    have d101 := Classical.not_not.mp c19
    refine g_iload (q := 24) B dJ24_indexOfChar_22 rfl rfl ?_
    exact g_iret B E dJ24_indexOfChar_24 (⟨by unfold elpI; rw [if_pos d101]; rfl, rfl⟩)
theorem moJ24_canEncode : Mo yJ24_canEncode 1 := by
  refine ⟨by decide, by decide, by decide +kernel⟩
theorem moJ24_indexOfChar : Mo yJ24_indexOfChar 4 := by
  refine ⟨by decide, by decide, by decide +kernel⟩
theorem ct_J24_indexOf (g : Gv) (J : Jd g) {k : Nat} (hk : k < 65536) : Ct g yJ24_indexOf (ws_ yJ24_indexOf cJ24_indexOf 4 (some .int)) 1 0 0 [.ref (gA g 9), .int (nI k), .int (nI 0), .int (nI 3)] [] (fun (rv_ : Option Value) (rL_ : List va_W) => rv_ = some (.int (oI (elpI k))) ∧ rL_ = []) noX := by
  refine Ct.of "java/lang/StringLatin1" [some (.ref (gA g 9)), some (.int (nI k)), some (.int (nI 0)), some (.int (nI 3))] rfl (by decide) rfl (Nat.le_of_ble_eq_true rfl) rfl ?_
  intro κ B E tb
  refine g_iload_n (q := 1) B dJ24_indexOf_0 rfl rfl ?_
  refine g_callS (q := 4) (is := []) (kc2 := 0) (ks2 := 0) B [.int (nI k)] (ct_J24_canEncode g J (k := k)  (by first | assumption | omega | rfl)) dJ24_indexOf_1 rfl q2932 q2933 q109 q2934 rfl rfl moJ24_canEncode rfl rfl (by decide) (by decide) (Nat.le_of_ble_eq_true rfl) (Nat.le_of_ble_eq_true rfl) (Nat.le_of_ble_eq_true rfl) (fun _ _ hx => noX_x hx) (fun v1 L1 hp1 => ?_)
  obtain ⟨rfl, rfl⟩ := hp1
  refine (show Go g κ 4 [some (.ref (gA g 9)), some (.int (nI k)), some (.int (nI 0)), some (.int (nI 3))] [.int (nI (if k < 256 then 1 else 0))] [] 0 0 from ?_)
  refine g_if_ne (tgt := 9) (q := 7) B dJ24_indexOf_4 rfl (by decide) (bo_ne) (fun c4 => ?_) (fun c4 => ?_)
  · skip
    refine g_iload_n (q := 10) B dJ24_indexOf_9 rfl rfl ?_
    refine g_iconst (v := nI 0) (q := 11) B dJ24_indexOf_10 rfl (by decide) ?_
    refine g_mmax (q := 14) B q2935 dJ24_indexOf_11 rfl rfl (Nat.le_of_ble_eq_true rfl) (by omega) (by omega) ?_
    refine g_istore_n (q := 15) (lv2 := [some (.ref (gA g 9)), some (.int (nI k)), some (.int (nI 0)), some (.int (nI 3))]) B dJ24_indexOf_14 rfl (Nat.le_of_ble_eq_true rfl) rfl ?_
    refine g_iload_n (q := 16) B dJ24_indexOf_15 rfl rfl ?_
    refine g_aload_n (q := 17) B dJ24_indexOf_16 rfl rfl (rv_r _) ?_
    refine g_tlen (v := nI 3) (q := 18) B J.2.2.2.2.2.2.1.2.2.2.2.2 dJ24_indexOf_17 rfl rfl ?_
    refine g_mmin (q := 21) B q1464 dJ24_indexOf_18 rfl rfl (Nat.le_of_ble_eq_true rfl) (by omega) (by omega) ?_
    refine g_istore_n (q := 22) (lv2 := [some (.ref (gA g 9)), some (.int (nI k)), some (.int (nI 0)), some (.int (nI 3))]) B dJ24_indexOf_21 rfl (Nat.le_of_ble_eq_true rfl) rfl ?_
    refine g_iload_n (q := 23) B dJ24_indexOf_22 rfl rfl ?_
    refine g_iload_n (q := 24) B dJ24_indexOf_23 rfl rfl ?_
    refine g_icmp_lt (tgt := 29) (q := 27) B dJ24_indexOf_24 rfl (by decide) (iff_true_intro (by decide)) (fun _ => ?_) (fun z => absurd trivial z)
    refine g_aload_n (q := 30) B dJ24_indexOf_29 rfl rfl (rv_r _) ?_
    refine g_iload_n (q := 31) B dJ24_indexOf_30 rfl rfl ?_
    refine g_iload_n (q := 32) B dJ24_indexOf_31 rfl rfl ?_
    refine g_iload_n (q := 33) B dJ24_indexOf_32 rfl rfl ?_
    refine g_callS (q := 36) (is := []) (kc2 := 0) (ks2 := 0) B [.ref (gA g 9), .int (nI k), .int (nI 0), .int (nI 3)] (ct_J24_indexOfChar g J (k := k)  (by omega)) dJ24_indexOf_33 rfl q2936 q2937 q109 q2938 rfl rfl moJ24_indexOfChar rfl rfl (by decide) (by decide) (Nat.le_of_ble_eq_true rfl) (Nat.le_of_ble_eq_true rfl) (Nat.le_of_ble_eq_true rfl) (fun _ _ hx => noX_x hx) (fun v33 L1 hp33 => ?_)
    obtain ⟨rfl, rfl⟩ := hp33
    refine (show Go g κ 36 [some (.ref (gA g 9)), some (.int (nI k)), some (.int (nI 0)), some (.int (nI 3))] [.int (oI (elpI k))] [] 0 0 from ?_)
    exact g_iret B E dJ24_indexOf_36 (⟨rfl, rfl⟩)
  · skip
    refine g_iconst (v := -1) (q := 8) B dJ24_indexOf_7 rfl (by decide) ?_
    exact g_iret B E dJ24_indexOf_8 (⟨by rw [elpI_hi (by omega)]; rfl, rfl⟩)
theorem moJ24_indexOf : Mo yJ24_indexOf 4 := by
  refine ⟨by decide, by decide, by decide +kernel⟩
theorem ct_J16_indexOf_2 (g : Gv) (J : Jd g) {k : Nat} (hk : k < 65536) : Ct g yJ16_indexOf_2 (ws_ yJ16_indexOf_2 cJ16_indexOf_2 3 (some .int)) 2 0 0 [.ref (gA g 8), .int (nI k), .int (nI 0)] [] (fun (rv_ : Option Value) (rL_ : List va_W) => rv_ = some (.int (oI (elpI k))) ∧ rL_ = []) noX := by
  refine Ct.of "java/lang/String" [some (.ref (gA g 8)), some (.int (nI k)), some (.int (nI 0))] rfl (by decide) rfl (Nat.le_of_ble_eq_true rfl) rfl ?_
  intro κ B E tb
  refine g_aload_n (q := 1) B dJ16_indexOf_2_0 rfl rfl (rv_r _) ?_
  refine g_callV (q := 4) (is := []) (kc2 := 0) (ks2 := 0) B [] (ct_J16_isLatin1_e g J   ) dJ16_indexOf_2_1 rfl (rc_O B J.2.2.2.2.2.2.1.2.2.1) rfl q1300 q1301 q1302 q99 q1303 rfl rfl moJ16_isLatin1 rfl rfl (by decide) (by decide) (Nat.le_of_ble_eq_true rfl) (Nat.le_of_ble_eq_true rfl) (Nat.le_of_ble_eq_true rfl) (fun _ _ hx => noX_x hx) (fun v1 L1 hp1 => ?_)
  obtain ⟨rfl, rfl⟩ := hp1
  refine (show Go g κ 4 [some (.ref (gA g 8)), some (.int (nI k)), some (.int (nI 0))] [.int (nI 1)] [] 0 0 from ?_)
  refine g_if_eq (tgt := 23) (q := 7) B dJ16_indexOf_2_4 rfl (by decide) (iff_false_intro (by decide)) (fun z => z.elim) (fun _ => ?_)
  refine g_aload_n (q := 8) B dJ16_indexOf_2_7 rfl rfl (rv_r _) ?_
  refine g_getO (q := 11) B J.2.2.2.2.2.2.1.2.2.2.2.1 dJ16_indexOf_2_8 rfl q652 ?_
  refine (show Go g κ 11 [some (.ref (gA g 8)), some (.int (nI k)), some (.int (nI 0))] [.ref (gA g 9)] [] 0 0 from ?_)
  refine g_iload_n (q := 12) B dJ16_indexOf_2_11 rfl rfl ?_
  refine g_iload_n (q := 13) B dJ16_indexOf_2_12 rfl rfl ?_
  refine g_aload_n (q := 14) B dJ16_indexOf_2_13 rfl rfl (rv_r _) ?_
  refine g_callV (q := 17) (is := []) (kc2 := 0) (ks2 := 0) B [] (ct_J16_length_e g J   ) dJ16_indexOf_2_14 rfl (rc_O B J.2.2.2.2.2.2.1.2.2.1) rfl q2928 q496 q497 q99 q498 rfl rfl moJ16_length rfl rfl (by decide) (by decide) (Nat.le_of_ble_eq_true rfl) (Nat.le_of_ble_eq_true rfl) (Nat.le_of_ble_eq_true rfl) (fun _ _ hx => noX_x hx) (fun v14 L1 hp14 => ?_)
  obtain ⟨rfl, rfl⟩ := hp14
  refine (show Go g κ 17 [some (.ref (gA g 8)), some (.int (nI k)), some (.int (nI 0))] [.int (nI 3), .int (nI 0), .int (nI k), .ref (gA g 9)] [] 0 0 from ?_)
  refine g_callS (q := 20) (is := []) (kc2 := 0) (ks2 := 0) B [.ref (gA g 9), .int (nI k), .int (nI 0), .int (nI 3)] (ct_J24_indexOf g J (k := k)  (by first | assumption | omega | rfl)) dJ16_indexOf_2_17 rfl q2929 q2930 q109 q2931 rfl rfl moJ24_indexOf rfl rfl (by decide) (by decide) (Nat.le_of_ble_eq_true rfl) (Nat.le_of_ble_eq_true rfl) (Nat.le_of_ble_eq_true rfl) (fun _ _ hx => noX_x hx) (fun v17 L1 hp17 => ?_)
  obtain ⟨rfl, rfl⟩ := hp17
  refine (show Go g κ 20 [some (.ref (gA g 8)), some (.int (nI k)), some (.int (nI 0))] [.int (oI (elpI k))] [] 0 0 from ?_)
  refine g_goto (tgt := 36) B dJ16_indexOf_2_20 (by decide) ?_
  exact g_iret B E dJ16_indexOf_2_36 (⟨rfl, rfl⟩)
theorem moJ16_indexOf_2 : Mo yJ16_indexOf_2 2 := by
  refine ⟨by decide, by decide, by decide +kernel⟩
theorem ct_J16_indexOf (g : Gv) (J : Jd g) {k : Nat} (hk : k < 65536) : Ct g yJ16_indexOf (ws_ yJ16_indexOf cJ16_indexOf 2 (some .int)) 3 0 0 [.ref (gA g 8), .int (nI k)] [] (fun (rv_ : Option Value) (rL_ : List va_W) => rv_ = some (.int (oI (elpI k))) ∧ rL_ = []) noX := by
  refine Ct.of "java/lang/String" [some (.ref (gA g 8)), some (.int (nI k))] rfl (by decide) rfl (Nat.le_of_ble_eq_true rfl) rfl ?_
  intro κ B E tb
  refine g_aload_n (q := 1) B dJ16_indexOf_0 rfl rfl (rv_r _) ?_
  refine g_iload_n (q := 2) B dJ16_indexOf_1 rfl rfl ?_
  refine g_iconst (v := nI 0) (q := 3) B dJ16_indexOf_2 rfl (by decide) ?_
  refine g_callV (q := 6) (is := []) (kc2 := 0) (ks2 := 0) B [.int (nI k), .int (nI 0)] (ct_J16_indexOf_2 g J (k := k)  (by first | assumption | omega | rfl)) dJ16_indexOf_3 rfl (rc_O B J.2.2.2.2.2.2.1.2.2.1) rfl q2924 q2925 q2926 q99 q2927 rfl rfl moJ16_indexOf_2 rfl rfl (by decide) (by decide) (Nat.le_of_ble_eq_true rfl) (Nat.le_of_ble_eq_true rfl) (Nat.le_of_ble_eq_true rfl) (fun _ _ hx => noX_x hx) (fun v3 L1 hp3 => ?_)
  obtain ⟨rfl, rfl⟩ := hp3
  refine (show Go g κ 6 [some (.ref (gA g 8)), some (.int (nI k))] [.int (oI (elpI k))] [] 0 0 from ?_)
  exact g_iret B E dJ16_indexOf_6 (⟨rfl, rfl⟩)
theorem moJ16_indexOf : Mo yJ16_indexOf 1 := by
  refine ⟨by decide, by decide, by decide +kernel⟩
theorem moX1_want : Mo yX1_want 1 := by
  refine ⟨by decide, by decide, by decide +kernel⟩
theorem ct_X1_messageOf (g : Gv) (J : Jd g) {x : Nat} {C : KsS} {v : Int32} {k : Nat} {w0 : va_W} (hw0 : KgP g x C w0) (hC : KsB C) (hk : k < 65536) : Ct g yX1_messageOf (ws_ yX1_messageOf cX1_messageOf 4 (some .int)) 10 10 60 [.ref x, .int v, .int (nI k)] [w0] (fun (rv_ : Option Value) (rL_ : List va_W) => ∃ (i : Nat) (r : MsS) (u0 : va_W), rv_ = some (.int (nI (if k = 101 then r.1 else if k = 108 then r.2.1 else r.2.2.1))) ∧ rL_ = [u0] ∧ KgP g x C u0 ∧ (v = nI i) ∧ ((zMs C)[i]? = some r) ∧ (¬ elpI k = none)) (fun (rE_ : String) (rL_ : List va_W) => rL_ = [w0] ∧ ((rE_ = "java/lang/IndexOutOfBoundsException" ∧ (¬ inR v (zMs C).length = true)) ∨ (rE_ = "java/lang/IllegalArgumentException" ∧ (inR v (zMs C).length = true ∧ elpI k = none)))) := by
  refine Ct.of "Keygrove" [some (.ref x), some (.int v), some (.int (nI k)), none] rfl (by decide) rfl (Nat.le_of_ble_eq_true rfl) rfl ?_
  intro κ B E tb
  have hC0 := hC
  obtain ⟨hc1, hc2, hc3, hc4, hc5, hc6, hc7, hc8, hc9, hc10, hc11⟩ := hC0
  obtain ⟨b, lp, lk, lr, lt, ls, lm, so, pcap, kcap, rcap, tcap, scap, mcap, socap, ps, pks, pmd, v0, v1, v2, v3, v4, v5, v6, v7, hcap, hv0, hv1, hv2, hv3, hv4, hv5, hv6, hv7, rfl⟩ := hw0
  refine g_open 0 rfl rfl rfl ?_
  refine (show Go g κ 0 [some (.ref x), some (.int v), some (.int (nI k)), none] [] [[(x, .inr (0, [.ref b, .ref lp, .ref lk, .ref lr, .ref lt, .ref ls, .ref lm, .ref so, .int (nI (zBn C))]))], v0, v1, v2, v3, v4, v5, v6, v7] 10 60 from ?_)
  refine g_aload_n (q := 1) B dX1_messageOf_0 rfl rfl (rv_r _) ?_
  refine g_iload_n (q := 2) B dX1_messageOf_1 rfl rfl ?_
  refine g_callV (q := 5) (is := [0, 6]) (kc2 := 9) (ks2 := 54) B [.int v] (ct_X1_messageWith g J (x := x) (lk := lk) (b := b) (lp := lp) (lr := lr) (lt := lt) (ls := ls) (lm := lm) (so := so) (bxs := zBn C) (Ms := (zMs C)) (mcap := mcap) (v := v) hv6 (by first | assumption | omega | rfl)) dX1_messageOf_2 rfl (rc_at B (ci := 0) rfl (k := 0) rfl) rfl q2898 q2900 qs46 q77 q2901 rfl rfl moX1_messageWith rfl rfl (by decide) (by decide) (Nat.le_of_ble_eq_true rfl) (Nat.le_of_ble_eq_true rfl) (Nat.le_of_ble_eq_true rfl) (fun E2 L1 hx2 => ?_) (fun v2 L1 hp2 => ?_)
  · skip
    obtain ⟨rfl, hx2⟩ := hx2
    obtain ⟨rfl, hx2⟩ := hx2
    refine gx_cl [7, 0, 0, 0, 0, 0, 0, 1, 0] rfl ?_
    exact g_out B E tb (by first | exact ⟨rfl, Or.inl ⟨rfl, hx2⟩⟩ | exact ⟨rfl, Or.inl ⟨rfl, by simp_all⟩⟩)
  obtain ⟨i2, a2, r2, rfl, rfl, hv_2, hr_2, hE_2⟩ := hp2
  refine (show Go g κ 5 [some (.ref x), some (.int v), some (.int (nI k)), none] [.ref a2] [v0, v1, v2, v3, v4, v5, v7, [(x, .inr (0, [.ref b, .ref lp, .ref lk, .ref lr, .ref lt, .ref ls, .ref lm, .ref so, .int (nI (zBn C))]))], v6] 9 54 from ?_)
  have hi2 := get_lt2 hr_2
  subst hv_2
  refine (show Go g κ 5 [some (.ref x), some (.int (nI i2)), some (.int (nI k)), none] [.ref a2] [v0, v1, v2, v3, v4, v5, v7, [(x, .inr (0, [.ref b, .ref lp, .ref lk, .ref lr, .ref lt, .ref ls, .ref lm, .ref so, .int (nI (zBn C))]))], v6] 9 54 from ?_)
  refine g_astore_n (q := 6) (lv2 := [some (.ref x), some (.int (nI i2)), some (.int (nI k)), some (.ref a2)]) B dX1_messageOf_5 rfl (Nat.le_of_ble_eq_true rfl) (rv_r _) rfl ?_
  refine g_ldcSw (q := 9) B J.2.2.2.2.2.2.1.1 dX1_messageOf_6 rfl ?_
  refine g_iload_n (q := 10) B dX1_messageOf_9 rfl rfl ?_
  refine g_callV (q := 13) (is := []) (kc2 := 9) (ks2 := 54) B [.int (nI k)] (ct_J16_indexOf g J (k := k)  (by first | assumption | omega | rfl)) dX1_messageOf_10 rfl (rc_O B J.2.2.2.2.2.2.1.2.2.1) rfl q2920 q2921 q2922 q99 q2923 rfl rfl moJ16_indexOf rfl rfl (by decide) (by decide) (Nat.le_of_ble_eq_true rfl) (Nat.le_of_ble_eq_true rfl) (Nat.le_of_ble_eq_true rfl) (fun _ _ hx => noX_x hx) (fun v10 L1 hp10 => ?_)
  obtain ⟨rfl, rfl⟩ := hp10
  refine (show Go g κ 13 [some (.ref x), some (.int (nI i2)), some (.int (nI k)), some (.ref a2)] [.int (oI (elpI k))] [v0, v1, v2, v3, v4, v5, v7, [(x, .inr (0, [.ref b, .ref lp, .ref lk, .ref lr, .ref lt, .ref ls, .ref lm, .ref so, .int (nI (zBn C))]))], v6] 9 54 from ?_)
  refine g_if_lt (tgt := 20) (q := 16) B dX1_messageOf_13 rfl (by decide) (oI_lt ((fun n h => by have := elpI_b h; omega))) (fun c13 => ?_) (fun c13 => ?_)
  · skip
    refine g_iconst (v := nI 0) (q := 21) B dX1_messageOf_20 rfl (by decide) ?_
    refine g_callS (q := 24) (is := []) (kc2 := 8) (ks2 := 48) B [.int (nI 0)] (ct_X1_want g J (c := False) (dc := instDecidableFalse)  ) dX1_messageOf_21 rfl q2964 q2965 q77 q2966 rfl rfl moX1_want rfl rfl (by decide) (by decide) (Nat.le_of_ble_eq_true rfl) (Nat.le_of_ble_eq_true rfl) (Nat.le_of_ble_eq_true rfl) (fun E21 L1 hx21 => ?_) (fun v21 L1 hp21 => ?_)
    · skip
      obtain ⟨rfl, hx21⟩ := hx21
      obtain ⟨rfl, hx21⟩ := hx21
      refine gx_cl [7, 0, 0, 0, 0, 0, 0, 1, 0] rfl ?_
      exact g_out B E tb (by first | exact ⟨rfl, Or.inr (⟨rfl, hx21⟩)⟩ | exact ⟨rfl, Or.inr (⟨rfl, ⟨by rw [inR_k (by omega)]; simpa using get_lt2 hr_2, c13⟩⟩)⟩ | exact ⟨rfl, Or.inr (⟨rfl, by simp_all⟩)⟩)
    obtain ⟨rfl, rfl, ht_21⟩ := hp21
    exact ht_21.elim
  · skip
    obtain ⟨v13, ev13⟩ := Option.ne_none_iff_exists'.mp c13
    refine g_iconst (v := nI 1) (q := 17) B dX1_messageOf_16 rfl (by decide) ?_
    refine g_goto (tgt := 21) B dX1_messageOf_17 (by decide) ?_
    refine g_callS (q := 24) (is := []) (kc2 := 8) (ks2 := 48) B [.int (nI 1)] (ct_X1_want g J (c := True) (dc := instDecidableTrue)  ) dX1_messageOf_21 rfl q2964 q2965 q77 q2966 rfl rfl moX1_want rfl rfl (by decide) (by decide) (Nat.le_of_ble_eq_true rfl) (Nat.le_of_ble_eq_true rfl) (Nat.le_of_ble_eq_true rfl) (fun E21 L1 hx21 => ?_) (fun v21 L1 hp21 => ?_)
    · skip
      obtain ⟨rfl, hx21⟩ := hx21
      obtain ⟨rfl, hx21⟩ := hx21
      exact absurd trivial hx21
    obtain ⟨rfl, rfl, ht_21⟩ := hp21
    refine (show Go g κ 24 [some (.ref x), some (.int (nI i2)), some (.int (nI k)), some (.ref a2)] [] [v0, v1, v2, v3, v4, v5, v7, [(x, .inr (0, [.ref b, .ref lp, .ref lk, .ref lr, .ref lt, .ref ls, .ref lm, .ref so, .int (nI (zBn C))]))], v6] 8 48 from ?_)
    refine g_iload_n (q := 25) B dX1_messageOf_24 rfl rfl ?_
    refine g_bipush (v := nI 101) (q := 27) B dX1_messageOf_25 rfl (by decide) ?_
    refine g_icmp_ne (tgt := 37) (q := 30) B dX1_messageOf_27 rfl (by decide) (not_congr (nI_eq (by omega) (by omega))) (fun c27 => ?_) (fun c27 => ?_)
    · skip
      refine g_iload_n (q := 38) B dX1_messageOf_37 rfl rfl ?_
      refine g_bipush (v := nI 108) (q := 40) B dX1_messageOf_38 rfl (by decide) ?_
      refine g_icmp_ne (tgt := 50) (q := 43) B dX1_messageOf_40 rfl (by decide) (not_congr (nI_eq (by omega) (by omega))) (fun c40 => ?_) (fun c40 => ?_)
      · skip
        refine g_aload_n (q := 51) B dX1_messageOf_50 rfl rfl (rv_r _) ?_
        have hc_1_0 := MsgP.at (hE_2)
        refine g_getNM (q := 54) B (ci := 11) (k := 8) (j := 2) in_X21 rfl dX1_messageOf_51 rfl rfl (hc_1_0) (Nat.le_of_ble_eq_true rfl) q2879 rfl rfl ?_
        obtain ⟨wc_2, ewc_2⟩ : ∃ w : va_W, w = ([[(x, .inr (0, [.ref b, .ref lp, .ref lk, .ref lr, .ref lt, .ref ls, .ref lm, .ref so, .int (nI (zBn C))]))], v0, v1, v2, v3, v4, v5, v6, v7] : List va_W).flatten := ⟨_, rfl⟩
        have hwc_2 : KgP g x C wc_2 := by
          rw [ewc_2]
          exact ⟨b, lp, lk, lr, lt, ls, lm, so, pcap, kcap, rcap, tcap, scap, mcap, socap, ps, pks, pmd, _, _, _, _, _, _, _, _, hcap, hv0, hv1, hv2, hv3, hv4, hv5, hv6, hv7, rfl⟩
        refine g_close (w := wc_2) [7, 0, 0, 0, 0, 0, 0, 1, 0] rfl ewc_2 rfl ?_
        refine (show Go g κ 54 [some (.ref x), some (.int (nI i2)), some (.int (nI k)), some (.ref a2)] [.int (nI r2.2.2.1)] [wc_2] 8 48 from ?_)
        exact g_iret B E dX1_messageOf_54 (⟨i2, r2, _, by rw [if_neg c27, if_neg c40], rfl, hwc_2, rfl, hr_2, by rw [ev13]; simp⟩)
      · skip
        have c40 := Classical.not_not.mp c40
        refine g_aload_n (q := 44) B dX1_messageOf_43 rfl rfl (rv_r _) ?_
        have hc_3_0 := MsgP.at (hE_2)
        refine g_getNM (q := 47) B (ci := 11) (k := 8) (j := 1) in_X21 rfl dX1_messageOf_44 rfl rfl (hc_3_0) (Nat.le_of_ble_eq_true rfl) q2877 rfl rfl ?_
        refine g_goto (tgt := 54) B dX1_messageOf_47 (by decide) ?_
        obtain ⟨wc_4, ewc_4⟩ : ∃ w : va_W, w = ([[(x, .inr (0, [.ref b, .ref lp, .ref lk, .ref lr, .ref lt, .ref ls, .ref lm, .ref so, .int (nI (zBn C))]))], v0, v1, v2, v3, v4, v5, v6, v7] : List va_W).flatten := ⟨_, rfl⟩
        have hwc_4 : KgP g x C wc_4 := by
          rw [ewc_4]
          exact ⟨b, lp, lk, lr, lt, ls, lm, so, pcap, kcap, rcap, tcap, scap, mcap, socap, ps, pks, pmd, _, _, _, _, _, _, _, _, hcap, hv0, hv1, hv2, hv3, hv4, hv5, hv6, hv7, rfl⟩
        refine g_close (w := wc_4) [7, 0, 0, 0, 0, 0, 0, 1, 0] rfl ewc_4 rfl ?_
        refine (show Go g κ 54 [some (.ref x), some (.int (nI i2)), some (.int (nI k)), some (.ref a2)] [.int (nI r2.2.1)] [wc_4] 8 48 from ?_)
        exact g_iret B E dX1_messageOf_54 (⟨i2, r2, _, by rw [if_neg c27, if_pos c40], rfl, hwc_4, rfl, hr_2, by rw [ev13]; simp⟩)
    · skip
      have c27 := Classical.not_not.mp c27
      refine g_aload_n (q := 31) B dX1_messageOf_30 rfl rfl (rv_r _) ?_
      have hc_5_0 := MsgP.at (hE_2)
      refine g_getNM (q := 34) B (ci := 11) (k := 8) (j := 0) in_X21 rfl dX1_messageOf_31 rfl rfl (hc_5_0) (Nat.le_of_ble_eq_true rfl) q2875 rfl rfl ?_
      refine g_goto (tgt := 54) B dX1_messageOf_34 (by decide) ?_
      obtain ⟨wc_6, ewc_6⟩ : ∃ w : va_W, w = ([[(x, .inr (0, [.ref b, .ref lp, .ref lk, .ref lr, .ref lt, .ref ls, .ref lm, .ref so, .int (nI (zBn C))]))], v0, v1, v2, v3, v4, v5, v6, v7] : List va_W).flatten := ⟨_, rfl⟩
      have hwc_6 : KgP g x C wc_6 := by
        rw [ewc_6]
        exact ⟨b, lp, lk, lr, lt, ls, lm, so, pcap, kcap, rcap, tcap, scap, mcap, socap, ps, pks, pmd, _, _, _, _, _, _, _, _, hcap, hv0, hv1, hv2, hv3, hv4, hv5, hv6, hv7, rfl⟩
      refine g_close (w := wc_6) [7, 0, 0, 0, 0, 0, 0, 1, 0] rfl ewc_6 rfl ?_
      refine (show Go g κ 54 [some (.ref x), some (.int (nI i2)), some (.int (nI k)), some (.ref a2)] [.int (nI r2.1)] [wc_6] 8 48 from ?_)
      exact g_iret B E dX1_messageOf_54 (⟨i2, r2, _, by rw [if_pos c27], rfl, hwc_6, rfl, hr_2, by rw [ev13]; simp⟩)
theorem nwJ4 : ∀ j, j < 8 → defaultValue (tyJ4 j) = vp_V [.null, .null, .null, .null, .int (nI 0), .int (nI 0), .int (nI 0), .float 0] j := by
  intro j hj
  match j, hj with
  | 0, _ => rfl
  | 1, _ => rfl
  | 2, _ => rfl
  | 3, _ => rfl
  | 4, _ => rfl
  | 5, _ => rfl
  | 6, _ => rfl
  | 7, _ => rfl
  | n + 8, hj => exact absurd hj (by omega)
theorem moJ4_init : Mo yJ4_init 0 := by
  refine ⟨by decide, by decide, by decide +kernel⟩
theorem ct_X2_init (g : Gv) (J : Jd g) {b : Nat} : Ct g yX2_init (ws_ yX2_init cX2_init 1 none) 6 6 40 [.ref b] [[(b, .inr (1, [.null, .null, .null, .null, .int (nI 0)]))]] (fun (rv_ : Option Value) (rL_ : List va_W) => ∃ (u0 : va_W), rv_ = none ∧ rL_ = [u0] ∧ BookP g b ([]) ([]) (nI 1) u0) noX := by
  refine Ct.ofI "Keygrove$Book" [some (.ref b)] rfl (by decide) rfl (Nat.le_of_ble_eq_true rfl) rfl rfl ?_
  intro κ B E tb ini
  refine g_aload_n (q := 1) B dX2_init_0 rfl rfl (rv_r _) ?_
  refine g_objInit (q := 4) B q164 q157 q158 dX2_init_1 rfl rfl (Nat.le_of_ble_eq_true rfl) ?_
  refine g_aload_n (q := 5) B dX2_init_4 rfl rfl (rv_r _) ?_
  refine g_new (q := 8) (kc2 := 5) (ks2 := 37) (fs := [.int (nI 0), .null, .int (nI 0)]) B (ci := 21) in_J2 tyJ2_ok rfl dX2_init_5 rfl q165 q166 q81 (nwJ2) (Nat.le_of_ble_eq_true rfl) (Nat.le_of_ble_eq_true rfl) (fun n5 => ?_)
  refine (show Go g κ 8 [some (.ref b)] [.ref n5, .ref b] [[(b, .inr (1, [.null, .null, .null, .null, .int (nI 0)]))], [(n5, .inr (21, [.int (nI 0), .null, .int (nI 0)]))]] 5 37 from ?_)
  refine g_dup (q := 9) B dX2_init_8 rfl rfl ?_
  refine g_callI (q := 12) (is := [1]) (kc2 := 5) (ks2 := 37) B [] (ct_J2_init g J (p := n5)  ) dX2_init_9 rfl rfl q167 q168 q81 q169 rfl rfl moJ2_init rfl rfl (by decide) (by decide) (Nat.le_of_ble_eq_true rfl) (Nat.le_of_ble_eq_true rfl) (Nat.le_of_ble_eq_true rfl) (fun _ _ hx => noX_x hx) (fun v9 L1 hp9 => ?_)
  obtain ⟨u0_9, rfl, rfl, hu0_9⟩ := hp9
  refine (show Go g κ 12 [some (.ref b)] [.ref n5, .ref b] [[(b, .inr (1, [.null, .null, .null, .null, .int (nI 0)]))], u0_9] 5 37 from ?_)
  refine g_putF (q := 15) (L2 := [[(b, .inr (1, [.ref n5, .null, .null, .null, .int (nI 0)]))], u0_9]) B (ci := 1) (k := 0) (j := 0) in_X2 tyX2 tyX2_ok nmX2 rfl dX2_init_12 rfl rfl (Nat.le_of_ble_eq_true rfl) q232 rfl rfl (ini) rfl rfl rfl (Nat.le_of_ble_eq_true rfl) rfl ?_
  refine g_aload_n (q := 16) B dX2_init_15 rfl rfl (rv_r _) ?_
  refine g_new (q := 19) (kc2 := 4) (ks2 := 29) (fs := [.null, .null, .null, .null, .int (nI 0), .int (nI 0), .int (nI 0), .float 0]) B (ci := 23) in_J4 tyJ4_ok rfl dX2_init_16 rfl q194 q195 q83 (nwJ4) (Nat.le_of_ble_eq_true rfl) (Nat.le_of_ble_eq_true rfl) (fun n16 => ?_)
  refine (show Go g κ 19 [some (.ref b)] [.ref n16, .ref b] [[(b, .inr (1, [.ref n5, .null, .null, .null, .int (nI 0)]))], u0_9, [(n16, .inr (23, [.null, .null, .null, .null, .int (nI 0), .int (nI 0), .int (nI 0), .float 0]))]] 4 29 from ?_)
  refine g_dup (q := 20) B dX2_init_19 rfl rfl ?_
  refine g_callI (q := 23) (is := [2]) (kc2 := 4) (ks2 := 29) B [] (ct_J4_init g J (h := n16)  ) dX2_init_20 rfl rfl q196 q197 q83 q198 rfl rfl moJ4_init rfl rfl (by decide) (by decide) (Nat.le_of_ble_eq_true rfl) (Nat.le_of_ble_eq_true rfl) (Nat.le_of_ble_eq_true rfl) (fun _ _ hx => noX_x hx) (fun v20 L1 hp20 => ?_)
  obtain ⟨u0_20, rfl, rfl, hu0_20⟩ := hp20
  refine (show Go g κ 23 [some (.ref b)] [.ref n16, .ref b] [[(b, .inr (1, [.ref n5, .null, .null, .null, .int (nI 0)]))], u0_9, u0_20] 4 29 from ?_)
  refine g_putF (q := 26) (L2 := [[(b, .inr (1, [.ref n5, .ref n16, .null, .null, .int (nI 0)]))], u0_9, u0_20]) B (ci := 1) (k := 0) (j := 1) in_X2 tyX2 tyX2_ok nmX2 rfl dX2_init_23 rfl rfl (Nat.le_of_ble_eq_true rfl) q233 rfl rfl (ini) rfl rfl rfl (Nat.le_of_ble_eq_true rfl) rfl ?_
  refine g_aload_n (q := 27) B dX2_init_26 rfl rfl (rv_r _) ?_
  refine g_new (q := 30) (kc2 := 3) (ks2 := 26) (fs := [.int (nI 0), .null, .int (nI 0)]) B (ci := 21) in_J2 tyJ2_ok rfl dX2_init_27 rfl q165 q166 q81 (nwJ2) (Nat.le_of_ble_eq_true rfl) (Nat.le_of_ble_eq_true rfl) (fun n27 => ?_)
  refine (show Go g κ 30 [some (.ref b)] [.ref n27, .ref b] [[(b, .inr (1, [.ref n5, .ref n16, .null, .null, .int (nI 0)]))], u0_9, u0_20, [(n27, .inr (21, [.int (nI 0), .null, .int (nI 0)]))]] 3 26 from ?_)
  refine g_dup (q := 31) B dX2_init_30 rfl rfl ?_
  refine g_callI (q := 34) (is := [3]) (kc2 := 3) (ks2 := 26) B [] (ct_J2_init g J (p := n27)  ) dX2_init_31 rfl rfl q167 q168 q81 q169 rfl rfl moJ2_init rfl rfl (by decide) (by decide) (Nat.le_of_ble_eq_true rfl) (Nat.le_of_ble_eq_true rfl) (Nat.le_of_ble_eq_true rfl) (fun _ _ hx => noX_x hx) (fun v31 L1 hp31 => ?_)
  obtain ⟨u0_31, rfl, rfl, hu0_31⟩ := hp31
  refine (show Go g κ 34 [some (.ref b)] [.ref n27, .ref b] [[(b, .inr (1, [.ref n5, .ref n16, .null, .null, .int (nI 0)]))], u0_9, u0_20, u0_31] 3 26 from ?_)
  refine g_putF (q := 37) (L2 := [[(b, .inr (1, [.ref n5, .ref n16, .ref n27, .null, .int (nI 0)]))], u0_9, u0_20, u0_31]) B (ci := 1) (k := 0) (j := 2) in_X2 tyX2 tyX2_ok nmX2 rfl dX2_init_34 rfl rfl (Nat.le_of_ble_eq_true rfl) q234 rfl rfl (ini) rfl rfl rfl (Nat.le_of_ble_eq_true rfl) rfl ?_
  refine g_aload_n (q := 38) B dX2_init_37 rfl rfl (rv_r _) ?_
  refine g_new (q := 41) (kc2 := 2) (ks2 := 23) (fs := [.int (nI 0), .null, .int (nI 0)]) B (ci := 21) in_J2 tyJ2_ok rfl dX2_init_38 rfl q165 q166 q81 (nwJ2) (Nat.le_of_ble_eq_true rfl) (Nat.le_of_ble_eq_true rfl) (fun n38 => ?_)
  refine (show Go g κ 41 [some (.ref b)] [.ref n38, .ref b] [[(b, .inr (1, [.ref n5, .ref n16, .ref n27, .null, .int (nI 0)]))], u0_9, u0_20, u0_31, [(n38, .inr (21, [.int (nI 0), .null, .int (nI 0)]))]] 2 23 from ?_)
  refine g_dup (q := 42) B dX2_init_41 rfl rfl ?_
  refine g_callI (q := 45) (is := [4]) (kc2 := 2) (ks2 := 23) B [] (ct_J2_init g J (p := n38)  ) dX2_init_42 rfl rfl q167 q168 q81 q169 rfl rfl moJ2_init rfl rfl (by decide) (by decide) (Nat.le_of_ble_eq_true rfl) (Nat.le_of_ble_eq_true rfl) (Nat.le_of_ble_eq_true rfl) (fun _ _ hx => noX_x hx) (fun v42 L1 hp42 => ?_)
  obtain ⟨u0_42, rfl, rfl, hu0_42⟩ := hp42
  refine (show Go g κ 45 [some (.ref b)] [.ref n38, .ref b] [[(b, .inr (1, [.ref n5, .ref n16, .ref n27, .null, .int (nI 0)]))], u0_9, u0_20, u0_31, u0_42] 2 23 from ?_)
  refine g_putF (q := 48) (L2 := [[(b, .inr (1, [.ref n5, .ref n16, .ref n27, .ref n38, .int (nI 0)]))], u0_9, u0_20, u0_31, u0_42]) B (ci := 1) (k := 0) (j := 3) in_X2 tyX2 tyX2_ok nmX2 rfl dX2_init_45 rfl rfl (Nat.le_of_ble_eq_true rfl) q236 rfl rfl (ini) rfl rfl rfl (Nat.le_of_ble_eq_true rfl) rfl ?_
  refine g_aload_n (q := 49) B dX2_init_48 rfl rfl (rv_r _) ?_
  refine g_iconst (v := nI 1) (q := 50) B dX2_init_49 rfl (by decide) ?_
  refine g_put (q := 53) (L2 := [[(b, .inr (1, [.ref n5, .ref n16, .ref n27, .ref n38, .int (nI 1)]))], u0_9, u0_20, u0_31, u0_42]) B (ci := 1) (k := 0) (j := 4) in_X2 tyX2 tyX2_ok nmX2 rfl dX2_init_50 rfl rfl (Nat.le_of_ble_eq_true rfl) q237 rfl rfl rfl rfl (Nat.le_of_ble_eq_true rfl) rfl ?_
  obtain ⟨wc_1, ewc_1⟩ : ∃ w : va_W, w = ([] : List va_W).flatten := ⟨_, rfl⟩
  have hwc_1 : KvP g ([]) (dv []) wc_1 := by
    rw [ewc_1]
    exact ⟨rfl, Big.nil⟩
  refine g_close (w := wc_1) [] rfl ewc_1 rfl ?_
  refine (show Go g κ 53 [some (.ref b)] [] [[(b, .inr (1, [.ref n5, .ref n16, .ref n27, .ref n38, .int (nI 1)]))], u0_9, u0_20, u0_31, u0_42, wc_1] 2 23 from ?_)
  obtain ⟨wc_2, ewc_2⟩ : ∃ w : va_W, w = ([[(b, .inr (1, [.ref n5, .ref n16, .ref n27, .ref n38, .int (nI 1)]))], u0_9, u0_20, wc_1, u0_31, u0_42] : List va_W).flatten := ⟨_, rfl⟩
  have hwc_2 : BookP g b ([]) ([]) (nI 1) wc_2 := by
    rw [ewc_2]
    exact ⟨n5, n16, n27, n38, ([]), _, _, _, _, _, ⟨(fun d h => by cases h), List.nodup_nil⟩, (fun p h => by cases h), (hu0_9.nilH), hu0_20, hwc_1, (hu0_31.nilH), (hu0_42.nilH), rfl⟩
  refine g_close (w := wc_2) [0, 0, 0, 2, 0, 0] rfl ewc_2 rfl ?_
  refine (show Go g κ 53 [some (.ref b)] [] [wc_2] 2 23 from ?_)
  exact g_vret B E dX2_init_53 (⟨wc_2, rfl, rfl, hwc_2⟩)
theorem KsB0 : KsB (([], [], nI 1, [], [], [], [], [], [], fun _ => false, 0) : KsS) := ⟨(by decide), (by decide), (by decide), (by decide), (by decide), (by decide), rfl, (by decide), (by decide), (fun x h => by cases h), fun i r h => absurd (show (none : Option PeS) = some r from h) (fun z => by cases z)⟩
theorem PersL.nil {g : Gv} {p x : Nat} {md : Int32} {cap : Nat} {w : va_W} (h : ListP g p [] md cap w) : PersL g p [] [] cap x [] md w := ⟨w, _, h, BigL.nil, by simp⟩
theorem PropL.nil {g : Gv} {p : Nat} {md : Int32} {cap : Nat} {w : va_W} (h : ListP g p [] md cap w) : PropL g p [] cap [] w := ListP.nilH h
theorem nwX2 : ∀ j, j < 5 → defaultValue (tyX2 j) = vp_V [.null, .null, .null, .null, .int (nI 0)] j := by
  intro j hj
  match j, hj with
  | 0, _ => rfl
  | 1, _ => rfl
  | 2, _ => rfl
  | 3, _ => rfl
  | 4, _ => rfl
  | n + 5, hj => exact absurd hj (by omega)
theorem moX2_init : Mo yX2_init 0 := by
  refine ⟨by decide, by decide, by decide +kernel⟩
theorem ct_X1_init (g : Gv) (J : Jd g) {x : Nat} : Ct g yX1_init (ws_ yX1_init cX1_init 1 none) 7 20 100 [.ref x] [[(x, .inr (0, [.null, .null, .null, .null, .null, .null, .null, .null, .int (nI 0)]))]] (fun (rv_ : Option Value) (rL_ : List va_W) => ∃ (u0 : va_W), rv_ = none ∧ rL_ = [u0] ∧ KgP g x (([], [], nI 1, [], [], [], [], [], [], fun _ => false, 0) : KsS) u0) noX := by
  refine Ct.ofI "Keygrove" [some (.ref x)] rfl (by decide) rfl (Nat.le_of_ble_eq_true rfl) rfl rfl ?_
  intro κ B E tb ini
  refine g_aload_n (q := 1) B dX1_init_0 rfl rfl (rv_r _) ?_
  refine g_objInit (q := 4) B q156 q157 q158 dX1_init_1 rfl rfl (Nat.le_of_ble_eq_true rfl) ?_
  refine g_aload_n (q := 5) B dX1_init_4 rfl rfl (rv_r _) ?_
  refine g_new (q := 8) (kc2 := 19) (ks2 := 95) (fs := [.null, .null, .null, .null, .int (nI 0)]) B (ci := 1) in_X2 tyX2_ok rfl dX1_init_5 rfl q159 q160 q78 (nwX2) (Nat.le_of_ble_eq_true rfl) (Nat.le_of_ble_eq_true rfl) (fun n5 => ?_)
  refine (show Go g κ 8 [some (.ref x)] [.ref n5, .ref x] [[(x, .inr (0, [.null, .null, .null, .null, .null, .null, .null, .null, .int (nI 0)]))], [(n5, .inr (1, [.null, .null, .null, .null, .int (nI 0)]))]] 19 95 from ?_)
  refine g_dup (q := 9) B dX1_init_8 rfl rfl ?_
  refine g_callIN (q := 12) (is := [1]) (kc2 := 13) (ks2 := 55) B [] (ct_X2_init g J (b := n5)  ) dX1_init_9 rfl rfl q161 q162 q78 q163 rfl rfl moX2_init rfl rfl (by decide) (by decide) (Nat.le_of_ble_eq_true rfl) (Nat.le_of_ble_eq_true rfl) (Nat.le_of_ble_eq_true rfl) (fun _ _ hx => noX_x hx) (fun v9 L1 hp9 => ?_)
  obtain ⟨u0_9, rfl, rfl, hu0_9⟩ := hp9
  refine (show Go g κ 12 [some (.ref x)] [.ref n5, .ref x] [[(x, .inr (0, [.null, .null, .null, .null, .null, .null, .null, .null, .int (nI 0)]))], u0_9] 13 55 from ?_)
  refine g_putF (q := 15) (L2 := [[(x, .inr (0, [.ref n5, .null, .null, .null, .null, .null, .null, .null, .int (nI 0)]))], u0_9]) B (ci := 0) (k := 0) (j := 0) in_X1 tyX1 tyX1_ok nmX1 rfl dX1_init_12 rfl rfl (Nat.le_of_ble_eq_true rfl) q277 rfl rfl (ini) rfl rfl rfl (Nat.le_of_ble_eq_true rfl) rfl ?_
  refine g_aload_n (q := 16) B dX1_init_15 rfl rfl (rv_r _) ?_
  refine g_new (q := 19) (kc2 := 12) (ks2 := 52) (fs := [.int (nI 0), .null, .int (nI 0)]) B (ci := 21) in_J2 tyJ2_ok rfl dX1_init_16 rfl q250 q166 q81 (nwJ2) (Nat.le_of_ble_eq_true rfl) (Nat.le_of_ble_eq_true rfl) (fun n16 => ?_)
  refine (show Go g κ 19 [some (.ref x)] [.ref n16, .ref x] [[(x, .inr (0, [.ref n5, .null, .null, .null, .null, .null, .null, .null, .int (nI 0)]))], u0_9, [(n16, .inr (21, [.int (nI 0), .null, .int (nI 0)]))]] 12 52 from ?_)
  refine g_dup (q := 20) B dX1_init_19 rfl rfl ?_
  refine g_callI (q := 23) (is := [2]) (kc2 := 12) (ks2 := 52) B [] (ct_J2_init g J (p := n16)  ) dX1_init_20 rfl rfl q251 q168 q81 q169 rfl rfl moJ2_init rfl rfl (by decide) (by decide) (Nat.le_of_ble_eq_true rfl) (Nat.le_of_ble_eq_true rfl) (Nat.le_of_ble_eq_true rfl) (fun _ _ hx => noX_x hx) (fun v20 L1 hp20 => ?_)
  obtain ⟨u0_20, rfl, rfl, hu0_20⟩ := hp20
  refine (show Go g κ 23 [some (.ref x)] [.ref n16, .ref x] [[(x, .inr (0, [.ref n5, .null, .null, .null, .null, .null, .null, .null, .int (nI 0)]))], u0_9, u0_20] 12 52 from ?_)
  refine g_putF (q := 26) (L2 := [[(x, .inr (0, [.ref n5, .ref n16, .null, .null, .null, .null, .null, .null, .int (nI 0)]))], u0_9, u0_20]) B (ci := 0) (k := 0) (j := 1) in_X1 tyX1 tyX1_ok nmX1 rfl dX1_init_23 rfl rfl (Nat.le_of_ble_eq_true rfl) q278 rfl rfl (ini) rfl rfl rfl (Nat.le_of_ble_eq_true rfl) rfl ?_
  refine g_aload_n (q := 27) B dX1_init_26 rfl rfl (rv_r _) ?_
  refine g_new (q := 30) (kc2 := 11) (ks2 := 49) (fs := [.int (nI 0), .null, .int (nI 0)]) B (ci := 21) in_J2 tyJ2_ok rfl dX1_init_27 rfl q250 q166 q81 (nwJ2) (Nat.le_of_ble_eq_true rfl) (Nat.le_of_ble_eq_true rfl) (fun n27 => ?_)
  refine (show Go g κ 30 [some (.ref x)] [.ref n27, .ref x] [[(x, .inr (0, [.ref n5, .ref n16, .null, .null, .null, .null, .null, .null, .int (nI 0)]))], u0_9, u0_20, [(n27, .inr (21, [.int (nI 0), .null, .int (nI 0)]))]] 11 49 from ?_)
  refine g_dup (q := 31) B dX1_init_30 rfl rfl ?_
  refine g_callI (q := 34) (is := [3]) (kc2 := 11) (ks2 := 49) B [] (ct_J2_init g J (p := n27)  ) dX1_init_31 rfl rfl q251 q168 q81 q169 rfl rfl moJ2_init rfl rfl (by decide) (by decide) (Nat.le_of_ble_eq_true rfl) (Nat.le_of_ble_eq_true rfl) (Nat.le_of_ble_eq_true rfl) (fun _ _ hx => noX_x hx) (fun v31 L1 hp31 => ?_)
  obtain ⟨u0_31, rfl, rfl, hu0_31⟩ := hp31
  refine (show Go g κ 34 [some (.ref x)] [.ref n27, .ref x] [[(x, .inr (0, [.ref n5, .ref n16, .null, .null, .null, .null, .null, .null, .int (nI 0)]))], u0_9, u0_20, u0_31] 11 49 from ?_)
  refine g_putF (q := 37) (L2 := [[(x, .inr (0, [.ref n5, .ref n16, .ref n27, .null, .null, .null, .null, .null, .int (nI 0)]))], u0_9, u0_20, u0_31]) B (ci := 0) (k := 0) (j := 2) in_X1 tyX1 tyX1_ok nmX1 rfl dX1_init_34 rfl rfl (Nat.le_of_ble_eq_true rfl) q279 rfl rfl (ini) rfl rfl rfl (Nat.le_of_ble_eq_true rfl) rfl ?_
  refine g_aload_n (q := 38) B dX1_init_37 rfl rfl (rv_r _) ?_
  refine g_new (q := 41) (kc2 := 10) (ks2 := 46) (fs := [.int (nI 0), .null, .int (nI 0)]) B (ci := 21) in_J2 tyJ2_ok rfl dX1_init_38 rfl q250 q166 q81 (nwJ2) (Nat.le_of_ble_eq_true rfl) (Nat.le_of_ble_eq_true rfl) (fun n38 => ?_)
  refine (show Go g κ 41 [some (.ref x)] [.ref n38, .ref x] [[(x, .inr (0, [.ref n5, .ref n16, .ref n27, .null, .null, .null, .null, .null, .int (nI 0)]))], u0_9, u0_20, u0_31, [(n38, .inr (21, [.int (nI 0), .null, .int (nI 0)]))]] 10 46 from ?_)
  refine g_dup (q := 42) B dX1_init_41 rfl rfl ?_
  refine g_callI (q := 45) (is := [4]) (kc2 := 10) (ks2 := 46) B [] (ct_J2_init g J (p := n38)  ) dX1_init_42 rfl rfl q251 q168 q81 q169 rfl rfl moJ2_init rfl rfl (by decide) (by decide) (Nat.le_of_ble_eq_true rfl) (Nat.le_of_ble_eq_true rfl) (Nat.le_of_ble_eq_true rfl) (fun _ _ hx => noX_x hx) (fun v42 L1 hp42 => ?_)
  obtain ⟨u0_42, rfl, rfl, hu0_42⟩ := hp42
  refine (show Go g κ 45 [some (.ref x)] [.ref n38, .ref x] [[(x, .inr (0, [.ref n5, .ref n16, .ref n27, .null, .null, .null, .null, .null, .int (nI 0)]))], u0_9, u0_20, u0_31, u0_42] 10 46 from ?_)
  refine g_putF (q := 48) (L2 := [[(x, .inr (0, [.ref n5, .ref n16, .ref n27, .ref n38, .null, .null, .null, .null, .int (nI 0)]))], u0_9, u0_20, u0_31, u0_42]) B (ci := 0) (k := 0) (j := 3) in_X1 tyX1 tyX1_ok nmX1 rfl dX1_init_45 rfl rfl (Nat.le_of_ble_eq_true rfl) q280 rfl rfl (ini) rfl rfl rfl (Nat.le_of_ble_eq_true rfl) rfl ?_
  refine g_aload_n (q := 49) B dX1_init_48 rfl rfl (rv_r _) ?_
  refine g_new (q := 52) (kc2 := 9) (ks2 := 43) (fs := [.int (nI 0), .null, .int (nI 0)]) B (ci := 21) in_J2 tyJ2_ok rfl dX1_init_49 rfl q250 q166 q81 (nwJ2) (Nat.le_of_ble_eq_true rfl) (Nat.le_of_ble_eq_true rfl) (fun n49 => ?_)
  refine (show Go g κ 52 [some (.ref x)] [.ref n49, .ref x] [[(x, .inr (0, [.ref n5, .ref n16, .ref n27, .ref n38, .null, .null, .null, .null, .int (nI 0)]))], u0_9, u0_20, u0_31, u0_42, [(n49, .inr (21, [.int (nI 0), .null, .int (nI 0)]))]] 9 43 from ?_)
  refine g_dup (q := 53) B dX1_init_52 rfl rfl ?_
  refine g_callI (q := 56) (is := [5]) (kc2 := 9) (ks2 := 43) B [] (ct_J2_init g J (p := n49)  ) dX1_init_53 rfl rfl q251 q168 q81 q169 rfl rfl moJ2_init rfl rfl (by decide) (by decide) (Nat.le_of_ble_eq_true rfl) (Nat.le_of_ble_eq_true rfl) (Nat.le_of_ble_eq_true rfl) (fun _ _ hx => noX_x hx) (fun v53 L1 hp53 => ?_)
  obtain ⟨u0_53, rfl, rfl, hu0_53⟩ := hp53
  refine (show Go g κ 56 [some (.ref x)] [.ref n49, .ref x] [[(x, .inr (0, [.ref n5, .ref n16, .ref n27, .ref n38, .null, .null, .null, .null, .int (nI 0)]))], u0_9, u0_20, u0_31, u0_42, u0_53] 9 43 from ?_)
  refine g_putF (q := 59) (L2 := [[(x, .inr (0, [.ref n5, .ref n16, .ref n27, .ref n38, .ref n49, .null, .null, .null, .int (nI 0)]))], u0_9, u0_20, u0_31, u0_42, u0_53]) B (ci := 0) (k := 0) (j := 4) in_X1 tyX1 tyX1_ok nmX1 rfl dX1_init_56 rfl rfl (Nat.le_of_ble_eq_true rfl) q282 rfl rfl (ini) rfl rfl rfl (Nat.le_of_ble_eq_true rfl) rfl ?_
  refine g_aload_n (q := 60) B dX1_init_59 rfl rfl (rv_r _) ?_
  refine g_new (q := 63) (kc2 := 8) (ks2 := 40) (fs := [.int (nI 0), .null, .int (nI 0)]) B (ci := 21) in_J2 tyJ2_ok rfl dX1_init_60 rfl q250 q166 q81 (nwJ2) (Nat.le_of_ble_eq_true rfl) (Nat.le_of_ble_eq_true rfl) (fun n60 => ?_)
  refine (show Go g κ 63 [some (.ref x)] [.ref n60, .ref x] [[(x, .inr (0, [.ref n5, .ref n16, .ref n27, .ref n38, .ref n49, .null, .null, .null, .int (nI 0)]))], u0_9, u0_20, u0_31, u0_42, u0_53, [(n60, .inr (21, [.int (nI 0), .null, .int (nI 0)]))]] 8 40 from ?_)
  refine g_dup (q := 64) B dX1_init_63 rfl rfl ?_
  refine g_callI (q := 67) (is := [6]) (kc2 := 8) (ks2 := 40) B [] (ct_J2_init g J (p := n60)  ) dX1_init_64 rfl rfl q251 q168 q81 q169 rfl rfl moJ2_init rfl rfl (by decide) (by decide) (Nat.le_of_ble_eq_true rfl) (Nat.le_of_ble_eq_true rfl) (Nat.le_of_ble_eq_true rfl) (fun _ _ hx => noX_x hx) (fun v64 L1 hp64 => ?_)
  obtain ⟨u0_64, rfl, rfl, hu0_64⟩ := hp64
  refine (show Go g κ 67 [some (.ref x)] [.ref n60, .ref x] [[(x, .inr (0, [.ref n5, .ref n16, .ref n27, .ref n38, .ref n49, .null, .null, .null, .int (nI 0)]))], u0_9, u0_20, u0_31, u0_42, u0_53, u0_64] 8 40 from ?_)
  refine g_putF (q := 70) (L2 := [[(x, .inr (0, [.ref n5, .ref n16, .ref n27, .ref n38, .ref n49, .ref n60, .null, .null, .int (nI 0)]))], u0_9, u0_20, u0_31, u0_42, u0_53, u0_64]) B (ci := 0) (k := 0) (j := 5) in_X1 tyX1 tyX1_ok nmX1 rfl dX1_init_67 rfl rfl (Nat.le_of_ble_eq_true rfl) q283 rfl rfl (ini) rfl rfl rfl (Nat.le_of_ble_eq_true rfl) rfl ?_
  refine g_aload_n (q := 71) B dX1_init_70 rfl rfl (rv_r _) ?_
  refine g_new (q := 74) (kc2 := 7) (ks2 := 37) (fs := [.int (nI 0), .null, .int (nI 0)]) B (ci := 21) in_J2 tyJ2_ok rfl dX1_init_71 rfl q250 q166 q81 (nwJ2) (Nat.le_of_ble_eq_true rfl) (Nat.le_of_ble_eq_true rfl) (fun n71 => ?_)
  refine (show Go g κ 74 [some (.ref x)] [.ref n71, .ref x] [[(x, .inr (0, [.ref n5, .ref n16, .ref n27, .ref n38, .ref n49, .ref n60, .null, .null, .int (nI 0)]))], u0_9, u0_20, u0_31, u0_42, u0_53, u0_64, [(n71, .inr (21, [.int (nI 0), .null, .int (nI 0)]))]] 7 37 from ?_)
  refine g_dup (q := 75) B dX1_init_74 rfl rfl ?_
  refine g_callI (q := 78) (is := [7]) (kc2 := 7) (ks2 := 37) B [] (ct_J2_init g J (p := n71)  ) dX1_init_75 rfl rfl q251 q168 q81 q169 rfl rfl moJ2_init rfl rfl (by decide) (by decide) (Nat.le_of_ble_eq_true rfl) (Nat.le_of_ble_eq_true rfl) (Nat.le_of_ble_eq_true rfl) (fun _ _ hx => noX_x hx) (fun v75 L1 hp75 => ?_)
  obtain ⟨u0_75, rfl, rfl, hu0_75⟩ := hp75
  refine (show Go g κ 78 [some (.ref x)] [.ref n71, .ref x] [[(x, .inr (0, [.ref n5, .ref n16, .ref n27, .ref n38, .ref n49, .ref n60, .null, .null, .int (nI 0)]))], u0_9, u0_20, u0_31, u0_42, u0_53, u0_64, u0_75] 7 37 from ?_)
  refine g_putF (q := 81) (L2 := [[(x, .inr (0, [.ref n5, .ref n16, .ref n27, .ref n38, .ref n49, .ref n60, .ref n71, .null, .int (nI 0)]))], u0_9, u0_20, u0_31, u0_42, u0_53, u0_64, u0_75]) B (ci := 0) (k := 0) (j := 6) in_X1 tyX1 tyX1_ok nmX1 rfl dX1_init_78 rfl rfl (Nat.le_of_ble_eq_true rfl) q284 rfl rfl (ini) rfl rfl rfl (Nat.le_of_ble_eq_true rfl) rfl ?_
  refine g_aload_n (q := 82) B dX1_init_81 rfl rfl (rv_r _) ?_
  refine g_new (q := 85) (kc2 := 6) (ks2 := 34) (fs := [.null, .int (nI 0), .int (nI 0)]) B (ci := 26) in_J5 tyJ5_ok rfl dX1_init_82 rfl q252 q253 q84 (nwJ5) (Nat.le_of_ble_eq_true rfl) (Nat.le_of_ble_eq_true rfl) (fun n82 => ?_)
  refine (show Go g κ 85 [some (.ref x)] [.ref n82, .ref x] [[(x, .inr (0, [.ref n5, .ref n16, .ref n27, .ref n38, .ref n49, .ref n60, .ref n71, .null, .int (nI 0)]))], u0_9, u0_20, u0_31, u0_42, u0_53, u0_64, u0_75, [(n82, .inr (26, [.null, .int (nI 0), .int (nI 0)]))]] 6 34 from ?_)
  refine g_dup (q := 86) B dX1_init_85 rfl rfl ?_
  refine g_callI (q := 89) (is := [8]) (kc2 := 5) (ks2 := 33) B [] (ct_J5_init g J (b := n82)  ) dX1_init_86 rfl rfl q254 q255 q84 q256 rfl rfl moJ5_init rfl rfl (by decide) (by decide) (Nat.le_of_ble_eq_true rfl) (Nat.le_of_ble_eq_true rfl) (Nat.le_of_ble_eq_true rfl) (fun _ _ hx => noX_x hx) (fun v86 L1 hp86 => ?_)
  obtain ⟨u0_86, rfl, rfl, hu0_86⟩ := hp86
  refine (show Go g κ 89 [some (.ref x)] [.ref n82, .ref x] [[(x, .inr (0, [.ref n5, .ref n16, .ref n27, .ref n38, .ref n49, .ref n60, .ref n71, .null, .int (nI 0)]))], u0_9, u0_20, u0_31, u0_42, u0_53, u0_64, u0_75, u0_86] 5 33 from ?_)
  refine g_putF (q := 92) (L2 := [[(x, .inr (0, [.ref n5, .ref n16, .ref n27, .ref n38, .ref n49, .ref n60, .ref n71, .ref n82, .int (nI 0)]))], u0_9, u0_20, u0_31, u0_42, u0_53, u0_64, u0_75, u0_86]) B (ci := 0) (k := 0) (j := 7) in_X1 tyX1 tyX1_ok nmX1 rfl dX1_init_89 rfl rfl (Nat.le_of_ble_eq_true rfl) q285 rfl rfl (ini) rfl rfl rfl (Nat.le_of_ble_eq_true rfl) rfl ?_
  obtain ⟨wc_1, ewc_1⟩ : ∃ w : va_W, w = ([[(x, .inr (0, [.ref n5, .ref n16, .ref n27, .ref n38, .ref n49, .ref n60, .ref n71, .ref n82, .int (nI 0)]))], u0_9, u0_20, u0_31, u0_42, u0_53, u0_64, u0_75, u0_86] : List va_W).flatten := ⟨_, rfl⟩
  have hwc_1 : KgP g x (([], [], nI 1, [], [], [], [], [], [], fun _ => false, 0) : KsS) wc_1 := by
    rw [ewc_1]
    exact ⟨n5, n16, n27, n38, n49, n60, n71, n82, 0, 0, 0, 0, 0, 0, 1, ([]), ([]), (nI 0), _, _, _, _, _, _, _, _, ⟨by decide, by decide, by decide, by decide, by decide, by decide, by decide⟩, hu0_9, (PersL.nil hu0_20), (hu0_31.nilL), (PropL.nil hu0_42), (hu0_53.nilH), (hu0_64.nilH), (hu0_75.nilH), hu0_86, rfl⟩
  refine g_close (w := wc_1) [0, 0, 0, 0, 0, 0, 0, 0, 0] rfl ewc_1 rfl ?_
  refine (show Go g κ 92 [some (.ref x)] [] [wc_1] 5 33 from ?_)
  exact g_vret B E dX1_init_92 (⟨wc_1, rfl, rfl, hwc_1⟩)
