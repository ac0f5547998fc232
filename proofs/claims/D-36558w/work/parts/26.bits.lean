set_option maxRecDepth 100000
/-- a BitSet at b holding S; cap: its room in words -/
def SetP (g : Gv) (b : Nat) (S : Nat → Bool) (cap : Nat) (w : va_W) : Prop := ∃ n arr : Nat, n ≤ cap ∧ 0 < cap ∧ cap < 65536 ∧ (∀ i, 64 * n ≤ i → S i = false) ∧ w = ([[(b, .inr (26, [.ref arr, .int (nI n), .int (nI 0)]))], [(arr, .inl (g.2.1 3, cap, .inr (.inl (fun k => lN (wd S k)))))]] : List va_W).flatten
theorem SetP.hm {g : Gv} {b : Nat} {S : Nat → Bool} {cap : Nat} {w : va_W} (h : SetP g b S cap w) : ∃ fs, (b, .inr (26, fs)) ∈ w := by
  obtain ⟨n, arr, -, -, -, -, rfl⟩ := h
  exact ⟨_, List.mem_cons_self⟩
theorem SetP.cell {g : Gv} {b : Nat} {S : Nat → Bool} {cap : Nat} {w : va_W} (h : SetP g b S cap w) : ∃ n arr : Nat, n ≤ cap ∧ 0 < cap ∧ cap < 65536 ∧ (∀ i, 64 * n ≤ i → S i = false) ∧ (b, .inr (26, [.ref arr, .int (nI n), .int (nI 0)])) ∈ w ∧ (arr, .inl (g.2.1 3, cap, .inr (.inl (fun k => lN (wd S k))))) ∈ w := by
  obtain ⟨n, arr, h1, h2, h3, h4, rfl⟩ := h
  exact ⟨n, arr, h1, h2, h3, h4, List.mem_cons_self, List.mem_cons_of_mem _ List.mem_cons_self⟩
theorem SetP.bound {g : Gv} {b : Nat} {S : Nat → Bool} {cap : Nat} {w : va_W} (h : SetP g b S cap w) : 0 < cap ∧ cap < 65536 ∧ ∀ i, 64 * cap ≤ i → S i = false := by
  obtain ⟨n, arr, h1, h2, h3, h4, -⟩ := h
  exact ⟨h2, h3, fun i hi => h4 i (by omega)⟩
theorem nI_m32 (n : Nat) : nI n = nI (n % 2 ^ 32) := by
  apply Int32.toBitVec_inj.mp
  show BitVec.ofNat 32 n = BitVec.ofNat 32 (n % 2 ^ 32)
  apply BitVec.eq_of_toNat_eq
  simp
theorem nI_z32 {n : Nat} (h : n < 2 ^ 32) : nI n = 0 ↔ n = 0 := by
  constructor
  · intro e
    have := congrArg (fun x => x.toBitVec.toNat) e
    simp only [pk_tn h] at this
    simpa using this
  · rintro rfl; rfl
theorem tz_hi {n t : Nat} (h1 : n.testBit t = true) (h : n % 2 ^ 32 = 0) (hn : n < 2 ^ 64) : 32 ≤ t ∧ (n / 2 ^ 32).testBit (t - 32) = true := by
  have ht : 32 ≤ t := by
    refine Classical.byContradiction fun hc => ?_
    have := Nat.testBit_mod_two_pow n 32 t
    rw [h, Nat.zero_testBit, h1] at this
    simp [show t < 32 by omega] at this
  refine ⟨ht, ?_⟩
  rw [Nat.testBit_div_two_pow, show t - 32 + 32 = t by omega]
  exact h1
theorem tz_lo {n t : Nat} (h1 : n.testBit t = true) (h2 : ∀ j, j < t → n.testBit j = false) (h : ¬ n % 2 ^ 32 = 0) : t < 32 := by
  refine Classical.byContradiction fun hc => h (Nat.eq_of_testBit_eq fun j => ?_)
  rw [Nat.testBit_mod_two_pow, Nat.zero_testBit]
  by_cases hj : j < 32
  · rw [h2 j (by omega)]; simp
  · simp [hj]
theorem moJ26_numberOfTrailingZeros : Mo yJ26_numberOfTrailingZeros 1 := by
  refine ⟨by decide, by decide, by decide +kernel⟩
theorem ct_J36_numberOfTrailingZeros (g : Gv) (J : Jd g) {n : Nat} {t : Nat} (hn : n < 2 ^ 64) (ht : t < 64) (h1 : n.testBit t = true) (h2 : ∀ j, j < t → n.testBit j = false) : Ct g yJ36_numberOfTrailingZeros (ws_ yJ36_numberOfTrailingZeros cJ36_numberOfTrailingZeros 3 (some .int)) 1 0 0 [.long (lN n)] [] (fun (rv_ : Option Value) (rL_ : List va_W) => rv_ = some (.int (nI t)) ∧ rL_ = []) noX := by
  refine Ct.of "java/lang/Long" [some (.long (lN n)), none, none] rfl (by decide) rfl (Nat.le_of_ble_eq_true rfl) rfl ?_
  intro κ B E tb
  refine g_lload_n (q := 1) B dJ36_numberOfTrailingZeros_0 rfl rfl ?_
  refine g_l2i (v := nI (n % 2 ^ 32)) (q := 2) B dJ36_numberOfTrailingZeros_1 rfl (by rw [lN_i]; exact nI_m32 n) ?_
  refine g_istore_n (q := 3) (lv2 := [some (.long (lN n)), none, some (.int (nI (n % 2 ^ 32)))]) B dJ36_numberOfTrailingZeros_2 rfl (Nat.le_of_ble_eq_true rfl) rfl ?_
  refine g_iload_n (q := 4) B dJ36_numberOfTrailingZeros_3 rfl rfl ?_
  refine g_if_ne (tgt := 21) (q := 7) B dJ36_numberOfTrailingZeros_4 rfl (by decide) (not_congr (nI_z32 (Nat.mod_lt _ (by decide)))) (fun c4 => ?_) (fun c4 => ?_)
  · skip
    refine g_iload_n (q := 22) B dJ36_numberOfTrailingZeros_21 rfl rfl ?_
    refine g_callS (q := 25) (is := []) (kc2 := 0) (ks2 := 0) B [.int (nI (n % 2 ^ 32))] (ct_J26_numberOfTrailingZeros g (i0 := nI (n % 2 ^ 32))  ) dJ36_numberOfTrailingZeros_22 rfl q681 q682 q111 q683 rfl rfl moJ26_numberOfTrailingZeros rfl rfl (by decide) (by decide) (Nat.le_of_ble_eq_true rfl) (Nat.le_of_ble_eq_true rfl) (Nat.le_of_ble_eq_true rfl) (fun _ _ hx => noX_x hx) (fun v22 L1 hp22 => ?_)
    obtain ⟨rfl, rfl⟩ := hp22
    refine (show Go g κ 25 [some (.long (lN n)), none, some (.int (nI (n % 2 ^ 32)))] [.int (ntzI (nI (n % 2 ^ 32)))] [] 0 0 from ?_)
    have ht32 := tz_lo h1 h2 c4
    rw [ntz32 (n := n % 2 ^ 32) (t := t) (Nat.mod_lt _ (by decide)) ht32 (by rw [Nat.testBit_mod_two_pow]; simp [ht32, h1]) (fun j hj => by rw [Nat.testBit_mod_two_pow, h2 j hj]; simp)]
    exact g_iret B E dJ36_numberOfTrailingZeros_25 (⟨rfl, rfl⟩)
  · skip
    have c4 := Classical.not_not.mp c4
    refine g_bipush (v := nI 32) (q := 9) B dJ36_numberOfTrailingZeros_7 rfl (by decide) ?_
    refine g_lload_n (q := 10) B dJ36_numberOfTrailingZeros_9 rfl rfl ?_
    refine g_bipush (v := nI 32) (q := 12) B dJ36_numberOfTrailingZeros_10 rfl (by decide) ?_
    refine g_lushr (v := lN (n / 2 ^ 32)) (q := 13) B dJ36_numberOfTrailingZeros_12 rfl (wb_shr hn (by decide)) ?_
    refine g_l2i (v := nI (n / 2 ^ 32)) (q := 14) B dJ36_numberOfTrailingZeros_13 rfl (lN_i _) ?_
    refine g_callS (q := 17) (is := []) (kc2 := 0) (ks2 := 0) B [.int (nI (n / 2 ^ 32))] (ct_J26_numberOfTrailingZeros g (i0 := nI (n / 2 ^ 32))  ) dJ36_numberOfTrailingZeros_14 rfl q681 q682 q111 q683 rfl rfl moJ26_numberOfTrailingZeros rfl rfl (by decide) (by decide) (Nat.le_of_ble_eq_true rfl) (Nat.le_of_ble_eq_true rfl) (Nat.le_of_ble_eq_true rfl) (fun _ _ hx => noX_x hx) (fun v14 L1 hp14 => ?_)
    obtain ⟨rfl, rfl⟩ := hp14
    refine (show Go g κ 17 [some (.long (lN n)), none, some (.int (nI (n % 2 ^ 32)))] [.int (ntzI (nI (n / 2 ^ 32))), .int (nI 32)] [] 0 0 from ?_)
    refine g_iadd (v := nI t) (q := 18) B dJ36_numberOfTrailingZeros_17 rfl (by rw [ntz32 (n := n / 2 ^ 32) (t := t - 32) (by omega) (by omega) (tz_hi h1 c4 hn).2 (fun j hj => by rw [Nat.testBit_div_two_pow]; exact h2 _ (by omega)), nI_add]; congr 1; have := (tz_hi h1 c4 hn).1; omega) ?_
    refine g_goto (tgt := 25) B dJ36_numberOfTrailingZeros_18 (by decide) ?_
    exact g_iret B E dJ36_numberOfTrailingZeros_25 (⟨rfl, rfl⟩)
theorem pc_pack {n : Nat} (hn : n < 2 ^ 64) : ∃ a b c s1 s2 s3 : Nat, n - (n / 2 &&& 6148914691236517205) = a ∧ (a &&& 3689348814741910323) + (a / 4 &&& 3689348814741910323) = b ∧ (b + b / 16) &&& 1085102592571150095 = c ∧ c + c / 256 = s1 ∧ s1 + s1 / 65536 = s2 ∧ s2 + s2 / 4294967296 = s3 ∧ (n / 2 < 2 ^ 64 ∧ (n / 2 &&& 6148914691236517205) ≤ n) ∧ (a < 2 ^ 64 ∧ a / 4 < 2 ^ 64) ∧ (b < 2 ^ 64 ∧ b + b / 16 < 2 ^ 64) ∧ c < 2 ^ 64 ∧ s1 < 2 ^ 64 ∧ s2 < 2 ^ 64 ∧ s3 % 2 ^ 32 % 2 ^ 7 = pc64 n := by
  have hall := pc_all hn
  refine ⟨_, _, _, _, _, _, rfl, rfl, rfl, rfl, rfl, rfl, ?_⟩
  unfold pcA at hall
  generalize ha : n - (n / 2 &&& 6148914691236517205) = a at hall ⊢
  have hand0 : (n / 2 &&& 6148914691236517205) ≤ n / 2 := Nat.and_le_left
  have hand1 : (a &&& 3689348814741910323) ≤ 3689348814741910323 := Nat.and_le_right
  have hand2 : (a / 4 &&& 3689348814741910323) ≤ 3689348814741910323 := Nat.and_le_right
  generalize hb : (a &&& 3689348814741910323) + (a / 4 &&& 3689348814741910323) = b at hall ⊢
  have hb' : b ≤ 7378697629483820646 := by rw [← hb]; exact Nat.add_le_add hand1 hand2
  have ha' : a ≤ n := by rw [← ha]; exact Nat.sub_le _ _
  generalize hc : (b + b / 16) &&& 1085102592571150095 = c at hall ⊢
  have hB : ∀ z, pcB (z % 256) ≤ 8 := fun z => pcB_le _ (Nat.mod_lt _ (by decide))
  obtain ⟨hfin, hs3⟩ := pc_fold (hB n) (hB (n / 256)) (hB (n / 65536)) (hB (n / 16777216)) (hB (n / 4294967296)) (hB (n / 1099511627776)) (hB (n / 281474976710656)) (hB (n / 72057594037927936)) hall rfl rfl rfl
  have hfin : _ = pc64 n := hfin
  clear hall hc hb ha hand1 hand2 hB
  refine ⟨⟨?_, ?_⟩, ⟨?_, ?_⟩, ⟨?_, ?_⟩, ?_, ?_, ?_, ?_⟩
  · omega
  · omega
  · omega
  · omega
  · omega
  · omega
  · exact Nat.lt_of_le_of_lt (Nat.le_trans (Nat.le_add_right _ _) (Nat.le_trans (Nat.le_add_right _ _) (Nat.le_add_right _ _))) hs3
  · exact Nat.lt_of_le_of_lt (Nat.le_trans (Nat.le_add_right _ _) (Nat.le_add_right _ _)) hs3
  · exact Nat.lt_of_le_of_lt (Nat.le_add_right _ _) hs3
  · rw [← hfin]
    generalize c + c / 256 + (c + c / 256) / 65536 + (c + c / 256 + (c + c / 256) / 65536) / 4294967296 = z
    omega
theorem ct_J36_bitCount (g : Gv) (J : Jd g) {n : Nat} (hn : n < 2 ^ 64) : Ct g yJ36_bitCount (ws_ yJ36_bitCount cJ36_bitCount 2 (some .int)) 0 0 0 [.long (lN n)] [] (fun (rv_ : Option Value) (rL_ : List va_W) => rv_ = some (.int (nI (pc64 n))) ∧ rL_ = []) noX := by
  refine Ct.of "java/lang/Long" [some (.long (lN n)), none] rfl (by decide) rfl (Nat.le_of_ble_eq_true rfl) rfl ?_
  intro κ B E tb
  obtain ⟨a, b, c, s1, s2, s3, ha, hb, hc, h1, h2, h3, ⟨k1, k2⟩, ⟨k3, k4⟩, ⟨k5, k6⟩, k7, k8, k9, k10⟩ := pc_pack hn
  refine g_lload_n (q := 1) B dJ36_bitCount_0 rfl rfl ?_
  refine g_lload_n (q := 2) B dJ36_bitCount_1 rfl rfl ?_
  refine g_iconst (v := nI 1) (q := 3) B dJ36_bitCount_2 rfl (by decide) ?_
  refine g_lushr (v := lN (n / 2)) (q := 4) B dJ36_bitCount_3 rfl (wb_shr (k := 1) hn (by decide)) ?_
  refine g_ldc2 (v := 6148914691236517205) (q := 7) B dJ36_bitCount_4 rfl q1084 ?_
  refine g_land (v := lN (n / 2 &&& 6148914691236517205)) (q := 8) B dJ36_bitCount_7 rfl (wb_and k1 (Nat.le_of_ble_eq_true rfl)) ?_
  refine g_lsub (v := lN a) (q := 9) B dJ36_bitCount_8 rfl (by rw [lN_sub k2, ha]) ?_
  refine g_lstore_n (q := 10) (lv2 := [some (.long (lN a)), none]) B dJ36_bitCount_9 rfl (Nat.le_of_ble_eq_true rfl) rfl ?_
  refine g_lload_n (q := 11) B dJ36_bitCount_10 rfl rfl ?_
  refine g_ldc2 (v := 3689348814741910323) (q := 14) B dJ36_bitCount_11 rfl q1085 ?_
  refine g_land (v := lN (a &&& 3689348814741910323)) (q := 15) B dJ36_bitCount_14 rfl (wb_and k3 (Nat.le_of_ble_eq_true rfl)) ?_
  refine g_lload_n (q := 16) B dJ36_bitCount_15 rfl rfl ?_
  refine g_iconst (v := nI 2) (q := 17) B dJ36_bitCount_16 rfl (by decide) ?_
  refine g_lushr (v := lN (a / 4)) (q := 18) B dJ36_bitCount_17 rfl (wb_shr (k := 2) k3 (by decide)) ?_
  refine g_ldc2 (v := 3689348814741910323) (q := 21) B dJ36_bitCount_18 rfl q1085 ?_
  refine g_land (v := lN (a / 4 &&& 3689348814741910323)) (q := 22) B dJ36_bitCount_21 rfl (wb_and k4 (Nat.le_of_ble_eq_true rfl)) ?_
  refine g_ladd (v := lN b) (q := 23) B dJ36_bitCount_22 rfl (by rw [lN_add, hb]) ?_
  refine g_lstore_n (q := 24) (lv2 := [some (.long (lN b)), none]) B dJ36_bitCount_23 rfl (Nat.le_of_ble_eq_true rfl) rfl ?_
  refine g_lload_n (q := 25) B dJ36_bitCount_24 rfl rfl ?_
  refine g_lload_n (q := 26) B dJ36_bitCount_25 rfl rfl ?_
  refine g_iconst (v := nI 4) (q := 27) B dJ36_bitCount_26 rfl (by decide) ?_
  refine g_lushr (v := lN (b / 16)) (q := 28) B dJ36_bitCount_27 rfl (wb_shr (k := 4) k5 (by decide)) ?_
  refine g_ladd (v := lN (b + b / 16)) (q := 29) B dJ36_bitCount_28 rfl (lN_add _ _) ?_
  refine g_ldc2 (v := 1085102592571150095) (q := 32) B dJ36_bitCount_29 rfl q1086 ?_
  refine g_land (v := lN c) (q := 33) B dJ36_bitCount_32 rfl (by rw [show (1085102592571150095 : Int64) = lN 1085102592571150095 from rfl, wb_and k6 (Nat.le_of_ble_eq_true rfl), hc]) ?_
  refine g_lstore_n (q := 34) (lv2 := [some (.long (lN c)), none]) B dJ36_bitCount_33 rfl (Nat.le_of_ble_eq_true rfl) rfl ?_
  refine g_lload_n (q := 35) B dJ36_bitCount_34 rfl rfl ?_
  refine g_lload_n (q := 36) B dJ36_bitCount_35 rfl rfl ?_
  refine g_bipush (v := nI 8) (q := 38) B dJ36_bitCount_36 rfl (by decide) ?_
  refine g_lushr (v := lN (c / 256)) (q := 39) B dJ36_bitCount_38 rfl (wb_shr (k := 8) k7 (by decide)) ?_
  refine g_ladd (v := lN s1) (q := 40) B dJ36_bitCount_39 rfl (by rw [lN_add, h1]) ?_
  refine g_lstore_n (q := 41) (lv2 := [some (.long (lN s1)), none]) B dJ36_bitCount_40 rfl (Nat.le_of_ble_eq_true rfl) rfl ?_
  refine g_lload_n (q := 42) B dJ36_bitCount_41 rfl rfl ?_
  refine g_lload_n (q := 43) B dJ36_bitCount_42 rfl rfl ?_
  refine g_bipush (v := nI 16) (q := 45) B dJ36_bitCount_43 rfl (by decide) ?_
  refine g_lushr (v := lN (s1 / 65536)) (q := 46) B dJ36_bitCount_45 rfl (wb_shr (k := 16) k8 (by decide)) ?_
  refine g_ladd (v := lN s2) (q := 47) B dJ36_bitCount_46 rfl (by rw [lN_add, h2]) ?_
  refine g_lstore_n (q := 48) (lv2 := [some (.long (lN s2)), none]) B dJ36_bitCount_47 rfl (Nat.le_of_ble_eq_true rfl) rfl ?_
  refine g_lload_n (q := 49) B dJ36_bitCount_48 rfl rfl ?_
  refine g_lload_n (q := 50) B dJ36_bitCount_49 rfl rfl ?_
  refine g_bipush (v := nI 32) (q := 52) B dJ36_bitCount_50 rfl (by decide) ?_
  refine g_lushr (v := lN (s2 / 4294967296)) (q := 53) B dJ36_bitCount_52 rfl (wb_shr (k := 32) k9 (by decide)) ?_
  refine g_ladd (v := lN s3) (q := 54) B dJ36_bitCount_53 rfl (by rw [lN_add, h3]) ?_
  refine g_lstore_n (q := 55) (lv2 := [some (.long (lN s3)), none]) B dJ36_bitCount_54 rfl (Nat.le_of_ble_eq_true rfl) rfl ?_
  refine g_lload_n (q := 56) B dJ36_bitCount_55 rfl rfl ?_
  refine g_l2i (v := nI s3) (q := 57) B dJ36_bitCount_56 rfl (lN_i _) ?_
  refine g_bipush (v := nI 127) (q := 59) B dJ36_bitCount_57 rfl (by decide) ?_
  refine g_iand (v := nI (pc64 n)) (q := 60) B dJ36_bitCount_59 rfl (by rw [pk_and (nI s3) 7 rfl, nI_m32 s3, pk_tn (Nat.mod_lt _ (by decide)), k10]) ?_
  exact g_iret B E dJ36_bitCount_60 (⟨rfl, rfl⟩)
