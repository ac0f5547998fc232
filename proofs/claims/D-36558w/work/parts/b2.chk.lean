set_option maxRecDepth 100000
/-- the checksum: nodes, then persons -/
def ck1 (ss : List Sec) (T : TrS) (n : Nat) (s : Int64) : Int64 := match T.2.1 n with
  | none => 31 * s
  | some x => 31 * (31 * s + (vl ss x).toInt64) + (nI (T.2.2.1 n)).toInt64
def ckT (ss : List Sec) (T : TrS) (s : Int64) : Nat → Int64
  | 0 => s
  | k + 1 => ck1 ss T k (ckT ss T s k)
theorem ck1_n {ss : List Sec} {T : TrS} {n : Nat} {s : Int64} (h : T.2.1 n = none) : ck1 ss T n s = 31 * s := by unfold ck1; rw [h]
theorem ck1_s {ss : List Sec} {T : TrS} {n x : Nat} {s : Int64} (h : T.2.1 n = some x) : ck1 ss T n s = 31 * (31 * s + (vl ss x).toInt64) + (nI (T.2.2.1 n)).toInt64 := by unfold ck1; rw [h]
noncomputable def heB (Ks : List PkS) (r : PeS) (x : Nat) : Bool := @decide (helP Ks r x) (Classical.propDecidable _)
theorem heB_e {Ks : List PkS} {r : PeS} {S : Nat → Bool} (h : ∀ x, S x = true ↔ helP Ks r x) : S = heB Ks r := by
  funext x
  unfold heB
  rw [Bool.eq_iff_iff, h x]
  simp
def ck2 (s : Int64) (p : Nat × Int32) : Int64 := 31 * (31 * s + (nI p.1).toInt64) + p.2.toInt64
noncomputable def ckR (C : KsS) (r : PeS) : Nat × Int32 := (ctK (heB (zKs C) r), if pEp r = none then nI 0 else vl (zSs C) (pKy r))
noncomputable def ckP (C : KsS) (s : Int64) (k : Nat) : Int64 := (((zPs C).take k).map (ckR C)).foldl ck2 s
theorem ckP_s {C : KsS} {s : Int64} {k : Nat} {r : PeS} (h : (zPs C)[k]? = some r) : ckP C s (k + 1) = ck2 (ckP C s k) (ckR C r) := by
  unfold ckP; rw [List.take_add_one, h, List.map_append, List.foldl_append]; rfl
def ckZ (C : KsS) : Int64 := 31 * (217 + (zZz C).toInt64) + (nI (zTs C).length - nI 1).toInt64
noncomputable def ckS (C : KsS) (T : TrS) : Int64 := ckP C (if zTs C = [] then ckZ C else ckT (zSs C) T (ckZ C) (2 * 2 ^ T.1 - 1)) (zPs C).length
theorem ct_X1_checksum (g : Gv) (J : Jd g) {x : Nat} {C : KsS} {T : TrS} {w0 : va_W} (hw0 : KgP g x C w0) (hC : KsB C) (hT : zTs C ≠ [] → (zTs C)[(zTs C).length - 1]? = some T) (hsb : ∀ n x, zTs C ≠ [] → T.2.1 n = some x → x < (zSs C).length) : Ct g yX1_checksum (ws_ yX1_checksum cX1_checksum 5 (some .long)) 10 910 2520 [.ref x] [w0] (fun (rv_ : Option Value) (rL_ : List va_W) => ∃ (u0 : va_W), rv_ = some (.long (ckS C T)) ∧ rL_ = [u0] ∧ KgP g x C u0) noX := by
  refine Ct.of "Keygrove" [some (.ref x), none, none, none, none] rfl (by decide) rfl (Nat.le_of_ble_eq_true rfl) rfl ?_
  intro κ B E tb
  have hC0 := hC
  obtain ⟨hc1, hc2, hc3, hc4, hc5, hc6, hc7, hc8, hc9, hc10, hc11⟩ := hC0
  obtain ⟨b, lp, lk, lr, lt, ls, lm, so, pcap, kcap, rcap, tcap, scap, mcap, socap, ps, pks, pmd, v0, v1, v2, v3, v4, v5, v6, v7, hcap, hv0, hv1, hv2, hv3, hv4, hv5, hv6, hv7, rfl⟩ := hw0
  refine g_open 0 rfl rfl rfl ?_
  refine (show Go g κ 0 [some (.ref x), none, none, none, none] [] [[(x, .inr (0, [.ref b, .ref lp, .ref lk, .ref lr, .ref lt, .ref ls, .ref lm, .ref so, .int (nI (zBn C))]))], v0, v1, v2, v3, v4, v5, v6, v7] 910 2520 from ?_)
  refine g_ldc2 (q := 3) B dX1_checksum_0 rfl q1118 ?_
  refine g_aload_n (q := 4) B dX1_checksum_3 rfl rfl (rv_r _) ?_
  refine g_get (q := 7) B (ci := 0) (k := 0) (j := 0) in_X1 rfl dX1_checksum_4 rfl rfl (Nat.le_of_ble_eq_true rfl) q277 rfl rfl ?_
  obtain ⟨al_1, fo_1, ol_1, cl_1, xs_1, hS_1, hbx_1, hc_1_0, hs_1_0, hs_1_1, hs_1_2, hs_1_3, hs_1_4⟩ := BookP.at (Sub.self hv0)
  refine g_getNM (q := 10) B (ci := 1) (k := 1) (j := 4) in_X2 rfl dX1_checksum_7 rfl rfl (hc_1_0) (Nat.le_of_ble_eq_true rfl) q238 rfl rfl ?_
  refine g_i2l (v := (zZz C).toInt64) (q := 11) B dX1_checksum_10 rfl rfl ?_
  refine g_ladd (v := 217 + (zZz C).toInt64) (q := 12) B dX1_checksum_11 rfl rfl ?_
  refine g_lstore_n (q := 13) (lv2 := [some (.ref x), some (.long (217 + (zZz C).toInt64)), none, none, none]) B dX1_checksum_12 rfl (Nat.le_of_ble_eq_true rfl) rfl ?_
  refine g_ldc2 (q := 16) B dX1_checksum_13 rfl q1119 ?_
  refine g_lload_n (q := 17) B dX1_checksum_16 rfl rfl ?_
  refine g_lmul (v := 31 * (217 + (zZz C).toInt64)) (q := 18) B dX1_checksum_17 rfl rfl ?_
  refine g_aload_n (q := 19) B dX1_checksum_18 rfl rfl (rv_r _) ?_
  refine g_callV (q := 22) (is := [0, 4]) (kc2 := 910) (ks2 := 2520) B [] (ct_X1_newest g J (x := x) (lk := lk) (b := b) (lp := lp) (lr := lr) (lt := lt) (ls := ls) (lm := lm) (so := so) (bxs := zBn C) (Ts := (zTs C)) (tcap := tcap) hv4 ) dX1_checksum_19 rfl (rc_at B (ci := 0) rfl (k := 0) rfl) rfl q1120 q1122 qs8 q77 q1123 rfl rfl moX1_newest rfl rfl (by decide) (by decide) (Nat.le_of_ble_eq_true rfl) (Nat.le_of_ble_eq_true rfl) (Nat.le_of_ble_eq_true rfl) (fun _ _ hx => noX_x hx) (fun v19 L1 hp19 => ?_)
  obtain ⟨rfl, rfl⟩ := hp19
  refine (show Go g κ 22 [some (.ref x), some (.long (217 + (zZz C).toInt64)), none, none, none] [.int (nI (zTs C).length - nI 1), .long (31 * (217 + (zZz C).toInt64))] [v0, v1, v2, v3, v5, v6, v7, [(x, .inr (0, [.ref b, .ref lp, .ref lk, .ref lr, .ref lt, .ref ls, .ref lm, .ref so, .int (nI (zBn C))]))], v4] 910 2520 from ?_)
  refine g_i2l (v := (nI (zTs C).length - nI 1).toInt64) (q := 23) B dX1_checksum_22 rfl rfl ?_
  refine g_ladd (v := ckZ C) (q := 24) B dX1_checksum_23 rfl rfl ?_
  refine g_lstore_n (q := 25) (lv2 := [some (.ref x), some (.long (ckZ C)), none, none, none]) B dX1_checksum_24 rfl (Nat.le_of_ble_eq_true rfl) rfl ?_
  have ct117 : ∀ (s : Int64) , (s = (if zTs C = [] then ckZ C else ckT (zSs C) T (ckZ C) (2 * 2 ^ T.1 - 1))) → Go g κ 117 [some (.ref x), some (.long s), none, none, none] [] [v0, v1, v2, v3, v5, v6, v7, [(x, .inr (0, [.ref b, .ref lp, .ref lk, .ref lr, .ref lt, .ref ls, .ref lm, .ref so, .int (nI (zBn C))]))], v4] 910 2520 := by
    intro s hs
    refine g_aload_n (q := 118) B dX1_checksum_117 rfl rfl (rv_r _) ?_
    refine g_get (q := 121) B (ci := 0) (k := 7) (j := 1) in_X1 rfl dX1_checksum_118 rfl rfl (Nat.le_of_ble_eq_true rfl) q278 rfl rfl ?_
    obtain ⟨hli_2, hln_2, hel_2⟩ := PersL.at (Sub.self hv1)
    refine g_callF (q := 126) (is := [1]) (kc2 := 909) (ks2 := 2516) B [] (ct_J2_iterator_s g J (p := lp) (xs := ps) (md := pmd) (cap := pcap) (W0 := v1)  (hli_2)) dX1_checksum_121 rfl (ci := 21) rfl (rc_in B (ci := 21) rfl (k := 1) rfl (PersL.hm hv1)) q1153 q1156 q805 q81 q807 q1155 q1154 q806 q804 q318 rfl rfl mojava_util_List_iterator___Ljava_util_Iterator_ rfl rfl (by decide) (by decide) (Nat.le_of_ble_eq_true rfl) (Nat.le_of_ble_eq_true rfl) (Nat.le_of_ble_eq_true rfl) (fun _ _ hx => noX_x hx) (fun v121 L1 hp121 => ?_)
    obtain ⟨it121, rfl, rfl⟩ := hp121
    refine (show Go g κ 126 [some (.ref x), some (.long s), none, none, none] [.ref it121] [v0, v2, v3, v5, v6, v7, [(x, .inr (0, [.ref b, .ref lp, .ref lk, .ref lr, .ref lt, .ref ls, .ref lm, .ref so, .int (nI (zBn C))]))], v4, [(it121, .inr (22, [.int (nI 0), .int (-1), .int pmd, .ref lp]))], v1] 909 2516 from ?_)
    refine g_astore_n (q := 127) (lv2 := [some (.ref x), some (.long s), none, some (.ref it121), none]) B dX1_checksum_126 rfl (Nat.le_of_ble_eq_true rfl) (rv_r _) rfl ?_
    have lp127 : ∀ (n127 : Nat) (k : Nat) (lrt : Int32) (s : Int64) (l127_9 : va_W), PersL g lp ps (zPs C) pcap x pks pmd l127_9 → (k ≤ (zPs C).length) → (s = ckP C (if zTs C = [] then ckZ C else ckT (zSs C) T (ckZ C) (2 * 2 ^ T.1 - 1)) k) → (zPs C).length - k = n127 → Go g κ 127 [some (.ref x), some (.long s), none, some (.ref it121), none] [] [v0, v2, v3, v5, v6, v7, [(x, .inr (0, [.ref b, .ref lp, .ref lk, .ref lr, .ref lt, .ref ls, .ref lm, .ref so, .int (nI (zBn C))]))], v4, [(it121, .inr (22, [.int (nI k), .int lrt, .int pmd, .ref lp]))], l127_9] (90 * (10 - k)) (250 * (10 - k)) := by
      intro n127
      induction n127 using Nat.strongRecOn with
      | _ n127 ih127 =>
      intro k lrt s l127_9 hl127_9 hk hs hmu127
      refine g_aload_n (q := 128) B dX1_checksum_127 rfl rfl (rv_r _) ?_
      obtain ⟨hli_3, hln_3, hel_3⟩ := PersL.at (Sub.self hl127_9)
      refine g_callF (q := 133) (is := [8, 8]) (kc2 := 90 * (10 - k)) (ks2 := 250 * (10 - k)) B [] (ct_J19_hasNext_s g J (p := lp) (xs := ps) (md := pmd) (cap := pcap) (it := it121) (c := k) (lr := lrt) (W1 := l127_9)  (hli_3) (by have := hln_3.1; omega)) dX1_checksum_128 rfl (ci := 22) rfl (rc_at B (ci := 22) rfl (k := 8) rfl) q1158 q940 q942 q104 q944 q938 q937 q943 q941 q939 rfl rfl mojava_util_Iterator_hasNext___Z rfl rfl (by decide) (by decide) (Nat.le_of_ble_eq_true rfl) (by omega) (by omega) (fun _ _ hx => noX_x hx) (fun v128 L1 hp128 => ?_)
      obtain ⟨rfl, rfl⟩ := hp128
      refine (show Go g κ 133 [some (.ref x), some (.long s), none, some (.ref it121), none] [.int (nI (if ¬ k = ps.length then 1 else 0))] [v0, v2, v3, v5, v6, v7, [(x, .inr (0, [.ref b, .ref lp, .ref lk, .ref lr, .ref lt, .ref ls, .ref lm, .ref so, .int (nI (zBn C))]))], v4, [(it121, .inr (22, [.int (nI k), .int lrt, .int pmd, .ref lp]))], l127_9] (90 * (10 - k)) (250 * (10 - k)) from ?_)
      rw [hln_3.1]
      refine (show Go g κ 133 [some (.ref x), some (.long s), none, some (.ref it121), none] [.int (nI (if ¬ k = (zPs C).length then 1 else 0))] [v0, v2, v3, v5, v6, v7, [(x, .inr (0, [.ref b, .ref lp, .ref lk, .ref lr, .ref lt, .ref ls, .ref lm, .ref so, .int (nI (zBn C))]))], v4, [(it121, .inr (22, [.int (nI k), .int lrt, .int pmd, .ref lp]))], l127_9] (90 * (10 - k)) (250 * (10 - k)) from ?_)
      refine g_if_eq (tgt := 198) (q := 136) B dX1_checksum_133 rfl (by decide) (bo_eq) (fun c133 => ?_) (fun c133 => ?_)
      · skip
        refine g_lload_n (q := 199) B dX1_checksum_198 rfl rfl ?_
        obtain ⟨wc_4, ewc_4⟩ : ∃ w : va_W, w = ([[(x, .inr (0, [.ref b, .ref lp, .ref lk, .ref lr, .ref lt, .ref ls, .ref lm, .ref so, .int (nI (zBn C))]))], v0, l127_9, v2, v3, v4, v5, v6, v7] : List va_W).flatten := ⟨_, rfl⟩
        have hwc_4 : KgP g x C wc_4 := by
          rw [ewc_4]
          exact ⟨b, lp, lk, lr, lt, ls, lm, so, pcap, kcap, rcap, tcap, scap, mcap, socap, ps, pks, pmd, _, _, _, _, _, _, _, _, hcap, hv0, hl127_9, hv2, hv3, hv4, hv5, hv6, hv7, rfl⟩
        refine g_close (w := wc_4) [6, 0, 7, 0, 0, 3, 0, 0, 0] rfl ewc_4 rfl ?_
        refine (show Go g κ 199 [some (.ref x), some (.long s), none, some (.ref it121), none] [.long s] [[(it121, .inr (22, [.int (nI k), .int lrt, .int pmd, .ref lp]))], wc_4] (90 * (10 - k)) (250 * (10 - k)) from ?_)
        refine g_pk [1] rfl rfl ?_
        refine (show Go g κ 199 [some (.ref x), some (.long s), none, some (.ref it121), none] [.long s] [wc_4] (90 * (10 - k)) (250 * (10 - k)) from ?_)
        exact g_lret B E dX1_checksum_199 (⟨_, by unfold ckS; rw [← show k = (zPs C).length by omega, ← hs], rfl, hwc_4⟩)
      · skip
        have c133 := Classical.not_not.mp c133
        refine g_aload_n (q := 137) B dX1_checksum_136 rfl rfl (rv_r _) ?_
        obtain ⟨r137, hr137⟩ := get_ex (xs := (zPs C)) (i := k) (by omega)
        obtain ⟨x137, hx137⟩ := get_ex (xs := ps) (i := k) (by have := get_lt2 hr137; have := hln_3.1; omega)
        have hE_5 := hel_3 _ _ _ hx137 hr137
        refine g_callF (q := 142) (is := [8, 8]) (kc2 := 90 * (10 - k)) (ks2 := 250 * (10 - k)) B [] (ct_J19_next_s g J (p := lp) (xs := ps) (md := pmd) (cap := pcap) (it := it121) (c := k) (lr := lrt) (x := x137) (W1 := l127_9)  (hli_3) (hx137)) dX1_checksum_137 rfl (ci := 22) rfl (rc_at B (ci := 22) rfl (k := 8) rfl) q1160 q967 q969 q104 q971 q966 q965 q970 q968 q939 rfl rfl mojava_util_Iterator_next___Ljava_lang_Object_ rfl rfl (by decide) (by decide) (Nat.le_of_ble_eq_true rfl) (by omega) (by omega) (fun _ _ hx => noX_x hx) (fun v137 L1 hp137 => ?_)
        obtain ⟨rfl, rfl⟩ := hp137
        refine (show Go g κ 142 [some (.ref x), some (.long s), none, some (.ref it121), none] [.ref x137] [v0, v2, v3, v5, v6, v7, [(x, .inr (0, [.ref b, .ref lp, .ref lk, .ref lr, .ref lt, .ref ls, .ref lm, .ref so, .int (nI (zBn C))]))], v4, [(it121, .inr (22, [.int (nI (k + 1)), .int (nI k), .int pmd, .ref lp]))], l127_9] (90 * (10 - k)) (250 * (10 - k)) from ?_)
        refine g_castRS (ci := 2) (q := 145) B rfl (rc_in B (ci := 2) rfl (k := 9) rfl (Sub.hm (hE_5) fun _ z => PersP.hm z)) dX1_checksum_142 rfl q1161 ?_
        refine g_astore (q := 147) (lv2 := [some (.ref x), some (.long s), none, some (.ref it121), some (.ref x137)]) B dX1_checksum_145 rfl (Nat.le_of_ble_eq_true rfl) (rv_r _) rfl ?_
        refine g_ldc2 (q := 150) B dX1_checksum_147 rfl q1119 ?_
        refine g_lload_n (q := 151) B dX1_checksum_150 rfl rfl ?_
        refine g_lmul (v := 31 * s) (q := 152) B dX1_checksum_151 rfl rfl ?_
        refine g_aload (q := 154) B dX1_checksum_152 rfl rfl (rv_r _) ?_
        have hE_6 := hel_3 _ _ _ hx137 hr137
        obtain ⟨hno_i, hpk_i, hhl_i, hev_i⟩ := hc11 _ _ hr137
        refine g_callV (q := 157) (is := [9, 1]) (kc2 := 14 + 90 * (10 - (k + 1))) (ks2 := 40 + 250 * (10 - (k + 1))) B [] (ct_X4_held_L g J (lp := lp) (pps := ps) (Ps := (zPs C)) (pcp := pcap) (ix := k) (pmd := pmd) (a := x137) (x := x) (pks := pks) (r := r137) (lk := lk) (Ks := (zKs C)) (kcap := kcap) hl127_9 hv2 (hx137) (hr137) (hpk_i)) dX1_checksum_154 rfl (rc_in B (ci := 2) rfl (k := 9) rfl (Sub.hm (hE_6) fun _ z => PersP.hm z)) rfl q1162 q1163 q1164 q90 q1165 rfl rfl moX4_held rfl rfl (by decide) (by decide) (Nat.le_of_ble_eq_true rfl) (by omega) (by omega) (fun _ _ hx => noX_x hx) (fun v154 L1 hp154 => ?_)
        obtain ⟨b154, S154, cap154, u0_154, u2_154, rfl, rfl, hu0_154, hu2_154, hS_154, hcap_154⟩ := hp154
        refine (show Go g κ 157 [some (.ref x), some (.long s), none, some (.ref it121), some (.ref x137)] [.ref b154, .long (31 * s)] [v0, v3, v5, v6, v7, [(x, .inr (0, [.ref b, .ref lp, .ref lk, .ref lr, .ref lt, .ref ls, .ref lm, .ref so, .int (nI (zBn C))]))], v4, [(it121, .inr (22, [.int (nI (k + 1)), .int (nI k), .int pmd, .ref lp]))], u0_154, v2, u2_154] (14 + 90 * (10 - (k + 1))) (40 + 250 * (10 - (k + 1))) from ?_)
        refine g_callV (q := 160) (is := [10]) (kc2 := 14 + 90 * (10 - (k + 1))) (ks2 := 40 + 250 * (10 - (k + 1))) B [] (ct_J5_cardinality g J (b := b154) (S := S154) (cap := cap154) hu2_154 ) dX1_checksum_157 rfl (rc_in B (ci := 26) rfl (k := 10) rfl (SetP.hm hu2_154)) rfl q1113 q1078 q1079 q84 q1080 rfl rfl moJ5_cardinality rfl rfl (by decide) (by decide) (Nat.le_of_ble_eq_true rfl) (by omega) (by omega) (fun _ _ hx => noX_x hx) (fun v157 L1 hp157 => ?_)
        obtain ⟨rfl, rfl⟩ := hp157
        refine (show Go g κ 160 [some (.ref x), some (.long s), none, some (.ref it121), some (.ref x137)] [.int (nI (fb_ct S154 (64 * cap154))), .long (31 * s)] [v0, v3, v5, v6, v7, [(x, .inr (0, [.ref b, .ref lp, .ref lk, .ref lr, .ref lt, .ref ls, .ref lm, .ref so, .int (nI (zBn C))]))], v4, [(it121, .inr (22, [.int (nI (k + 1)), .int (nI k), .int pmd, .ref lp]))], u0_154, v2, u2_154] (14 + 90 * (10 - (k + 1))) (40 + 250 * (10 - (k + 1))) from ?_)
        rw [(show fb_ct S154 (64 * cap154) = ctK S154 from hu2_154.ct (by omega))]
        refine (show Go g κ 160 [some (.ref x), some (.long s), none, some (.ref it121), some (.ref x137)] [.int (nI (ctK S154)), .long (31 * s)] [v0, v3, v5, v6, v7, [(x, .inr (0, [.ref b, .ref lp, .ref lk, .ref lr, .ref lt, .ref ls, .ref lm, .ref so, .int (nI (zBn C))]))], v4, [(it121, .inr (22, [.int (nI (k + 1)), .int (nI k), .int pmd, .ref lp]))], u0_154, v2, u2_154] (14 + 90 * (10 - (k + 1))) (40 + 250 * (10 - (k + 1))) from ?_)
        refine g_i2l (v := (nI (ctK S154)).toInt64) (q := 161) B dX1_checksum_160 rfl rfl ?_
        refine g_ladd (v := (31 * s) + ((nI (ctK S154)).toInt64)) (q := 162) B dX1_checksum_161 rfl rfl ?_
        refine g_lstore_n (q := 163) (lv2 := [some (.ref x), some (.long ((31 * s) + ((nI (ctK S154)).toInt64))), none, some (.ref it121), some (.ref x137)]) B dX1_checksum_162 rfl (Nat.le_of_ble_eq_true rfl) rfl ?_
        obtain ⟨hli_7, hln_7, hel_7⟩ := PersL.at (Sub.self hu0_154)
        have hE_8 := hel_7 _ _ _ hx137 hr137
        refine g_ldc2 (q := 166) B dX1_checksum_163 rfl q1119 ?_
        refine g_lload_n (q := 167) B dX1_checksum_166 rfl rfl ?_
        refine g_lmul (v := 31 * ((31 * s) + ((nI (ctK S154)).toInt64))) (q := 168) B dX1_checksum_167 rfl rfl ?_
        refine g_aload (q := 170) B dX1_checksum_168 rfl rfl (rv_r _) ?_
        refine g_callV (q := 173) (is := [8]) (kc2 := 14 + 90 * (10 - (k + 1))) (ks2 := 40 + 250 * (10 - (k + 1))) B [] (ct_X4_isIn_s g J (a := x137) (x := x) (pks := pks) (r := r137) (W0 := u0_154)  (hE_8)) dX1_checksum_170 rfl (rc_in B (ci := 2) rfl (k := 8) rfl (Sub.hm (hE_8) fun _ z => PersP.hm z)) rfl q1211 q1207 q1208 q90 q1209 rfl rfl moX4_isIn rfl rfl (by decide) (by decide) (Nat.le_of_ble_eq_true rfl) (by omega) (by omega) (fun _ _ hx => noX_x hx) (fun v170 L1 hp170 => ?_)
        obtain ⟨rfl, rfl⟩ := hp170
        refine (show Go g κ 173 [some (.ref x), some (.long ((31 * s) + ((nI (ctK S154)).toInt64))), none, some (.ref it121), some (.ref x137)] [.int (nI (if ¬ pEp r137 = none then 1 else 0)), .long (31 * ((31 * s) + ((nI (ctK S154)).toInt64)))] [v0, v3, v5, v6, v7, [(x, .inr (0, [.ref b, .ref lp, .ref lk, .ref lr, .ref lt, .ref ls, .ref lm, .ref so, .int (nI (zBn C))]))], v4, [(it121, .inr (22, [.int (nI (k + 1)), .int (nI k), .int pmd, .ref lp]))], v2, u2_154, u0_154] (14 + 90 * (10 - (k + 1))) (40 + 250 * (10 - (k + 1))) from ?_)
        refine g_if_eq (tgt := 191) (q := 176) B dX1_checksum_173 rfl (by decide) (bo_eq) (fun c173 => ?_) (fun c173 => ?_)
        · skip
          refine g_iconst (v := nI 0) (q := 192) B dX1_checksum_191 rfl (by decide) ?_
          refine g_i2l (v := (nI 0).toInt64) (q := 193) B dX1_checksum_192 rfl rfl ?_
          refine g_ladd (v := (31 * ((31 * s) + ((nI (ctK S154)).toInt64))) + ((nI 0).toInt64)) (q := 194) B dX1_checksum_193 rfl rfl ?_
          refine g_lstore_n (q := 195) (lv2 := [some (.ref x), some (.long ((31 * ((31 * s) + ((nI (ctK S154)).toInt64))) + ((nI 0).toInt64))), none, some (.ref it121), some (.ref x137)]) B dX1_checksum_194 rfl (Nat.le_of_ble_eq_true rfl) rfl ?_
          refine g_goto (tgt := 127) B dX1_checksum_195 (by decide) ?_
          refine g_fg 4 rfl ?_
          refine g_pk [0, 7, 0, 0, 0, 0, 0, 0, 0, 1] rfl rfl ?_
          refine (show Go g κ 127 [some (.ref x), some (.long ((31 * ((31 * s) + ((nI (ctK S154)).toInt64))) + ((nI 0).toInt64))), none, some (.ref it121), none] [] [v0, v2, v3, v5, v6, v7, [(x, .inr (0, [.ref b, .ref lp, .ref lk, .ref lr, .ref lt, .ref ls, .ref lm, .ref so, .int (nI (zBn C))]))], v4, [(it121, .inr (22, [.int (nI (k + 1)), .int (nI k), .int pmd, .ref lp]))], u0_154] (14 + 90 * (10 - (k + 1))) (40 + 250 * (10 - (k + 1))) from ?_)
          refine g_room (kc2 := 90 * (10 - (k + 1))) (ks2 := 250 * (10 - (k + 1))) (by omega) (by omega) ?_
          exact ih127 _ (by have := get_lt2 hr137; omega) (k + 1) (nI k) ((31 * ((31 * s) + ((nI (ctK S154)).toInt64))) + ((nI 0).toInt64)) u0_154 hu0_154 (by first | assumption | omega | rfl) (by rw [ckP_s hr137, ← hs]; unfold ck2 ckR; rw [if_pos (Classical.not_not.mp c173), heB_e hS_154]) rfl
        · skip
          have c173 := Classical.not_not.mp c173
          have hkl := hhl_i (pKy r137) (Or.inr (Or.inr (Or.inl ⟨c173, Or.inr (Or.inl rfl)⟩)))
          refine g_aload_n (q := 177) B dX1_checksum_176 rfl rfl (rv_r _) ?_
          refine g_get (q := 180) B (ci := 0) (k := 5) (j := 0) in_X1 rfl dX1_checksum_177 rfl rfl (Nat.le_of_ble_eq_true rfl) q277 rfl rfl ?_
          refine g_aload (q := 182) B dX1_checksum_180 rfl rfl (rv_r _) ?_
          obtain ⟨ev_9, pl_9, nd_9, ch_9, ecap_9, pcap_9, nn_9, nc_9, plc_9, md_9, hP_9, hpl_9, hec_9, hpc_9, hc_9_0, hs_9_0, hs_9_1, hs_9_2, hs_9_3⟩ := PersP.at (hE_8)
          refine g_getNM (q := 185) B (ci := 2) (k := 10) (j := 7) in_X4 rfl dX1_checksum_182 rfl rfl (hc_9_0) (Nat.le_of_ble_eq_true rfl) q1909 rfl rfl ?_
          refine g_callV (q := 188) (is := [0]) (kc2 := 14 + 90 * (10 - (k + 1))) (ks2 := 40 + 250 * (10 - (k + 1))) B [.int (nI (pKy r137))] (ct_X2_value g J (b := b) (ss := (zSs C)) (bx := (zBx C)) (z := (zZz C)) (i := pKy r137) hv0 (hkl)) dX1_checksum_185 rfl (rc_in B (ci := 1) rfl (k := 0) rfl (BookP.hm hv0)) rfl q1148 q1149 q1150 q78 q1151 rfl rfl moX2_value rfl rfl (by decide) (by decide) (Nat.le_of_ble_eq_true rfl) (by omega) (by omega) (fun _ _ hx => noX_x hx) (fun v185 L1 hp185 => ?_)
          obtain ⟨rfl, rfl⟩ := hp185
          refine (show Go g κ 188 [some (.ref x), some (.long ((31 * s) + ((nI (ctK S154)).toInt64))), none, some (.ref it121), some (.ref x137)] [.int (vl (zSs C) (pKy r137)), .long (31 * ((31 * s) + ((nI (ctK S154)).toInt64)))] [v3, v5, v6, v7, [(x, .inr (0, [.ref b, .ref lp, .ref lk, .ref lr, .ref lt, .ref ls, .ref lm, .ref so, .int (nI (zBn C))]))], v4, [(it121, .inr (22, [.int (nI (k + 1)), .int (nI k), .int pmd, .ref lp]))], v2, u2_154, u0_154, v0] (14 + 90 * (10 - (k + 1))) (40 + 250 * (10 - (k + 1))) from ?_)
          refine g_goto (tgt := 192) B dX1_checksum_188 (by decide) ?_
          refine g_i2l (v := (vl (zSs C) (pKy r137)).toInt64) (q := 193) B dX1_checksum_192 rfl rfl ?_
          refine g_ladd (v := (31 * ((31 * s) + ((nI (ctK S154)).toInt64))) + ((vl (zSs C) (pKy r137)).toInt64)) (q := 194) B dX1_checksum_193 rfl rfl ?_
          refine g_lstore_n (q := 195) (lv2 := [some (.ref x), some (.long ((31 * ((31 * s) + ((nI (ctK S154)).toInt64))) + ((vl (zSs C) (pKy r137)).toInt64))), none, some (.ref it121), some (.ref x137)]) B dX1_checksum_194 rfl (Nat.le_of_ble_eq_true rfl) rfl ?_
          refine g_goto (tgt := 127) B dX1_checksum_195 (by decide) ?_
          refine g_fg 4 rfl ?_
          refine g_pk [10, 7, 0, 0, 0, 0, 0, 0, 0, 1] rfl rfl ?_
          refine (show Go g κ 127 [some (.ref x), some (.long ((31 * ((31 * s) + ((nI (ctK S154)).toInt64))) + ((vl (zSs C) (pKy r137)).toInt64))), none, some (.ref it121), none] [] [v0, v2, v3, v5, v6, v7, [(x, .inr (0, [.ref b, .ref lp, .ref lk, .ref lr, .ref lt, .ref ls, .ref lm, .ref so, .int (nI (zBn C))]))], v4, [(it121, .inr (22, [.int (nI (k + 1)), .int (nI k), .int pmd, .ref lp]))], u0_154] (14 + 90 * (10 - (k + 1))) (40 + 250 * (10 - (k + 1))) from ?_)
          refine g_room (kc2 := 90 * (10 - (k + 1))) (ks2 := 250 * (10 - (k + 1))) (by omega) (by omega) ?_
          exact ih127 _ (by have := get_lt2 hr137; omega) (k + 1) (nI k) ((31 * ((31 * s) + ((nI (ctK S154)).toInt64))) + ((vl (zSs C) (pKy r137)).toInt64)) u0_154 hu0_154 (by first | assumption | omega | rfl) (by rw [ckP_s hr137, ← hs]; unfold ck2 ckR; rw [if_neg c173, heB_e hS_154]) rfl
    refine g_room (kc2 := 90 * (10 - 0)) (ks2 := 250 * (10 - 0)) (by omega) (by omega) ?_
    exact lp127 _ 0 (-1) s v1 hv1 (Nat.zero_le _) (hs) rfl
  refine g_iconst (v := nI 0) (q := 26) B dX1_checksum_25 rfl (by decide) ?_
  refine g_istore_n (q := 27) (lv2 := [some (.ref x), some (.long (ckZ C)), none, some (.int (nI 0)), none]) B dX1_checksum_26 rfl (Nat.le_of_ble_eq_true rfl) rfl ?_
  have lp27 : ∀ (n27 : Nat) (k : Nat) (s : Int64) , (s = ckT (zSs C) T (ckZ C) k) → (zTs C = [] → k = 0) → (zTs C ≠ [] → k ≤ 2 * 2 ^ T.1 - 1) → 31 - k = n27 → Go g κ 27 [some (.ref x), some (.long s), none, some (.int (nI k)), none] [] [v0, v1, v2, v3, v5, v6, v7, [(x, .inr (0, [.ref b, .ref lp, .ref lk, .ref lr, .ref lt, .ref ls, .ref lm, .ref so, .int (nI (zBn C))]))], v4] 910 2520 := by
    intro n27
    induction n27 using Nat.strongRecOn with
    | _ n27 ih27 =>
    intro k s  hs hk0 hkn hmu27
    refine g_aload_n (q := 28) B dX1_checksum_27 rfl rfl (rv_r _) ?_
    refine g_get (q := 31) B (ci := 0) (k := 7) (j := 4) in_X1 rfl dX1_checksum_28 rfl rfl (Nat.le_of_ble_eq_true rfl) q282 rfl rfl ?_
    obtain ⟨ps_10, md_10, hli_10, hln_10, hel_10⟩ := LhP.at (Sub.self hv4)
    refine g_callF (q := 36) (is := [8]) (kc2 := 910) (ks2 := 2520) B [] (ct_J2_isEmpty_s g J (p := lt) (xs := ps_10) (md := md_10) (cap := tcap) (W0 := v4)  (hli_10)) dX1_checksum_31 rfl (ci := 21) rfl (rc_in B (ci := 21) rfl (k := 8) rfl (LhP.hm hv4)) q1125 q1128 q1130 q81 q1132 q1127 q1126 q1131 q1129 q318 rfl rfl mojava_util_List_isEmpty___Z rfl rfl (by decide) (by decide) (Nat.le_of_ble_eq_true rfl) (Nat.le_of_ble_eq_true rfl) (Nat.le_of_ble_eq_true rfl) (fun _ _ hx => noX_x hx) (fun v31 L1 hp31 => ?_)
    obtain ⟨rfl, rfl⟩ := hp31
    refine (show Go g κ 36 [some (.ref x), some (.long s), none, some (.int (nI k)), none] [.int (nI (if ps_10.length = 0 then 1 else 0))] [v0, v1, v2, v3, v5, v6, v7, [(x, .inr (0, [.ref b, .ref lp, .ref lk, .ref lr, .ref lt, .ref ls, .ref lm, .ref so, .int (nI (zBn C))]))], v4] 910 2520 from ?_)
    rw [hln_10.1]
    refine (show Go g κ 36 [some (.ref x), some (.long s), none, some (.int (nI k)), none] [.int (nI (if (zTs C).length = 0 then 1 else 0))] [v0, v1, v2, v3, v5, v6, v7, [(x, .inr (0, [.ref b, .ref lp, .ref lk, .ref lr, .ref lt, .ref ls, .ref lm, .ref so, .int (nI (zBn C))]))], v4] 910 2520 from ?_)
    refine g_if_ne (tgt := 117) (q := 39) B dX1_checksum_36 rfl (by decide) (bo_ne) (fun c36 => ?_) (fun c36 => ?_)
    · skip
      refine g_fg 3 rfl ?_
      exact ct117 s (by rw [hs, if_pos (List.length_eq_zero_iff.mp c36), hk0 (List.length_eq_zero_iff.mp c36)]; rfl)
    · skip
      have hne : zTs C ≠ [] := fun z => c36 (by rw [z]; rfl)
      have hkn9 := hkn hne
      refine g_iload_n (q := 40) B dX1_checksum_39 rfl rfl ?_
      refine g_aload_n (q := 41) B dX1_checksum_40 rfl rfl (rv_r _) ?_
      refine g_callV (q := 44) (is := [7, 7]) (kc2 := 910) (ks2 := 2520) B [] (ct_X1_tree g J (x := x) (lk := lk) (b := b) (lp := lp) (lr := lr) (lt := lt) (ls := ls) (lm := lm) (so := so) (bxs := (zBn C)) (Ts := (zTs C)) (tcap := tcap) (T := T) hv4 (hT hne)) dX1_checksum_41 rfl (rc_at B (ci := 0) rfl (k := 7) rfl) rfl q1133 q1135 qs9 q77 q1136 rfl rfl moX1_tree rfl rfl (by decide) (by decide) (Nat.le_of_ble_eq_true rfl) (Nat.le_of_ble_eq_true rfl) (Nat.le_of_ble_eq_true rfl) (fun _ _ hx => noX_x hx) (fun v41 L1 hp41 => ?_)
      obtain ⟨t41, rfl, rfl, hE_41⟩ := hp41
      refine (show Go g κ 44 [some (.ref x), some (.long s), none, some (.int (nI k)), none] [.ref t41, .int (nI k)] [v0, v1, v2, v3, v5, v6, v7, [(x, .inr (0, [.ref b, .ref lp, .ref lk, .ref lr, .ref lt, .ref ls, .ref lm, .ref so, .int (nI (zBn C))]))], v4] 910 2520 from ?_)
      have hTB41 := TreeP.b2 hE_41
      have hp241 := p2_4 hTB41.1
      refine g_callV (q := 47) (is := [8]) (kc2 := 910) (ks2 := 2520) B [] (ct_X10_nodes_s g J (t := t41) (T := T) (W0 := v4)  (hE_41)) dX1_checksum_44 rfl (rc_in B (ci := 5) rfl (k := 8) rfl (Sub.hm (hE_41) fun _ z => TreeP.hm z)) rfl q1140 q1141 q1142 q123 q1143 rfl rfl moX10_nodes rfl rfl (by decide) (by decide) (Nat.le_of_ble_eq_true rfl) (Nat.le_of_ble_eq_true rfl) (Nat.le_of_ble_eq_true rfl) (fun _ _ hx => noX_x hx) (fun v44 L1 hp44 => ?_)
      obtain ⟨rfl, rfl⟩ := hp44
      refine (show Go g κ 47 [some (.ref x), some (.long s), none, some (.int (nI k)), none] [.int (nI (2 * 2 ^ T.1 - 1)), .int (nI k)] [v0, v1, v2, v3, v5, v6, v7, [(x, .inr (0, [.ref b, .ref lp, .ref lk, .ref lr, .ref lt, .ref ls, .ref lm, .ref so, .int (nI (zBn C))]))], v4] 910 2520 from ?_)
      refine g_icmp_ge (tgt := 117) (q := 50) B dX1_checksum_47 rfl (by decide) (nI_leI (by omega) (by omega)) (fun c47 => ?_) (fun c47 => ?_)
      · skip
        refine g_fg 3 rfl ?_
        exact ct117 s (by rw [hs, if_neg hne, show k = 2 * 2 ^ T.1 - 1 by have := hkn hne; omega])
      · skip
        refine g_aload_n (q := 51) B dX1_checksum_50 rfl rfl (rv_r _) ?_
        refine g_callV (q := 54) (is := [7, 7]) (kc2 := 910) (ks2 := 2520) B [] (ct_X1_tree g J (x := x) (lk := lk) (b := b) (lp := lp) (lr := lr) (lt := lt) (ls := ls) (lm := lm) (so := so) (bxs := (zBn C)) (Ts := (zTs C)) (tcap := tcap) (T := T) hv4 (hT hne)) dX1_checksum_51 rfl (rc_at B (ci := 0) rfl (k := 7) rfl) rfl q1133 q1135 qs9 q77 q1136 rfl rfl moX1_tree rfl rfl (by decide) (by decide) (Nat.le_of_ble_eq_true rfl) (Nat.le_of_ble_eq_true rfl) (Nat.le_of_ble_eq_true rfl) (fun _ _ hx => noX_x hx) (fun v51 L1 hp51 => ?_)
        obtain ⟨t51, rfl, rfl, hE_51⟩ := hp51
        refine (show Go g κ 54 [some (.ref x), some (.long s), none, some (.int (nI k)), none] [.ref t51] [v0, v1, v2, v3, v5, v6, v7, [(x, .inr (0, [.ref b, .ref lp, .ref lk, .ref lr, .ref lt, .ref ls, .ref lm, .ref so, .int (nI (zBn C))]))], v4] 910 2520 from ?_)
        have hTB51 := TreeP.b2 hE_51
        have hp251 := p2_4 hTB51.1
        refine g_iload_n (q := 55) B dX1_checksum_54 rfl rfl ?_
        refine g_callV (q := 58) (is := [8]) (kc2 := 910) (ks2 := 2520) B [.int (nI k)] (ct_X10_isBlank_s g J (t := t51) (T := T) (n := k) (W0 := v4)  (hE_51) (by first | assumption | omega | rfl)) dX1_checksum_55 rfl (rc_in B (ci := 5) rfl (k := 8) rfl (Sub.hm (hE_51) fun _ z => TreeP.hm z)) rfl q1144 q1145 q1146 q123 q1147 rfl rfl moX10_isBlank rfl rfl (by decide) (by decide) (Nat.le_of_ble_eq_true rfl) (Nat.le_of_ble_eq_true rfl) (Nat.le_of_ble_eq_true rfl) (fun _ _ hx => noX_x hx) (fun v55 L1 hp55 => ?_)
        obtain ⟨rfl, rfl⟩ := hp55
        refine (show Go g κ 58 [some (.ref x), some (.long s), none, some (.int (nI k)), none] [.int (nI (if T.2.1 k = none then 1 else 0))] [v0, v1, v2, v3, v5, v6, v7, [(x, .inr (0, [.ref b, .ref lp, .ref lk, .ref lr, .ref lt, .ref ls, .ref lm, .ref so, .int (nI (zBn C))]))], v4] 910 2520 from ?_)
        refine g_if_eq (tgt := 70) (q := 61) B dX1_checksum_58 rfl (by decide) (bo_eq) (fun c58 => ?_) (fun c58 => ?_)
        · skip
          obtain ⟨sx, hx9⟩ := Option.ne_none_iff_exists'.mp c58
          have hsxb := hsb _ _ hne hx9
          refine g_ldc2 (q := 73) B dX1_checksum_70 rfl q1119 ?_
          refine g_lload_n (q := 74) B dX1_checksum_73 rfl rfl ?_
          refine g_lmul (v := 31 * s) (q := 75) B dX1_checksum_74 rfl rfl ?_
          refine g_aload_n (q := 76) B dX1_checksum_75 rfl rfl (rv_r _) ?_
          refine g_get (q := 79) B (ci := 0) (k := 7) (j := 0) in_X1 rfl dX1_checksum_76 rfl rfl (Nat.le_of_ble_eq_true rfl) q277 rfl rfl ?_
          refine g_aload_n (q := 80) B dX1_checksum_79 rfl rfl (rv_r _) ?_
          refine g_callV (q := 83) (is := [7, 7]) (kc2 := 910) (ks2 := 2520) B [] (ct_X1_tree g J (x := x) (lk := lk) (b := b) (lp := lp) (lr := lr) (lt := lt) (ls := ls) (lm := lm) (so := so) (bxs := (zBn C)) (Ts := (zTs C)) (tcap := tcap) (T := T) hv4 (hT hne)) dX1_checksum_80 rfl (rc_at B (ci := 0) rfl (k := 7) rfl) rfl q1133 q1135 qs9 q77 q1136 rfl rfl moX1_tree rfl rfl (by decide) (by decide) (Nat.le_of_ble_eq_true rfl) (Nat.le_of_ble_eq_true rfl) (Nat.le_of_ble_eq_true rfl) (fun _ _ hx => noX_x hx) (fun v80 L1 hp80 => ?_)
          obtain ⟨t80, rfl, rfl, hE_80⟩ := hp80
          refine (show Go g κ 83 [some (.ref x), some (.long s), none, some (.int (nI k)), none] [.ref t80, .ref b, .long (31 * s)] [v0, v1, v2, v3, v5, v6, v7, [(x, .inr (0, [.ref b, .ref lp, .ref lk, .ref lr, .ref lt, .ref ls, .ref lm, .ref so, .int (nI (zBn C))]))], v4] 910 2520 from ?_)
          have hTB80 := TreeP.b2 hE_80
          have hp280 := p2_4 hTB80.1
          obtain ⟨as_11, al_11, ap_11, fs_11, fl_11, fp_11, hB_11, hfs_11, hfl_11, hfp_11, hc_11_0, hc_11_1, hc_11_2, hc_11_3⟩ := TreeP.at (hE_80)
          refine g_getNM (q := 86) B (ci := 5) (k := 8) (j := 1) in_X10 rfl dX1_checksum_83 rfl rfl (hc_11_0) (Nat.le_of_ble_eq_true rfl) q2040 rfl rfl ?_
          refine g_iload_n (q := 87) B dX1_checksum_86 rfl rfl ?_
          refine g_ialdM (v := oI (T.2.1 k)) (q := 88) B (k := 8) dX1_checksum_87 rfl rfl (hc_11_1) (vp_in_nI (by omega) (by omega)) (by rw [nI_clamp (by omega)]; exact hfs_11 _ (by omega)) ?_
          refine g_stk (y := .int (nI sx)) (by rw [hx9]; rfl) ?_
          refine g_callV (q := 91) (is := [0]) (kc2 := 910) (ks2 := 2520) B [.int (nI sx)] (ct_X2_value g J (b := b) (ss := (zSs C)) (bx := (zBx C)) (z := (zZz C)) (i := sx) hv0 (hsb _ _ hne hx9)) dX1_checksum_88 rfl (rc_in B (ci := 1) rfl (k := 0) rfl (BookP.hm hv0)) rfl q1148 q1149 q1150 q78 q1151 rfl rfl moX2_value rfl rfl (by decide) (by decide) (Nat.le_of_ble_eq_true rfl) (Nat.le_of_ble_eq_true rfl) (Nat.le_of_ble_eq_true rfl) (fun _ _ hx => noX_x hx) (fun v88 L1 hp88 => ?_)
          obtain ⟨rfl, rfl⟩ := hp88
          refine (show Go g κ 91 [some (.ref x), some (.long s), none, some (.int (nI k)), none] [.int (vl (zSs C) sx), .long (31 * s)] [v1, v2, v3, v5, v6, v7, [(x, .inr (0, [.ref b, .ref lp, .ref lk, .ref lr, .ref lt, .ref ls, .ref lm, .ref so, .int (nI (zBn C))]))], v4, v0] 910 2520 from ?_)
          refine g_i2l (v := (vl (zSs C) sx).toInt64) (q := 92) B dX1_checksum_91 rfl rfl ?_
          refine g_ladd (v := (31 * s) + ((vl (zSs C) sx).toInt64)) (q := 93) B dX1_checksum_92 rfl rfl ?_
          refine g_lstore_n (q := 94) (lv2 := [some (.ref x), some (.long ((31 * s) + ((vl (zSs C) sx).toInt64))), none, some (.int (nI k)), none]) B dX1_checksum_93 rfl (Nat.le_of_ble_eq_true rfl) rfl ?_
          refine g_ldc2 (q := 97) B dX1_checksum_94 rfl q1119 ?_
          refine g_lload_n (q := 98) B dX1_checksum_97 rfl rfl ?_
          refine g_lmul (v := 31 * ((31 * s) + ((vl (zSs C) sx).toInt64))) (q := 99) B dX1_checksum_98 rfl rfl ?_
          refine g_aload_n (q := 100) B dX1_checksum_99 rfl rfl (rv_r _) ?_
          refine g_callV (q := 103) (is := [6, 6]) (kc2 := 910) (ks2 := 2520) B [] (ct_X1_tree g J (x := x) (lk := lk) (b := b) (lp := lp) (lr := lr) (lt := lt) (ls := ls) (lm := lm) (so := so) (bxs := (zBn C)) (Ts := (zTs C)) (tcap := tcap) (T := T) hv4 (hT hne)) dX1_checksum_100 rfl (rc_at B (ci := 0) rfl (k := 6) rfl) rfl q1133 q1135 qs9 q77 q1136 rfl rfl moX1_tree rfl rfl (by decide) (by decide) (Nat.le_of_ble_eq_true rfl) (Nat.le_of_ble_eq_true rfl) (Nat.le_of_ble_eq_true rfl) (fun _ _ hx => noX_x hx) (fun v100 L1 hp100 => ?_)
          obtain ⟨t100, rfl, rfl, hE_100⟩ := hp100
          refine (show Go g κ 103 [some (.ref x), some (.long ((31 * s) + ((vl (zSs C) sx).toInt64))), none, some (.int (nI k)), none] [.ref t100, .long (31 * ((31 * s) + ((vl (zSs C) sx).toInt64)))] [v1, v2, v3, v5, v6, v7, v0, [(x, .inr (0, [.ref b, .ref lp, .ref lk, .ref lr, .ref lt, .ref ls, .ref lm, .ref so, .int (nI (zBn C))]))], v4] 910 2520 from ?_)
          have hTB100 := TreeP.b2 hE_100
          have hp2100 := p2_4 hTB100.1
          obtain ⟨as_12, al_12, ap_12, fs_12, fl_12, fp_12, hB_12, hfs_12, hfl_12, hfp_12, hc_12_0, hc_12_1, hc_12_2, hc_12_3⟩ := TreeP.at (hE_100)
          refine g_getNM (q := 106) B (ci := 5) (k := 8) (j := 2) in_X10 rfl dX1_checksum_103 rfl rfl (hc_12_0) (Nat.le_of_ble_eq_true rfl) q2042 rfl rfl ?_
          refine g_iload_n (q := 107) B dX1_checksum_106 rfl rfl ?_
          refine g_ialdM (v := nI (T.2.2.1 k)) (q := 108) B (k := 8) dX1_checksum_107 rfl rfl (hc_12_2) (vp_in_nI (by omega) (by omega)) (by rw [nI_clamp (by omega)]; exact hfl_12 _ (by omega)) ?_
          refine g_i2l (v := (nI (T.2.2.1 k)).toInt64) (q := 109) B dX1_checksum_108 rfl rfl ?_
          refine g_ladd (v := (31 * ((31 * s) + ((vl (zSs C) sx).toInt64))) + ((nI (T.2.2.1 k)).toInt64)) (q := 110) B dX1_checksum_109 rfl rfl ?_
          refine g_lstore_n (q := 111) (lv2 := [some (.ref x), some (.long ((31 * ((31 * s) + ((vl (zSs C) sx).toInt64))) + ((nI (T.2.2.1 k)).toInt64))), none, some (.int (nI k)), none]) B dX1_checksum_110 rfl (Nat.le_of_ble_eq_true rfl) rfl ?_
          refine g_iinc (v := nI (k + 1)) (q := 114) (lv2 := [some (.ref x), some (.long ((31 * ((31 * s) + ((vl (zSs C) sx).toInt64))) + ((nI (T.2.2.1 k)).toInt64))), none, some (.int (nI (k + 1))), none]) B dX1_checksum_111 rfl rfl (nI_add _ 1) (Nat.le_of_ble_eq_true rfl) rfl ?_
          refine g_goto (tgt := 27) B dX1_checksum_114 (by decide) ?_
          refine g_pk [6, 0, 0, 0, 0, 0, 0, 0, 0] rfl rfl ?_
          refine (show Go g κ 27 [some (.ref x), some (.long ((31 * ((31 * s) + ((vl (zSs C) sx).toInt64))) + ((nI (T.2.2.1 k)).toInt64))), none, some (.int (nI (k + 1))), none] [] [v0, v1, v2, v3, v5, v6, v7, [(x, .inr (0, [.ref b, .ref lp, .ref lk, .ref lr, .ref lt, .ref ls, .ref lm, .ref so, .int (nI (zBn C))]))], v4] 910 2520 from ?_)
          exact ih27 _ (by omega) (k + 1) ((31 * ((31 * s) + ((vl (zSs C) sx).toInt64))) + ((nI (T.2.2.1 k)).toInt64)) (by show _ = ck1 (zSs C) T k (ckT (zSs C) T (ckZ C) k); rw [← hs]; rw [ck1_s hx9]) (fun z => absurd z hne) (fun _ => by omega) rfl
        · skip
          have c58 := Classical.not_not.mp c58
          refine g_ldc2 (q := 64) B dX1_checksum_61 rfl q1119 ?_
          refine g_lload_n (q := 65) B dX1_checksum_64 rfl rfl ?_
          refine g_lmul (v := 31 * s) (q := 66) B dX1_checksum_65 rfl rfl ?_
          refine g_lstore_n (q := 67) (lv2 := [some (.ref x), some (.long (31 * s)), none, some (.int (nI k)), none]) B dX1_checksum_66 rfl (Nat.le_of_ble_eq_true rfl) rfl ?_
          refine g_goto (tgt := 111) B dX1_checksum_67 (by decide) ?_
          refine g_iinc (v := nI (k + 1)) (q := 114) (lv2 := [some (.ref x), some (.long (31 * s)), none, some (.int (nI (k + 1))), none]) B dX1_checksum_111 rfl rfl (nI_add _ 1) (Nat.le_of_ble_eq_true rfl) rfl ?_
          refine g_goto (tgt := 27) B dX1_checksum_114 (by decide) ?_
          exact ih27 _ (by omega) (k + 1) (31 * s) (by show _ = ck1 (zSs C) T k (ckT (zSs C) T (ckZ C) k); rw [← hs]; rw [ck1_n c58]) (fun z => absurd z hne) (fun _ => by omega) rfl
  exact lp27 _ 0 (ckZ C) (rfl) (fun _ => rfl) (fun _ => Nat.zero_le _) rfl
