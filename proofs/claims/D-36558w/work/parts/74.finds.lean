set_option maxRecDepth 100000
theorem nwJ5 : ∀ j, j < 3 → defaultValue (tyJ5 j) = vp_V [.null, .int (nI 0), .int (nI 0)] j := by
  intro j hj
  match j, hj with
  | 0, _ => rfl
  | 1, _ => rfl
  | 2, _ => rfl
  | n + 3, hj => exact absurd hj (by omega)
theorem moJ5_init : Mo yJ5_init 0 := by
  refine ⟨by decide, by decide, by decide +kernel⟩
theorem mojava_lang_Iterable_iterator___Ljava_util_Iterator_ : Mo ⟨"java/lang/Iterable", "iterator", "()Ljava/util/Iterator;"⟩ 0 := by
  refine ⟨by decide, by decide, by decide +kernel⟩
theorem moJ5_cardinality : Mo yJ5_cardinality 0 := by
  refine ⟨by decide, by decide, by decide +kernel⟩
theorem moJ5_get : Mo yJ5_get 1 := by
  refine ⟨by decide, by decide, by decide +kernel⟩
theorem moJ5_set : Mo yJ5_set 1 := by
  refine ⟨by decide, by decide, by decide +kernel⟩
theorem ct_X2_finds (g : Gv) (J : Jd g) {b : Nat} {ss : List Sec} {bx : List (Nat × Nat)} {z : Int32} {p : Nat} {vs : List Nat} {capv : Nat} {w0 : va_W} {w1 : va_W} (hw0 : BookP g b ss bx z w0) (hw1 : LhP g (BxE g) p vs capv w1) (hl : ss.length ≤ 1000) (hbl : bx.length < 100000) (hvs : ∀ v ∈ vs, v < ss.length) : Ct g yX2_finds (ws_ yX2_finds cX2_finds 7 (some (.object "java/util/BitSet"))) 8 34 80 [.ref b, .ref p] [w0, w1] (fun (rv_ : Option Value) (rL_ : List va_W) => ∃ (r : Nat) (K : Nat → Bool) (cap : Nat) (u2 : va_W), rv_ = some (.ref r) ∧ rL_ = [w0, w1, u2] ∧ SetP g r K cap u2 ∧ (∀ x, K x = true ↔ ClK ss bx vs x) ∧ (cap ≤ 30) ∧ (∀ x, K x = true → x < ss.length)) noX := by
  refine Ct.of "Keygrove$Book" [some (.ref b), some (.ref p), none, none, none, none, none] rfl (by decide) rfl (Nat.le_of_ble_eq_true rfl) rfl ?_
  intro κ B E tb
  obtain ⟨hS, hbx⟩ := BookP.ok hw0
  have hml1 : (bx.map (·.1)).length = bx.length := by simp
  have hml2 : (bx.map (·.2)).length = bx.length := by simp
  refine g_new (q := 3) (kc2 := 33) (ks2 := 77) (fs := [.null, .int (nI 0), .int (nI 0)]) B (ci := 26) in_J5 tyJ5_ok rfl dX2_finds_0 rfl q796 q253 q84 (nwJ5) (Nat.le_of_ble_eq_true rfl) (Nat.le_of_ble_eq_true rfl) (fun n0 => ?_)
  refine (show Go g κ 3 [some (.ref b), some (.ref p), none, none, none, none, none] [.ref n0] [w0, w1, [(n0, .inr (26, [.null, .int (nI 0), .int (nI 0)]))]] 33 77 from ?_)
  refine g_dup (q := 4) B dX2_finds_3 rfl rfl ?_
  refine g_callI (q := 7) (is := [2]) (kc2 := 32) (ks2 := 76) B [] (ct_J5_init g J (b := n0)  ) dX2_finds_4 rfl rfl q797 q255 q84 q256 rfl rfl moJ5_init rfl rfl (by decide) (by decide) (Nat.le_of_ble_eq_true rfl) (Nat.le_of_ble_eq_true rfl) (Nat.le_of_ble_eq_true rfl) (fun _ _ hx => noX_x hx) (fun v4 L1 hp4 => ?_)
  obtain ⟨u0_4, rfl, rfl, hu0_4⟩ := hp4
  refine (show Go g κ 7 [some (.ref b), some (.ref p), none, none, none, none, none] [.ref n0] [w0, w1, u0_4] 32 76 from ?_)
  refine g_astore_n (q := 8) (lv2 := [some (.ref b), some (.ref p), some (.ref n0), none, none, none, none]) B dX2_finds_7 rfl (Nat.le_of_ble_eq_true rfl) (rv_r _) rfl ?_
  refine g_aload_n (q := 9) B dX2_finds_8 rfl rfl (rv_r _) ?_
  obtain ⟨ps_1, md_1, hli_1, hln_1, hel_1⟩ := LhP.at (Sub.self hw1)
  refine g_callF (q := 14) (is := [1]) (kc2 := 31) (ks2 := 72) B [] (ct_J2_iterator_s g J (p := p) (xs := ps_1) (md := md_1) (cap := capv) (W0 := w1)  (hli_1)) dX2_finds_9 rfl (ci := 21) rfl (rc_in B (ci := 21) rfl (k := 1) rfl (LhP.hm hw1)) q799 q803 q805 q81 q807 q801 q800 q806 q804 q802 rfl rfl mojava_lang_Iterable_iterator___Ljava_util_Iterator_ rfl rfl (by decide) (by decide) (Nat.le_of_ble_eq_true rfl) (Nat.le_of_ble_eq_true rfl) (Nat.le_of_ble_eq_true rfl) (fun _ _ hx => noX_x hx) (fun v9 L1 hp9 => ?_)
  obtain ⟨it9, rfl, rfl⟩ := hp9
  refine (show Go g κ 14 [some (.ref b), some (.ref p), some (.ref n0), none, none, none, none] [.ref it9] [w0, u0_4, [(it9, .inr (22, [.int (nI 0), .int (-1), .int md_1, .ref p]))], w1] 31 72 from ?_)
  refine g_astore_n (q := 15) (lv2 := [some (.ref b), some (.ref p), some (.ref n0), some (.ref it9), none, none, none]) B dX2_finds_14 rfl (Nat.le_of_ble_eq_true rfl) (rv_r _) rfl ?_
  have lp15 : ∀ (n15 : Nat) (k : Nat) (lr : Int32) (K1 : Nat → Bool) (cap1 : Nat) (l15_1 : va_W), SetP g n0 K1 cap1 l15_1 → (k ≤ vs.length) → (∀ v ∈ vs.take k, K1 v = true) → (∀ x, K1 x = true → ClK ss bx vs x ∧ x < ss.length) → (cap1 ≤ 30) → vs.length - k = n15 → Go g κ 15 [some (.ref b), some (.ref p), some (.ref n0), some (.ref it9), none, none, none] [] [w0, l15_1, [(it9, .inr (22, [.int (nI k), .int lr, .int md_1, .ref p]))], w1] (30 - cap1) (60 - 2 * cap1) := by
    intro n15
    induction n15 using Nat.strongRecOn with
    | _ n15 ih15 =>
    intro k lr K1 cap1 l15_1 hl15_1 hk hin hsd hcap1 hmu15
    refine g_aload_n (q := 16) B dX2_finds_15 rfl rfl (rv_r _) ?_
    refine g_callF (q := 21) (is := [2, 2]) (kc2 := 30 - cap1) (ks2 := 60 - 2 * cap1) B [] (ct_J19_hasNext_s g J (p := p) (xs := ps_1) (md := md_1) (cap := capv) (it := it9) (c := k) (lr := lr) (W1 := w1)  (hli_1) (by have := hln_1.1; omega)) dX2_finds_16 rfl (ci := 22) rfl (rc_at B (ci := 22) rfl (k := 2) rfl) q936 q940 q942 q104 q944 q938 q937 q943 q941 q939 rfl rfl mojava_util_Iterator_hasNext___Z rfl rfl (by decide) (by decide) (Nat.le_of_ble_eq_true rfl) (by omega) (by omega) (fun _ _ hx => noX_x hx) (fun v16 L1 hp16 => ?_)
    obtain ⟨rfl, rfl⟩ := hp16
    refine (show Go g κ 21 [some (.ref b), some (.ref p), some (.ref n0), some (.ref it9), none, none, none] [.int (nI (if ¬ k = ps_1.length then 1 else 0))] [w0, l15_1, [(it9, .inr (22, [.int (nI k), .int lr, .int md_1, .ref p]))], w1] (30 - cap1) (60 - 2 * cap1) from ?_)
    rw [hln_1.1]
    refine (show Go g κ 21 [some (.ref b), some (.ref p), some (.ref n0), some (.ref it9), none, none, none] [.int (nI (if ¬ k = vs.length then 1 else 0))] [w0, l15_1, [(it9, .inr (22, [.int (nI k), .int lr, .int md_1, .ref p]))], w1] (30 - cap1) (60 - 2 * cap1) from ?_)
    refine g_if_eq (tgt := 47) (q := 24) B dX2_finds_21 rfl (by decide) (bo_eq) (fun c21 => ?_) (fun c21 => ?_)
    · skip
      refine g_iconst (v := nI 1) (q := 48) B dX2_finds_47 rfl (by decide) ?_
      refine g_istore_n (q := 49) (lv2 := [some (.ref b), some (.ref p), some (.ref n0), some (.int (nI 1)), none, none, none]) B dX2_finds_48 rfl (Nat.le_of_ble_eq_true rfl) rfl ?_
      have lp49 : ∀ (n49 : Nat) (go : Bool) (K : Nat → Bool) (cap : Nat) (l49_1 : va_W), SetP g n0 K cap l49_1 → (∀ v ∈ vs, K v = true) → (∀ x, K x = true → ClK ss bx vs x ∧ x < ss.length) → (cap ≤ 30) → (go = false → ClsK ss bx K) → 2 * (2048 - ctK K) + (if go = true then 1 else 0) = n49 → Go g κ 49 [some (.ref b), some (.ref p), some (.ref n0), some (.int (nI (if go = true then 1 else 0))), none, none, none] [] [w0, l49_1, w1] (30 - cap) (60 - 2 * cap) := by
        intro n49
        induction n49 using Nat.strongRecOn with
        | _ n49 ih49 =>
        intro go K cap l49_1 hl49_1 hin hsd hcap hgo hmu49
        refine g_iload_n (q := 50) B dX2_finds_49 rfl rfl ?_
        refine g_if_eq (tgt := 232) (q := 53) B dX2_finds_50 rfl (by decide) (bo_eq) (fun c50 => ?_) (fun c50 => ?_)
        · skip
          refine g_aload_n (q := 233) B dX2_finds_232 rfl rfl (rv_r _) ?_
          refine g_pk [0, 1, 0] rfl rfl ?_
          refine (show Go g κ 233 [some (.ref b), some (.ref p), some (.ref n0), some (.int (nI (if go = true then 1 else 0))), none, none, none] [.ref n0] [w0, w1, l49_1] (30 - cap) (60 - 2 * cap) from ?_)
          exact g_aret B E dX2_finds_233 (by first | exact Or.inl ⟨_, rfl⟩ | exact Or.inr ⟨_, rfl⟩) (rv_r _) (⟨n0, K, cap, l49_1, rfl, rfl, hl49_1, fun x => ⟨fun h => (hsd x h).1, fun h => ClK.all (hgo (by simpa using c50)) hin h⟩, hcap, fun x h => (hsd x h).2⟩)
        · skip
          have hg1 : go = true := Classical.not_not.mp c50
          refine g_aload_n (q := 54) B dX2_finds_53 rfl rfl (rv_r _) ?_
          refine g_callV (q := 57) (is := [1]) (kc2 := 30 - cap) (ks2 := 60 - 2 * cap) B [] (ct_J5_cardinality g J (b := n0) (S := K) (cap := cap) hl49_1 ) dX2_finds_54 rfl (rc_in B (ci := 26) rfl (k := 1) rfl (SetP.hm hl49_1)) rfl q1077 q1078 q1079 q84 q1080 rfl rfl moJ5_cardinality rfl rfl (by decide) (by decide) (Nat.le_of_ble_eq_true rfl) (by omega) (by omega) (fun _ _ hx => noX_x hx) (fun v54 L1 hp54 => ?_)
          obtain ⟨rfl, rfl⟩ := hp54
          refine (show Go g κ 57 [some (.ref b), some (.ref p), some (.ref n0), some (.int (nI (if go = true then 1 else 0))), none, none, none] [.int (nI (fb_ct K (64 * cap)))] [w0, w1, l49_1] (30 - cap) (60 - 2 * cap) from ?_)
          rw [(show fb_ct K (64 * cap) = ctK K from hl49_1.ct hcap)]
          refine (show Go g κ 57 [some (.ref b), some (.ref p), some (.ref n0), some (.int (nI (if go = true then 1 else 0))), none, none, none] [.int (nI (ctK K))] [w0, w1, l49_1] (30 - cap) (60 - 2 * cap) from ?_)
          refine g_istore (q := 59) (lv2 := [some (.ref b), some (.ref p), some (.ref n0), some (.int (nI (if go = true then 1 else 0))), some (.int (nI (ctK K))), none, none]) B dX2_finds_57 rfl (Nat.le_of_ble_eq_true rfl) rfl ?_
          refine g_iconst (v := nI 0) (q := 60) B dX2_finds_59 rfl (by decide) ?_
          refine g_istore (q := 62) (lv2 := [some (.ref b), some (.ref p), some (.ref n0), some (.int (nI (if go = true then 1 else 0))), some (.int (nI (ctK K))), some (.int (nI 0)), none]) B dX2_finds_60 rfl (Nat.le_of_ble_eq_true rfl) rfl ?_
          have lp62 : ∀ (n62 : Nat) (k : Nat) (K1 : Nat → Bool) (cap1 : Nat) (l62_2 : va_W), SetP g n0 K1 cap1 l62_2 → (k ≤ ss.length) → (∀ x, K x = true → K1 x = true) → (∀ x, K1 x = true → ClK ss bx vs x ∧ x < ss.length) → (cap1 ≤ 30) → (∀ i r, i < k → ss[i]? = some r → prm K r → K1 i = true) → ss.length - k = n62 → Go g κ 62 [some (.ref b), some (.ref p), some (.ref n0), some (.int (nI (if go = true then 1 else 0))), some (.int (nI (ctK K))), some (.int (nI k)), none] [] [w0, w1, l62_2] (30 - cap1) (60 - 2 * cap1) := by
            intro n62
            induction n62 using Nat.strongRecOn with
            | _ n62 ih62 =>
            intro k K1 cap1 l62_2 hl62_2 hk hsub hsd1 hcap1 hcl hmu62
            refine g_iload (q := 64) B dX2_finds_62 rfl rfl ?_
            refine g_aload_n (q := 65) B dX2_finds_64 rfl rfl (rv_r _) ?_
            obtain ⟨al_2, fo_2, ol_2, cl_2, xs_2, hS_2, hbx_2, hc_2_0, hs_2_0, hs_2_1, hs_2_2, hs_2_3, hs_2_4⟩ := BookP.at (Sub.self hw0)
            refine g_getM (q := 68) B (ci := 1) (k := 0) (j := 0) in_X2 rfl dX2_finds_65 rfl rfl (hc_2_0) (Nat.le_of_ble_eq_true rfl) q232 rfl rfl ?_
            obtain ⟨ps_3, md_3, hli_3, hln_3, hel_3⟩ := LhP.at (hs_2_0)
            refine g_callF (q := 73) (is := [0]) (kc2 := 30 - cap1) (ks2 := 60 - 2 * cap1) B [] (ct_J2_size_s g J (p := al_2) (xs := ps_3) (md := md_3) (cap := (capF ss.length)) (W0 := w0)  (hli_3)) dX2_finds_68 rfl (ci := 21) rfl (rc_in B (ci := 21) rfl (k := 0) rfl (Sub.hm (hs_2_0) fun _ z => LhP.hm z)) q1088 q319 q321 q81 q323 q317 q316 q322 q320 q318 rfl rfl mojava_util_List_size___I rfl rfl (by decide) (by decide) (Nat.le_of_ble_eq_true rfl) (by omega) (by omega) (fun _ _ hx => noX_x hx) (fun v68 L1 hp68 => ?_)
            obtain ⟨rfl, rfl⟩ := hp68
            refine (show Go g κ 73 [some (.ref b), some (.ref p), some (.ref n0), some (.int (nI (if go = true then 1 else 0))), some (.int (nI (ctK K))), some (.int (nI k)), none] [.int (nI ps_3.length), .int (nI k)] [w1, l62_2, w0] (30 - cap1) (60 - 2 * cap1) from ?_)
            rw [hln_3.1]
            refine (show Go g κ 73 [some (.ref b), some (.ref p), some (.ref n0), some (.int (nI (if go = true then 1 else 0))), some (.int (nI (ctK K))), some (.int (nI k)), none] [.int (nI ss.length), .int (nI k)] [w1, l62_2, w0] (30 - cap1) (60 - 2 * cap1) from ?_)
            refine g_icmp_ge (tgt := 146) (q := 76) B dX2_finds_73 rfl (by decide) (nI_leI (by omega) (by omega)) (fun c73 => ?_) (fun c73 => ?_)
            · skip
              refine g_iconst (v := nI 0) (q := 147) B dX2_finds_146 rfl (by decide) ?_
              refine g_istore (q := 149) (lv2 := [some (.ref b), some (.ref p), some (.ref n0), some (.int (nI (if go = true then 1 else 0))), some (.int (nI (ctK K))), some (.int (nI 0)), none]) B dX2_finds_147 rfl (Nat.le_of_ble_eq_true rfl) rfl ?_
              have lp149 : ∀ (n149 : Nat) (j : Nat) (K2 : Nat → Bool) (cap2 : Nat) (l149_1 : va_W), SetP g n0 K2 cap2 l149_1 → (j ≤ bx.length) → (∀ x, K1 x = true → K2 x = true) → (∀ x, K2 x = true → ClK ss bx vs x ∧ x < ss.length) → (cap2 ≤ 30) → (∀ i p, i < j → bx[i]? = some p → K p.1 = true → K2 p.2 = true) → bx.length - j = n149 → Go g κ 149 [some (.ref b), some (.ref p), some (.ref n0), some (.int (nI (if go = true then 1 else 0))), some (.int (nI (ctK K))), some (.int (nI j)), none] [] [w1, l149_1, w0] (30 - cap2) (60 - 2 * cap2) := by
                intro n149
                induction n149 using Nat.strongRecOn with
                | _ n149 ih149 =>
                intro j K2 cap2 l149_1 hl149_1 hj hsub2 hsd2 hcap2 hcb hmu149
                refine g_iload (q := 151) B dX2_finds_149 rfl rfl ?_
                refine g_aload_n (q := 152) B dX2_finds_151 rfl rfl (rv_r _) ?_
                refine g_getM (q := 155) B (ci := 1) (k := 2) (j := 2) in_X2 rfl dX2_finds_152 rfl rfl (hc_2_0) (Nat.le_of_ble_eq_true rfl) q234 rfl rfl ?_
                obtain ⟨ps_4, md_4, hli_4, hln_4, hel_4⟩ := LhP.at (hs_2_3)
                refine g_callF (q := 160) (is := [2]) (kc2 := 30 - cap2) (ks2 := 60 - 2 * cap2) B [] (ct_J2_size_s g J (p := ol_2) (xs := ps_4) (md := md_4) (cap := (capF bx.length)) (W0 := w0)  (hli_4)) dX2_finds_155 rfl (ci := 21) rfl (rc_in B (ci := 21) rfl (k := 2) rfl (Sub.hm (hs_2_3) fun _ z => LhP.hm z)) q1088 q319 q321 q81 q323 q317 q316 q322 q320 q318 rfl rfl mojava_util_List_size___I rfl rfl (by decide) (by decide) (Nat.le_of_ble_eq_true rfl) (by omega) (by omega) (fun _ _ hx => noX_x hx) (fun v155 L1 hp155 => ?_)
                obtain ⟨rfl, rfl⟩ := hp155
                refine (show Go g κ 160 [some (.ref b), some (.ref p), some (.ref n0), some (.int (nI (if go = true then 1 else 0))), some (.int (nI (ctK K))), some (.int (nI j)), none] [.int (nI ps_4.length), .int (nI j)] [w1, l149_1, w0] (30 - cap2) (60 - 2 * cap2) from ?_)
                rw [hln_4.1]
                refine (show Go g κ 160 [some (.ref b), some (.ref p), some (.ref n0), some (.int (nI (if go = true then 1 else 0))), some (.int (nI (ctK K))), some (.int (nI j)), none] [.int (nI ((bx.map (·.1)).length)), .int (nI j)] [w1, l149_1, w0] (30 - cap2) (60 - 2 * cap2) from ?_)
                refine g_icmp_ge (tgt := 214) (q := 163) B dX2_finds_160 rfl (by decide) (nI_leI (by omega) (by omega)) (fun c160 => ?_) (fun c160 => ?_)
                · skip
                  refine g_aload_n (q := 215) B dX2_finds_214 rfl rfl (rv_r _) ?_
                  refine g_callV (q := 218) (is := [1]) (kc2 := 30 - cap2) (ks2 := 60 - 2 * cap2) B [] (ct_J5_cardinality g J (b := n0) (S := K2) (cap := cap2) hl149_1 ) dX2_finds_215 rfl (rc_in B (ci := 26) rfl (k := 1) rfl (SetP.hm hl149_1)) rfl q1077 q1078 q1079 q84 q1080 rfl rfl moJ5_cardinality rfl rfl (by decide) (by decide) (Nat.le_of_ble_eq_true rfl) (by omega) (by omega) (fun _ _ hx => noX_x hx) (fun v215 L1 hp215 => ?_)
                  obtain ⟨rfl, rfl⟩ := hp215
                  refine (show Go g κ 218 [some (.ref b), some (.ref p), some (.ref n0), some (.int (nI (if go = true then 1 else 0))), some (.int (nI (ctK K))), some (.int (nI j)), none] [.int (nI (fb_ct K2 (64 * cap2)))] [w1, w0, l149_1] (30 - cap2) (60 - 2 * cap2) from ?_)
                  rw [(show fb_ct K2 (64 * cap2) = ctK K2 from hl149_1.ct hcap2)]
                  refine (show Go g κ 218 [some (.ref b), some (.ref p), some (.ref n0), some (.int (nI (if go = true then 1 else 0))), some (.int (nI (ctK K))), some (.int (nI j)), none] [.int (nI (ctK K2))] [w1, w0, l149_1] (30 - cap2) (60 - 2 * cap2) from ?_)
                  have hKK2 : ∀ x, K x = true → K2 x = true := fun x h => hsub2 x (hsub x h)
                  have hk2048 : ctK K2 ≤ 2048 := fb_ct_le K2 2048
                  have hkct : ctK K ≤ ctK K2 := ct_sub hKK2 2048
                  refine g_iload (q := 220) B dX2_finds_218 rfl rfl ?_
                  refine g_icmp_le (tgt := 227) (q := 223) B dX2_finds_220 rfl (by decide) (nI_leI (by have := fb_ct_le K2 2048; unfold ctK; omega) (by have := fb_ct_le K 2048; unfold ctK; omega)) (fun c220 => ?_) (fun c220 => ?_)
                  · skip
                    refine g_iconst (v := nI 0) (q := 228) B dX2_finds_227 rfl (by decide) ?_
                    refine g_istore_n (q := 229) (lv2 := [some (.ref b), some (.ref p), some (.ref n0), some (.int (nI 0)), some (.int (nI (ctK K))), some (.int (nI j)), none]) B dX2_finds_228 rfl (Nat.le_of_ble_eq_true rfl) rfl ?_
                    refine g_goto (tgt := 49) B dX2_finds_229 (by decide) ?_
                    refine g_fg 4 rfl ?_
                    refine g_fg 5 rfl ?_
                    refine g_pk [1, 1, 0] rfl rfl ?_
                    refine (show Go g κ 49 [some (.ref b), some (.ref p), some (.ref n0), some (.int (nI 0)), none, none, none] [] [w0, l149_1, w1] (30 - cap2) (60 - 2 * cap2) from ?_)
                    refine g_room (kc2 := 30 - cap2) (ks2 := 60 - 2 * cap2) (by omega) (by omega) ?_
                    exact ih49 _ (by rw [← hmu49, if_pos hg1]; first | (rw [if_pos rfl]; omega) | (rw [if_neg (by decide)]; omega)) (false) K2 cap2 l149_1 hl149_1 (fun v h => hKK2 v (hin v h)) (hsd2) (hcap2) (fun _ => by have hb : ∀ x, K2 x = true → K x = true := fun x hx => ct_eq hKK2 2048 (by show ctK K2 ≤ ctK K; omega) x (by have := (hsd2 x hx).2; omega) hx; exact ⟨fun i s hs hp => hsub2 i (hcl i s (by have := get_lt2 hs; omega) hs (by obtain ⟨o, e, ho, hq⟩ := hp; exact ⟨o, e, hb o ho, fun q eq => hb q (hq q eq)⟩)), fun p hp hk => by obtain ⟨i, hi⟩ := List.getElem?_of_mem hp; exact hcb i p (by have := get_lt2 hi; omega) hi (hb _ hk)⟩) rfl
                  · skip
                    refine g_iconst (v := nI 1) (q := 224) B dX2_finds_223 rfl (by decide) ?_
                    refine g_goto (tgt := 228) B dX2_finds_224 (by decide) ?_
                    refine g_istore_n (q := 229) (lv2 := [some (.ref b), some (.ref p), some (.ref n0), some (.int (nI 1)), some (.int (nI (ctK K))), some (.int (nI j)), none]) B dX2_finds_228 rfl (Nat.le_of_ble_eq_true rfl) rfl ?_
                    refine g_goto (tgt := 49) B dX2_finds_229 (by decide) ?_
                    refine g_fg 4 rfl ?_
                    refine g_fg 5 rfl ?_
                    refine g_pk [1, 1, 0] rfl rfl ?_
                    refine (show Go g κ 49 [some (.ref b), some (.ref p), some (.ref n0), some (.int (nI 1)), none, none, none] [] [w0, l149_1, w1] (30 - cap2) (60 - 2 * cap2) from ?_)
                    refine g_room (kc2 := 30 - cap2) (ks2 := 60 - 2 * cap2) (by omega) (by omega) ?_
                    exact ih49 _ (by rw [← hmu49, if_pos hg1]; first | (rw [if_pos rfl]; omega) | (rw [if_neg (by decide)]; omega)) (true) K2 cap2 l149_1 hl149_1 (fun v h => hKK2 v (hin v h)) (hsd2) (hcap2) (fun h => by cases h) rfl
                · skip
                  refine g_aload_n (q := 164) B dX2_finds_163 rfl rfl (rv_r _) ?_
                  refine g_aload_n (q := 165) B dX2_finds_164 rfl rfl (rv_r _) ?_
                  refine g_getM (q := 168) B (ci := 1) (k := 2) (j := 2) in_X2 rfl dX2_finds_165 rfl rfl (hc_2_0) (Nat.le_of_ble_eq_true rfl) q234 rfl rfl ?_
                  refine g_iload (q := 170) B dX2_finds_168 rfl rfl ?_
                  obtain ⟨r170, hr170⟩ := get_ex (xs := (bx.map (·.1))) (i := j) (by rw [List.length_map]; omega)
                  obtain ⟨x170, hx170⟩ := get_ex (xs := ps_4) (i := j) (by have := get_lt2 hr170; have := hln_4.1; omega)
                  have hb_5 := Sub.box (hel_4 _ _ _ hx170 hr170)
                  refine g_callF (q := 175) (is := [2]) (kc2 := 30 - cap2) (ks2 := 60 - 2 * cap2) B [.int (nI j)] (ct_J2_get_s g J (p := ol_2) (xs := ps_4) (md := md_4) (cap := (capF bx.length)) (i := j) (x := x170) (W0 := w0)  (hli_4) (hx170)) dX2_finds_170 rfl (ci := 21) rfl (rc_in B (ci := 21) rfl (k := 2) rfl (Sub.hm (hs_2_3) fun _ z => LhP.hm z)) q1090 q1093 q1095 q81 q1097 q1092 q1091 q1096 q1094 q318 rfl rfl mojava_util_List_get__I_Ljava_lang_Object_ rfl rfl (by decide) (by decide) (Nat.le_of_ble_eq_true rfl) (by omega) (by omega) (fun _ _ hx => noX_x hx) (fun v170 L1 hp170 => ?_)
                  obtain ⟨rfl, rfl⟩ := hp170
                  refine (show Go g κ 175 [some (.ref b), some (.ref p), some (.ref n0), some (.int (nI (if go = true then 1 else 0))), some (.int (nI (ctK K))), some (.int (nI j)), none] [.ref x170, .ref n0] [w1, l149_1, w0] (30 - cap2) (60 - 2 * cap2) from ?_)
                  refine g_castRS (ci := 35) (q := 178) B rfl (rc_bxat B J (k := 2) rfl hb_5) dX2_finds_175 rfl q1050 ?_
                  obtain ⟨p170, hbk, hp170⟩ := map_at hr170
                  refine g_callV (q := 181) (is := [2]) (kc2 := 30 - cap2) (ks2 := 60 - 2 * cap2) B [] (ct_J26_intValue_b g J (a := x170) (v := nI r170) (wb := w0)  (hb_5)) dX2_finds_178 rfl (rc_bxat B J (k := 2) rfl hb_5) rfl q1051 q1052 q1053 q111 q1054 rfl rfl moJ26_intValue rfl rfl (by decide) (by decide) (Nat.le_of_ble_eq_true rfl) (by omega) (by omega) (fun _ _ hx => noX_x hx) (fun v178 L1 hp178 => ?_)
                  obtain ⟨rfl, rfl⟩ := hp178
                  refine (show Go g κ 181 [some (.ref b), some (.ref p), some (.ref n0), some (.int (nI (if go = true then 1 else 0))), some (.int (nI (ctK K))), some (.int (nI j)), none] [.int (nI r170), .ref n0] [w1, l149_1, w0] (30 - cap2) (60 - 2 * cap2) from ?_)
                  refine g_callV (q := 184) (is := [1]) (kc2 := 30 - cap2) (ks2 := 60 - 2 * cap2) B [.int (nI r170)] (ct_J5_get g J (b := n0) (S := K2) (cap := cap2) (i := r170) hl149_1 (by have := (hbx _ (List.mem_of_getElem? hbk)).1; omega)) dX2_finds_181 rfl (rc_in B (ci := 26) rfl (k := 1) rfl (SetP.hm hl149_1)) rfl q1109 q1110 q1111 q84 q1112 rfl rfl moJ5_get rfl rfl (by decide) (by decide) (Nat.le_of_ble_eq_true rfl) (by omega) (by omega) (fun _ _ hx => noX_x hx) (fun v181 L1 hp181 => ?_)
                  obtain ⟨rfl, rfl⟩ := hp181
                  refine (show Go g κ 184 [some (.ref b), some (.ref p), some (.ref n0), some (.int (nI (if go = true then 1 else 0))), some (.int (nI (ctK K))), some (.int (nI j)), none] [.int (nI (if K2 r170 = true then 1 else 0))] [w1, w0, l149_1] (30 - cap2) (60 - 2 * cap2) from ?_)
                  refine g_if_eq (tgt := 208) (q := 187) B dX2_finds_184 rfl (by decide) (bo_eq) (fun c184 => ?_) (fun c184 => ?_)
                  · skip
                    refine g_iinc (v := nI (j + 1)) (q := 211) (lv2 := [some (.ref b), some (.ref p), some (.ref n0), some (.int (nI (if go = true then 1 else 0))), some (.int (nI (ctK K))), some (.int (nI (j + 1))), none]) B dX2_finds_208 rfl rfl (nI_add _ 1) (Nat.le_of_ble_eq_true rfl) rfl ?_
                    refine g_goto (tgt := 149) B dX2_finds_211 (by decide) ?_
                    refine g_pk [0, 1, 0] rfl rfl ?_
                    refine (show Go g κ 149 [some (.ref b), some (.ref p), some (.ref n0), some (.int (nI (if go = true then 1 else 0))), some (.int (nI (ctK K))), some (.int (nI (j + 1))), none] [] [w1, l149_1, w0] (30 - cap2) (60 - 2 * cap2) from ?_)
                    exact ih149 _ (by omega) (j + 1) K2 cap2 l149_1 hl149_1 (by omega) (hsub2) (hsd2) (by omega) (fun i p h1 h2 h3 => by rcases Nat.lt_or_ge i j with z | z; exact hcb i p z h2 h3; have e : i = j := (by omega); rw [e, hbk] at h2; cases h2; rw [← hp170] at c184; exact absurd (hsub2 _ (hsub _ h3)) c184) rfl
                  · skip
                    have c184 := Classical.not_not.mp c184
                    refine g_aload_n (q := 188) B dX2_finds_187 rfl rfl (rv_r _) ?_
                    refine g_aload_n (q := 189) B dX2_finds_188 rfl rfl (rv_r _) ?_
                    refine g_getM (q := 192) B (ci := 1) (k := 1) (j := 3) in_X2 rfl dX2_finds_189 rfl rfl (hc_2_0) (Nat.le_of_ble_eq_true rfl) q236 rfl rfl ?_
                    refine g_iload (q := 194) B dX2_finds_192 rfl rfl ?_
                    obtain ⟨ps_6, md_6, hli_6, hln_6, hel_6⟩ := LhP.at (hs_2_4)
                    obtain ⟨r194, hr194⟩ := get_ex (xs := (bx.map (·.2))) (i := j) (by rw [List.length_map]; omega)
                    obtain ⟨x194, hx194⟩ := get_ex (xs := ps_6) (i := j) (by have := get_lt2 hr194; have := hln_6.1; omega)
                    have hb_7 := Sub.box (hel_6 _ _ _ hx194 hr194)
                    refine g_callF (q := 199) (is := [1]) (kc2 := 30 - cap2) (ks2 := 60 - 2 * cap2) B [.int (nI j)] (ct_J2_get_s g J (p := cl_2) (xs := ps_6) (md := md_6) (cap := (capF bx.length)) (i := j) (x := x194) (W0 := w0)  (hli_6) (hx194)) dX2_finds_194 rfl (ci := 21) rfl (rc_in B (ci := 21) rfl (k := 1) rfl (Sub.hm (hs_2_4) fun _ z => LhP.hm z)) q1090 q1093 q1095 q81 q1097 q1092 q1091 q1096 q1094 q318 rfl rfl mojava_util_List_get__I_Ljava_lang_Object_ rfl rfl (by decide) (by decide) (Nat.le_of_ble_eq_true rfl) (by omega) (by omega) (fun _ _ hx => noX_x hx) (fun v194 L1 hp194 => ?_)
                    obtain ⟨rfl, rfl⟩ := hp194
                    refine (show Go g κ 199 [some (.ref b), some (.ref p), some (.ref n0), some (.int (nI (if go = true then 1 else 0))), some (.int (nI (ctK K))), some (.int (nI j)), none] [.ref x194, .ref n0] [w1, l149_1, w0] (30 - cap2) (60 - 2 * cap2) from ?_)
                    refine g_castRS (ci := 35) (q := 202) B rfl (rc_bxat B J (k := 2) rfl hb_7) dX2_finds_199 rfl q1050 ?_
                    obtain ⟨q194, hbk2, hp194⟩ := map_at hr194
                    rw [hbk] at hbk2; cases hbk2
                    have hlt194 : r194 < ss.length := by rw [← hp194]; exact (hbx _ (List.mem_of_getElem? hbk)).2
                    have hcn := capN_b (m := r194 / 64 + 1) hcap2 (by omega)
                    refine g_callV (q := 205) (is := [2]) (kc2 := 30 - cap2) (ks2 := 60 - 2 * cap2) B [] (ct_J26_intValue_b g J (a := x194) (v := nI r194) (wb := w0)  (hb_7)) dX2_finds_202 rfl (rc_bxat B J (k := 2) rfl hb_7) rfl q1051 q1052 q1053 q111 q1054 rfl rfl moJ26_intValue rfl rfl (by decide) (by decide) (Nat.le_of_ble_eq_true rfl) (by omega) (by omega) (fun _ _ hx => noX_x hx) (fun v202 L1 hp202 => ?_)
                    obtain ⟨rfl, rfl⟩ := hp202
                    refine (show Go g κ 205 [some (.ref b), some (.ref p), some (.ref n0), some (.int (nI (if go = true then 1 else 0))), some (.int (nI (ctK K))), some (.int (nI j)), none] [.int (nI r194), .ref n0] [w1, l149_1, w0] (30 - cap2) (60 - 2 * cap2) from ?_)
                    refine g_callV (q := 208) (is := [1]) (kc2 := (30 - cap2) - (capN cap2 (r194 / 64 + 1) - cap2)) (ks2 := (60 - 2 * cap2) - (2 * (capN cap2 (r194 / 64 + 1) - cap2))) B [.int (nI r194)] (ct_J5_set g J (b := n0) (S := K2) (cap := cap2) (i := r194) (mc := (capN cap2 (r194 / 64 + 1) - cap2)) (ms := (2 * (capN cap2 (r194 / 64 + 1) - cap2))) hl149_1 (by omega) (by omega) ((capN_b hcap2 (by omega)).2.2)) dX2_finds_205 rfl (rc_in B (ci := 26) rfl (k := 1) rfl (SetP.hm hl149_1)) rfl q1055 q1056 q1057 q84 q1058 rfl rfl moJ5_set rfl rfl (by decide) (by decide) (Nat.le_of_ble_eq_true rfl) (by omega) (by omega) (fun _ _ hx => noX_x hx) (fun v205 L1 hp205 => ?_)
                    obtain ⟨u0_205, rfl, rfl, hu0_205⟩ := hp205
                    refine (show Go g κ 208 [some (.ref b), some (.ref p), some (.ref n0), some (.int (nI (if go = true then 1 else 0))), some (.int (nI (ctK K))), some (.int (nI j)), none] [] [w1, w0, u0_205] ((30 - cap2) - (capN cap2 (r194 / 64 + 1) - cap2)) ((60 - 2 * cap2) - (2 * (capN cap2 (r194 / 64 + 1) - cap2))) from ?_)
                    refine g_iinc (v := nI (j + 1)) (q := 211) (lv2 := [some (.ref b), some (.ref p), some (.ref n0), some (.int (nI (if go = true then 1 else 0))), some (.int (nI (ctK K))), some (.int (nI (j + 1))), none]) B dX2_finds_208 rfl rfl (nI_add _ 1) (Nat.le_of_ble_eq_true rfl) rfl ?_
                    refine g_goto (tgt := 149) B dX2_finds_211 (by decide) ?_
                    refine g_pk [0, 1, 0] rfl rfl ?_
                    refine (show Go g κ 149 [some (.ref b), some (.ref p), some (.ref n0), some (.int (nI (if go = true then 1 else 0))), some (.int (nI (ctK K))), some (.int (nI (j + 1))), none] [] [w1, u0_205, w0] ((30 - cap2) - (capN cap2 (r194 / 64 + 1) - cap2)) ((60 - 2 * cap2) - (2 * (capN cap2 (r194 / 64 + 1) - cap2))) from ?_)
                    refine g_room (kc2 := 30 - (capN cap2 (r194 / 64 + 1))) (ks2 := 60 - 2 * (capN cap2 (r194 / 64 + 1))) (by omega) (by omega) ?_
                    exact ih149 _ (by omega) (j + 1) (sIns K2 r194) (capN cap2 (r194 / 64 + 1)) u0_205 hu0_205 (by omega) (fun x h => sIns_m (hsub2 x h)) (fun x h => by rcases sIns_o h with rfl | h; exact ⟨by rw [← hp194]; exact ClK.box (List.mem_of_getElem? hbk) (hsd2 _ (by rw [hp170]; exact c184)).1, by rw [← hp194]; exact (hbx _ (List.mem_of_getElem? hbk)).2⟩; exact hsd2 x h) (by omega) (fun i p h1 h2 h3 => by rcases Nat.lt_or_ge i j with z | z; exact sIns_m (hcb i p z h2 h3); have e : i = j := (by omega); rw [e, hbk] at h2; cases h2; rw [hp194]; exact sIns_1 _ _) rfl
              refine g_room (kc2 := 30 - cap1) (ks2 := 60 - 2 * cap1) (by omega) (by omega) ?_
              exact lp149 _ 0 K1 cap1 l62_2 hl62_2 (Nat.zero_le _) (fun _ h => h) (hsd1) (hcap1) (fun i r h => absurd h (Nat.not_lt_zero i)) rfl
            · skip
              refine g_aload_n (q := 77) B dX2_finds_76 rfl rfl (rv_r _) ?_
              refine g_getM (q := 80) B (ci := 1) (k := 2) (j := 0) in_X2 rfl dX2_finds_77 rfl rfl (hc_2_0) (Nat.le_of_ble_eq_true rfl) q232 rfl rfl ?_
              refine g_iload (q := 82) B dX2_finds_80 rfl rfl ?_
              obtain ⟨r82, hr82⟩ := get_ex (xs := ss) (i := k) (by omega)
              obtain ⟨x82, hx82⟩ := get_ex (xs := ps_3) (i := k) (by have := get_lt2 hr82; have := hln_3.1; omega)
              have hE_8 := hel_3 _ _ _ hx82 hr82
              refine g_callF (q := 87) (is := [2]) (kc2 := 30 - cap1) (ks2 := 60 - 2 * cap1) B [.int (nI k)] (ct_J2_get_s g J (p := al_2) (xs := ps_3) (md := md_3) (cap := (capF ss.length)) (i := k) (x := x82) (W0 := w0)  (hli_3) (hx82)) dX2_finds_82 rfl (ci := 21) rfl (rc_in B (ci := 21) rfl (k := 2) rfl (Sub.hm (hs_2_0) fun _ z => LhP.hm z)) q1090 q1093 q1095 q81 q1097 q1092 q1091 q1096 q1094 q318 rfl rfl mojava_util_List_get__I_Ljava_lang_Object_ rfl rfl (by decide) (by decide) (Nat.le_of_ble_eq_true rfl) (by omega) (by omega) (fun _ _ hx => noX_x hx) (fun v82 L1 hp82 => ?_)
              obtain ⟨rfl, rfl⟩ := hp82
              refine (show Go g κ 87 [some (.ref b), some (.ref p), some (.ref n0), some (.int (nI (if go = true then 1 else 0))), some (.int (nI (ctK K))), some (.int (nI k)), none] [.ref x82] [w1, l62_2, w0] (30 - cap1) (60 - 2 * cap1) from ?_)
              refine g_castRS (ci := 3) (q := 90) B rfl (rc_in B (ci := 3) rfl (k := 2) rfl (Sub.hm (hE_8) fun _ z => OrgP.hm z)) dX2_finds_87 rfl q1108 ?_
              refine g_astore (q := 92) (lv2 := [some (.ref b), some (.ref p), some (.ref n0), some (.int (nI (if go = true then 1 else 0))), some (.int (nI (ctK K))), some (.int (nI k)), some (.ref x82)]) B dX2_finds_90 rfl (Nat.le_of_ble_eq_true rfl) (rv_r _) rfl ?_
              have hb82 := ss_bd hS hr82
              refine g_aload (q := 94) B dX2_finds_92 rfl rfl (rv_r _) ?_
              have hc_9_0 := OrgP.at (hE_8)
              refine g_getNM (q := 97) B (ci := 3) (k := 2) (j := 1) in_X6 rfl dX2_finds_94 rfl rfl (hc_9_0) (Nat.le_of_ble_eq_true rfl) q1628 rfl rfl ?_
              refine g_iconst (v := -1) (q := 98) B dX2_finds_97 rfl (by decide) ?_
              refine g_icmp_eq (tgt := 140) (q := 101) B dX2_finds_98 rfl (by decide) (oI_n ((fun n h => by have := hb82.1 n h; omega))) (fun c98 => ?_) (fun c98 => ?_)
              · skip
                have hz140 := scn_n (s := r82) hr82 (fun hp => by obtain ⟨o, e, ho, hq⟩ := hp; rw [c98] at e; cases e) hsub hcl
                refine g_iinc (v := nI (k + 1)) (q := 143) (lv2 := [some (.ref b), some (.ref p), some (.ref n0), some (.int (nI (if go = true then 1 else 0))), some (.int (nI (ctK K))), some (.int (nI (k + 1))), some (.ref x82)]) B dX2_finds_140 rfl rfl (nI_add _ 1) (Nat.le_of_ble_eq_true rfl) rfl ?_
                refine g_goto (tgt := 62) B dX2_finds_143 (by decide) ?_
                refine g_fg 6 rfl ?_
                refine g_pk [2, 0, 0] rfl rfl ?_
                refine (show Go g κ 62 [some (.ref b), some (.ref p), some (.ref n0), some (.int (nI (if go = true then 1 else 0))), some (.int (nI (ctK K))), some (.int (nI (k + 1))), none] [] [w0, w1, l62_2] (30 - cap1) (60 - 2 * cap1) from ?_)
                exact ih62 _ (by omega) (k + 1) K1 cap1 l62_2 hl62_2 (by omega) (hsub) (hsd1) (by omega) (hz140) rfl
              · skip
                obtain ⟨v98, ev98⟩ := Option.ne_none_iff_exists'.mp c98
                have hone : r82.2.1 ≠ none := by rw [ev98]; simp
                refine g_aload_n (q := 102) B dX2_finds_101 rfl rfl (rv_r _) ?_
                refine g_aload (q := 104) B dX2_finds_102 rfl rfl (rv_r _) ?_
                refine g_getNM (q := 107) B (ci := 3) (k := 2) (j := 1) in_X6 rfl dX2_finds_104 rfl rfl (hc_9_0) (Nat.le_of_ble_eq_true rfl) q1628 rfl rfl ?_
                rw [(show oI r82.2.1 = nI v98 from (by rw [ev98]; rfl))]
                refine (show Go g κ 107 [some (.ref b), some (.ref p), some (.ref n0), some (.int (nI (if go = true then 1 else 0))), some (.int (nI (ctK K))), some (.int (nI k)), some (.ref x82)] [.int (nI v98), .ref n0] [w1, l62_2, w0] (30 - cap1) (60 - 2 * cap1) from ?_)
                refine g_callV (q := 110) (is := [1]) (kc2 := 30 - cap1) (ks2 := 60 - 2 * cap1) B [.int (nI v98)] (ct_J5_get g J (b := n0) (S := K1) (cap := cap1) (i := v98) hl62_2 (by have := hb82.1 v98 ev98; omega)) dX2_finds_107 rfl (rc_in B (ci := 26) rfl (k := 1) rfl (SetP.hm hl62_2)) rfl q1109 q1110 q1111 q84 q1112 rfl rfl moJ5_get rfl rfl (by decide) (by decide) (Nat.le_of_ble_eq_true rfl) (by omega) (by omega) (fun _ _ hx => noX_x hx) (fun v107 L1 hp107 => ?_)
                obtain ⟨rfl, rfl⟩ := hp107
                refine (show Go g κ 110 [some (.ref b), some (.ref p), some (.ref n0), some (.int (nI (if go = true then 1 else 0))), some (.int (nI (ctK K))), some (.int (nI k)), some (.ref x82)] [.int (nI (if K1 v98 = true then 1 else 0))] [w1, w0, l62_2] (30 - cap1) (60 - 2 * cap1) from ?_)
                refine g_if_eq (tgt := 140) (q := 113) B dX2_finds_110 rfl (by decide) (bo_eq) (fun c110 => ?_) (fun c110 => ?_)
                · skip
                  have hz140 := scn_n (s := r82) hr82 (fun hp => by obtain ⟨o, e, ho, hq⟩ := hp; rw [ev98] at e; cases e; exact c110 ho) hsub hcl
                  refine g_iinc (v := nI (k + 1)) (q := 143) (lv2 := [some (.ref b), some (.ref p), some (.ref n0), some (.int (nI (if go = true then 1 else 0))), some (.int (nI (ctK K))), some (.int (nI (k + 1))), some (.ref x82)]) B dX2_finds_140 rfl rfl (nI_add _ 1) (Nat.le_of_ble_eq_true rfl) rfl ?_
                  refine g_goto (tgt := 62) B dX2_finds_143 (by decide) ?_
                  refine g_fg 6 rfl ?_
                  refine g_pk [1, 0, 0] rfl rfl ?_
                  refine (show Go g κ 62 [some (.ref b), some (.ref p), some (.ref n0), some (.int (nI (if go = true then 1 else 0))), some (.int (nI (ctK K))), some (.int (nI (k + 1))), none] [] [w0, w1, l62_2] (30 - cap1) (60 - 2 * cap1) from ?_)
                  exact ih62 _ (by omega) (k + 1) K1 cap1 l62_2 hl62_2 (by omega) (hsub) (hsd1) (by omega) (hz140) rfl
                · skip
                  have c110 := Classical.not_not.mp c110
                  refine g_aload (q := 115) B dX2_finds_113 rfl rfl (rv_r _) ?_
                  refine g_getNM (q := 118) B (ci := 3) (k := 1) (j := 2) in_X6 rfl dX2_finds_115 rfl rfl (hc_9_0) (Nat.le_of_ble_eq_true rfl) q1630 rfl rfl ?_
                  refine g_iconst (v := -1) (q := 119) B dX2_finds_118 rfl (by decide) ?_
                  refine g_icmp_eq (tgt := 134) (q := 122) B dX2_finds_119 rfl (by decide) (oI_n ((fun n h => by have := hb82.2 hone n h; omega))) (fun c119 => ?_) (fun c119 => ?_)
                  · skip
                    have hpr : prm K1 r82 := ⟨v98, ev98, c110, fun q e => by rw [c119] at e; cases e⟩
                    have hcn := capN_b (m := k / 64 + 1) hcap1 (by omega)
                    have hz140 := scn_y (vs := vs) (bx := bx) hr82 hpr hsub hsd1 hcl
                    refine g_aload_n (q := 135) B dX2_finds_134 rfl rfl (rv_r _) ?_
                    refine g_iload (q := 137) B dX2_finds_135 rfl rfl ?_
                    refine g_callV (q := 140) (is := [2]) (kc2 := (30 - cap1) - (capN cap1 (k / 64 + 1) - cap1)) (ks2 := (60 - 2 * cap1) - (2 * (capN cap1 (k / 64 + 1) - cap1))) B [.int (nI k)] (ct_J5_set g J (b := n0) (S := K1) (cap := cap1) (i := k) (mc := (capN cap1 (k / 64 + 1) - cap1)) (ms := (2 * (capN cap1 (k / 64 + 1) - cap1))) hl62_2 (by omega) (by omega) ((capN_b hcap1 (by omega)).2.2)) dX2_finds_137 rfl (rc_in B (ci := 26) rfl (k := 2) rfl (SetP.hm hl62_2)) rfl q1055 q1056 q1057 q84 q1058 rfl rfl moJ5_set rfl rfl (by decide) (by decide) (Nat.le_of_ble_eq_true rfl) (by omega) (by omega) (fun _ _ hx => noX_x hx) (fun v137 L1 hp137 => ?_)
                    obtain ⟨u0_137, rfl, rfl, hu0_137⟩ := hp137
                    refine (show Go g κ 140 [some (.ref b), some (.ref p), some (.ref n0), some (.int (nI (if go = true then 1 else 0))), some (.int (nI (ctK K))), some (.int (nI k)), some (.ref x82)] [] [w1, w0, u0_137] ((30 - cap1) - (capN cap1 (k / 64 + 1) - cap1)) ((60 - 2 * cap1) - (2 * (capN cap1 (k / 64 + 1) - cap1))) from ?_)
                    refine g_iinc (v := nI (k + 1)) (q := 143) (lv2 := [some (.ref b), some (.ref p), some (.ref n0), some (.int (nI (if go = true then 1 else 0))), some (.int (nI (ctK K))), some (.int (nI (k + 1))), some (.ref x82)]) B dX2_finds_140 rfl rfl (nI_add _ 1) (Nat.le_of_ble_eq_true rfl) rfl ?_
                    refine g_goto (tgt := 62) B dX2_finds_143 (by decide) ?_
                    refine g_fg 6 rfl ?_
                    refine g_pk [1, 0, 0] rfl rfl ?_
                    refine (show Go g κ 62 [some (.ref b), some (.ref p), some (.ref n0), some (.int (nI (if go = true then 1 else 0))), some (.int (nI (ctK K))), some (.int (nI (k + 1))), none] [] [w0, w1, u0_137] ((30 - cap1) - (capN cap1 (k / 64 + 1) - cap1)) ((60 - 2 * cap1) - (2 * (capN cap1 (k / 64 + 1) - cap1))) from ?_)
                    refine g_room (kc2 := 30 - (capN cap1 (k / 64 + 1))) (ks2 := 60 - 2 * (capN cap1 (k / 64 + 1))) (by omega) (by omega) ?_
                    exact ih62 _ (by omega) (k + 1) (sIns K1 k) (capN cap1 (k / 64 + 1)) u0_137 hu0_137 (by omega) (hz140.1) (hz140.2.1) (by omega) (hz140.2.2) rfl
                  · skip
                    obtain ⟨v119, ev119⟩ := Option.ne_none_iff_exists'.mp c119
                    refine g_aload_n (q := 123) B dX2_finds_122 rfl rfl (rv_r _) ?_
                    refine g_aload (q := 125) B dX2_finds_123 rfl rfl (rv_r _) ?_
                    refine g_getNM (q := 128) B (ci := 3) (k := 1) (j := 2) in_X6 rfl dX2_finds_125 rfl rfl (hc_9_0) (Nat.le_of_ble_eq_true rfl) q1630 rfl rfl ?_
                    rw [(show oI r82.2.2.1 = nI v119 from (by rw [ev119]; rfl))]
                    refine (show Go g κ 128 [some (.ref b), some (.ref p), some (.ref n0), some (.int (nI (if go = true then 1 else 0))), some (.int (nI (ctK K))), some (.int (nI k)), some (.ref x82)] [.int (nI v119), .ref n0] [w1, w0, l62_2] (30 - cap1) (60 - 2 * cap1) from ?_)
                    refine g_callV (q := 131) (is := [2]) (kc2 := 30 - cap1) (ks2 := 60 - 2 * cap1) B [.int (nI v119)] (ct_J5_get g J (b := n0) (S := K1) (cap := cap1) (i := v119) hl62_2 (by have := hb82.2 hone v119 ev119; omega)) dX2_finds_128 rfl (rc_in B (ci := 26) rfl (k := 2) rfl (SetP.hm hl62_2)) rfl q1109 q1110 q1111 q84 q1112 rfl rfl moJ5_get rfl rfl (by decide) (by decide) (Nat.le_of_ble_eq_true rfl) (by omega) (by omega) (fun _ _ hx => noX_x hx) (fun v128 L1 hp128 => ?_)
                    obtain ⟨rfl, rfl⟩ := hp128
                    refine (show Go g κ 131 [some (.ref b), some (.ref p), some (.ref n0), some (.int (nI (if go = true then 1 else 0))), some (.int (nI (ctK K))), some (.int (nI k)), some (.ref x82)] [.int (nI (if K1 v119 = true then 1 else 0))] [w1, w0, l62_2] (30 - cap1) (60 - 2 * cap1) from ?_)
                    refine g_if_eq (tgt := 140) (q := 134) B dX2_finds_131 rfl (by decide) (bo_eq) (fun c131 => ?_) (fun c131 => ?_)
                    · skip
                      have hz140 := scn_n (s := r82) hr82 (fun hp => by obtain ⟨o, e, ho, hq⟩ := hp; exact c131 (hq v119 ev119)) hsub hcl
                      refine g_iinc (v := nI (k + 1)) (q := 143) (lv2 := [some (.ref b), some (.ref p), some (.ref n0), some (.int (nI (if go = true then 1 else 0))), some (.int (nI (ctK K))), some (.int (nI (k + 1))), some (.ref x82)]) B dX2_finds_140 rfl rfl (nI_add _ 1) (Nat.le_of_ble_eq_true rfl) rfl ?_
                      refine g_goto (tgt := 62) B dX2_finds_143 (by decide) ?_
                      refine g_fg 6 rfl ?_
                      refine g_pk [1, 0, 0] rfl rfl ?_
                      refine (show Go g κ 62 [some (.ref b), some (.ref p), some (.ref n0), some (.int (nI (if go = true then 1 else 0))), some (.int (nI (ctK K))), some (.int (nI (k + 1))), none] [] [w0, w1, l62_2] (30 - cap1) (60 - 2 * cap1) from ?_)
                      exact ih62 _ (by omega) (k + 1) K1 cap1 l62_2 hl62_2 (by omega) (hsub) (hsd1) (by omega) (hz140) rfl
                    · skip
                      have c131 := Classical.not_not.mp c131
                      have hpr : prm K1 r82 := ⟨v98, ev98, c110, fun q e => by rw [ev119] at e; cases e; exact c131⟩
                      have hcn := capN_b (m := k / 64 + 1) hcap1 (by omega)
                      have hz140 := scn_y (vs := vs) (bx := bx) hr82 hpr hsub hsd1 hcl
                      refine g_aload_n (q := 135) B dX2_finds_134 rfl rfl (rv_r _) ?_
                      refine g_iload (q := 137) B dX2_finds_135 rfl rfl ?_
                      refine g_callV (q := 140) (is := [2]) (kc2 := (30 - cap1) - (capN cap1 (k / 64 + 1) - cap1)) (ks2 := (60 - 2 * cap1) - (2 * (capN cap1 (k / 64 + 1) - cap1))) B [.int (nI k)] (ct_J5_set g J (b := n0) (S := K1) (cap := cap1) (i := k) (mc := (capN cap1 (k / 64 + 1) - cap1)) (ms := (2 * (capN cap1 (k / 64 + 1) - cap1))) hl62_2 (by omega) (by omega) ((capN_b hcap1 (by omega)).2.2)) dX2_finds_137 rfl (rc_in B (ci := 26) rfl (k := 2) rfl (SetP.hm hl62_2)) rfl q1055 q1056 q1057 q84 q1058 rfl rfl moJ5_set rfl rfl (by decide) (by decide) (Nat.le_of_ble_eq_true rfl) (by omega) (by omega) (fun _ _ hx => noX_x hx) (fun v137 L1 hp137 => ?_)
                      obtain ⟨u0_137, rfl, rfl, hu0_137⟩ := hp137
                      refine (show Go g κ 140 [some (.ref b), some (.ref p), some (.ref n0), some (.int (nI (if go = true then 1 else 0))), some (.int (nI (ctK K))), some (.int (nI k)), some (.ref x82)] [] [w1, w0, u0_137] ((30 - cap1) - (capN cap1 (k / 64 + 1) - cap1)) ((60 - 2 * cap1) - (2 * (capN cap1 (k / 64 + 1) - cap1))) from ?_)
                      refine g_iinc (v := nI (k + 1)) (q := 143) (lv2 := [some (.ref b), some (.ref p), some (.ref n0), some (.int (nI (if go = true then 1 else 0))), some (.int (nI (ctK K))), some (.int (nI (k + 1))), some (.ref x82)]) B dX2_finds_140 rfl rfl (nI_add _ 1) (Nat.le_of_ble_eq_true rfl) rfl ?_
                      refine g_goto (tgt := 62) B dX2_finds_143 (by decide) ?_
                      refine g_fg 6 rfl ?_
                      refine g_pk [1, 0, 0] rfl rfl ?_
                      refine (show Go g κ 62 [some (.ref b), some (.ref p), some (.ref n0), some (.int (nI (if go = true then 1 else 0))), some (.int (nI (ctK K))), some (.int (nI (k + 1))), none] [] [w0, w1, u0_137] ((30 - cap1) - (capN cap1 (k / 64 + 1) - cap1)) ((60 - 2 * cap1) - (2 * (capN cap1 (k / 64 + 1) - cap1))) from ?_)
                      refine g_room (kc2 := 30 - (capN cap1 (k / 64 + 1))) (ks2 := 60 - 2 * (capN cap1 (k / 64 + 1))) (by omega) (by omega) ?_
                      exact ih62 _ (by omega) (k + 1) (sIns K1 k) (capN cap1 (k / 64 + 1)) u0_137 hu0_137 (by omega) (hz140.1) (hz140.2.1) (by omega) (hz140.2.2) rfl
          refine g_room (kc2 := 30 - cap) (ks2 := 60 - 2 * cap) (by omega) (by omega) ?_
          exact lp62 _ 0 K cap l49_1 hl49_1 (Nat.zero_le _) (fun _ h => h) (hsd) (hcap) (fun i r h => absurd h (Nat.not_lt_zero i)) rfl
      refine g_pk [0, 0, 1] rfl rfl ?_
      refine (show Go g κ 49 [some (.ref b), some (.ref p), some (.ref n0), some (.int (nI 1)), none, none, none] [] [w0, l15_1, w1] (30 - cap1) (60 - 2 * cap1) from ?_)
      refine g_room (kc2 := 30 - cap1) (ks2 := 60 - 2 * cap1) (by omega) (by omega) ?_
      exact lp49 _ true K1 cap1 l15_1 hl15_1 (by rw [show k = vs.length by omega, List.take_length] at hin; exact hin) (hsd) (hcap1) (fun h => by cases h) rfl
    · skip
      have c21 := Classical.not_not.mp c21
      refine g_aload_n (q := 25) B dX2_finds_24 rfl rfl (rv_r _) ?_
      obtain ⟨r25, hr25⟩ := get_ex (xs := vs) (i := k) (by omega)
      obtain ⟨x25, hx25⟩ := get_ex (xs := ps_1) (i := k) (by have := get_lt2 hr25; have := hln_1.1; omega)
      have hb_10 := Sub.box (hel_1 _ _ _ hx25 hr25)
      refine g_callF (q := 30) (is := [2, 2]) (kc2 := 30 - cap1) (ks2 := 60 - 2 * cap1) B [] (ct_J19_next_s g J (p := p) (xs := ps_1) (md := md_1) (cap := capv) (it := it9) (c := k) (lr := lr) (x := x25) (W1 := w1)  (hli_1) (hx25)) dX2_finds_25 rfl (ci := 22) rfl (rc_at B (ci := 22) rfl (k := 2) rfl) q964 q967 q969 q104 q971 q966 q965 q970 q968 q939 rfl rfl mojava_util_Iterator_next___Ljava_lang_Object_ rfl rfl (by decide) (by decide) (Nat.le_of_ble_eq_true rfl) (by omega) (by omega) (fun _ _ hx => noX_x hx) (fun v25 L1 hp25 => ?_)
      obtain ⟨rfl, rfl⟩ := hp25
      refine (show Go g κ 30 [some (.ref b), some (.ref p), some (.ref n0), some (.ref it9), none, none, none] [.ref x25] [w0, l15_1, [(it9, .inr (22, [.int (nI (k + 1)), .int (nI k), .int md_1, .ref p]))], w1] (30 - cap1) (60 - 2 * cap1) from ?_)
      refine g_castRS (ci := 35) (q := 33) B rfl (rc_bxat B J (k := 3) rfl hb_10) dX2_finds_30 rfl q1050 ?_
      refine g_callV (q := 36) (is := [3]) (kc2 := 30 - cap1) (ks2 := 60 - 2 * cap1) B [] (ct_J26_intValue_b g J (a := x25) (v := nI r25) (wb := w1)  (hb_10)) dX2_finds_33 rfl (rc_bxat B J (k := 3) rfl hb_10) rfl q1051 q1052 q1053 q111 q1054 rfl rfl moJ26_intValue rfl rfl (by decide) (by decide) (Nat.le_of_ble_eq_true rfl) (by omega) (by omega) (fun _ _ hx => noX_x hx) (fun v33 L1 hp33 => ?_)
      obtain ⟨rfl, rfl⟩ := hp33
      refine (show Go g κ 36 [some (.ref b), some (.ref p), some (.ref n0), some (.ref it9), none, none, none] [.int (nI r25)] [w0, l15_1, [(it9, .inr (22, [.int (nI (k + 1)), .int (nI k), .int md_1, .ref p]))], w1] (30 - cap1) (60 - 2 * cap1) from ?_)
      refine g_istore (q := 38) (lv2 := [some (.ref b), some (.ref p), some (.ref n0), some (.ref it9), some (.int (nI r25)), none, none]) B dX2_finds_36 rfl (Nat.le_of_ble_eq_true rfl) rfl ?_
      refine g_aload_n (q := 39) B dX2_finds_38 rfl rfl (rv_r _) ?_
      refine g_iload (q := 41) B dX2_finds_39 rfl rfl ?_
      have hv25 := hvs _ (List.mem_of_getElem? hr25)
      have hcn := capN_b (m := r25 / 64 + 1) hcap1 (by omega)
      refine g_callV (q := 44) (is := [1]) (kc2 := (30 - cap1) - (capN cap1 (r25 / 64 + 1) - cap1)) (ks2 := (60 - 2 * cap1) - (2 * (capN cap1 (r25 / 64 + 1) - cap1))) B [.int (nI r25)] (ct_J5_set g J (b := n0) (S := K1) (cap := cap1) (i := r25) (mc := (capN cap1 (r25 / 64 + 1) - cap1)) (ms := (2 * (capN cap1 (r25 / 64 + 1) - cap1))) hl15_1 (by omega) (by omega) ((capN_b hcap1 (by omega)).2.2)) dX2_finds_41 rfl (rc_in B (ci := 26) rfl (k := 1) rfl (SetP.hm hl15_1)) rfl q1055 q1056 q1057 q84 q1058 rfl rfl moJ5_set rfl rfl (by decide) (by decide) (Nat.le_of_ble_eq_true rfl) (by omega) (by omega) (fun _ _ hx => noX_x hx) (fun v41 L1 hp41 => ?_)
      obtain ⟨u0_41, rfl, rfl, hu0_41⟩ := hp41
      refine (show Go g κ 44 [some (.ref b), some (.ref p), some (.ref n0), some (.ref it9), some (.int (nI r25)), none, none] [] [w0, [(it9, .inr (22, [.int (nI (k + 1)), .int (nI k), .int md_1, .ref p]))], w1, u0_41] ((30 - cap1) - (capN cap1 (r25 / 64 + 1) - cap1)) ((60 - 2 * cap1) - (2 * (capN cap1 (r25 / 64 + 1) - cap1))) from ?_)
      refine g_goto (tgt := 15) B dX2_finds_44 (by decide) ?_
      refine g_fg 4 rfl ?_
      refine g_pk [0, 2, 0, 0] rfl rfl ?_
      refine (show Go g κ 15 [some (.ref b), some (.ref p), some (.ref n0), some (.ref it9), none, none, none] [] [w0, u0_41, [(it9, .inr (22, [.int (nI (k + 1)), .int (nI k), .int md_1, .ref p]))], w1] ((30 - cap1) - (capN cap1 (r25 / 64 + 1) - cap1)) ((60 - 2 * cap1) - (2 * (capN cap1 (r25 / 64 + 1) - cap1))) from ?_)
      refine g_room (kc2 := 30 - (capN cap1 (r25 / 64 + 1))) (ks2 := 60 - 2 * (capN cap1 (r25 / 64 + 1))) (by omega) (by omega) ?_
      exact ih15 _ (by have := get_lt2 hr25; omega) (k + 1) (nI k) (sIns K1 r25) (capN cap1 (r25 / 64 + 1)) u0_41 hu0_41 (by first | assumption | omega | rfl) (fun v h => by rw [List.take_add_one, hr25] at h; rcases List.mem_append.mp h with h | h; exact sIns_m (hin v h); simp at h; rw [h]; exact sIns_1 _ _) (fun x h => by rcases sIns_o h with rfl | h; exact ⟨ClK.of _ (List.mem_of_getElem? hr25), hvs _ (List.mem_of_getElem? hr25)⟩; exact hsd x h) (by omega) rfl
  refine g_room (kc2 := 30 - 1) (ks2 := 60 - 2 * 1) (by omega) (by omega) ?_
  exact lp15 _ 0 (-1) (fun _ => false) 1 u0_4 hu0_4 (Nat.zero_le _) (fun v h => absurd h (by simp)) (fun x h => by cases h) (by decide) rfl
