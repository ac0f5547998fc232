set_option maxRecDepth 100000
theorem fup_sI (K : Nat → Bool) (i : Nat) : fup K i true = sIns K i := by
  funext x
  rw [Bool.eq_iff_iff, sIns_iff]
  unfold fup
  split
  · rename_i e; exact ⟨fun _ => Or.inr e, fun _ => rfl⟩
  · rename_i e; exact ⟨Or.inl, fun h => h.elim id fun z => absurd z e⟩
theorem bo_or1 {P : Prop} [Decidable P] : nI (if P then 1 else 0) ||| nI 1 = nI 1 := by split <;> decide
theorem bo_or0 (x : Int32) : x ||| nI 0 = x := Int32.or_zero
theorem bo_orb {x : Int32} {P : Prop} [Decidable P] (h : ¬ P) : x ||| nI (if P then 1 else 0) = x := by rw [if_neg h]; exact bo_or0 x
theorem bo_ort {P Q : Prop} [Decidable P] [Decidable Q] (h : Q) : nI (if P then 1 else 0) ||| nI (if Q then 1 else 0) = nI 1 := by rw [if_pos h]; exact bo_or1
theorem ct_lt {K L : Nat → Bool} {n x : Nat} (h : ∀ i, K i = true → L i = true) (hx : x < n) (hl : L x = true) (hk : ¬ K x = true) : fb_ct K n < fb_ct L n := by
  rcases Nat.lt_or_ge (fb_ct K n) (fb_ct L n) with z | z
  · exact z
  · exact absurd (ct_eq h n z x hx hl) hk
theorem moJ2_iterator : Mo yJ2_iterator 0 := by
  refine ⟨by decide, by decide, by decide +kernel⟩
theorem ct_X3_all (g : Gv) (J : Jd g) {m : Nat} {ls : Nat} {lb : Nat} {lk : Nat} {lp : Nat} {lr : Nat} {le : Nat} {lm : Nat} {lo : Nat} {th : Nat} {z : Int32} {bo : Nat} {cm : Nat} {ss : List Sec} {bx : List (Nat × Nat)} {p : Nat} {vs : List Nat} {capv : Nat} {w1 : va_W} {w2 : va_W} {w3 : va_W} (hw1 : LhP g (SecP g) ls ss (capF ss.length) w1) (hw2 : LhP g (BbP g) lb bx (capF bx.length) w2) (hw3 : LhP g (BxE g) p vs capv w3) (hS : SsOk ss) (hbx : BxOk ss.length bx) (hl : ss.length ≤ 1000) (hvs : ∀ v ∈ vs, v < ss.length) : Ct g yX3_all (ws_ yX3_all cX3_all 7 (some (.array .boolean))) 8 (3 + ss.length) (8 + 5 * ss.length) [.ref m, .ref p] [[(m, .inr (12, [.ref ls, .ref lb, .ref lk, .ref lp, .ref lr, .ref le, .ref lm, .ref lo, .int (nI th), .int z, .int (nI bo), .int (nI cm)]))], w1, w2, w3] (fun (rv_ : Option Value) (rL_ : List va_W) => ∃ (a : Nat) (fa : Nat → Int32) (K : Nat → Bool), rv_ = some (.ref a) ∧ rL_ = [[(m, .inr (12, [.ref ls, .ref lb, .ref lk, .ref lp, .ref lr, .ref le, .ref lm, .ref lo, .int (nI th), .int z, .int (nI bo), .int (nI cm)]))], w1, w2, w3, [(a, .inl (g.2.1 4, ss.length, .inl fa))]] ∧ (∀ i, i < ss.length → fa i = bI (K i)) ∧ (∀ x, K x = true ↔ ClK ss bx vs x) ∧ (∀ x, K x = true → x < ss.length)) noX := by
  refine Ct.of "KeygroveModel" [some (.ref m), some (.ref p), none, none, none, none, none] rfl (by decide) rfl (Nat.le_of_ble_eq_true rfl) rfl ?_
  intro κ B E tb
  refine g_aload_n (q := 1) B dX3_all_0 rfl rfl (rv_r _) ?_
  refine g_get (q := 4) B (ci := 12) (k := 0) (j := 0) in_X3 rfl dX3_all_1 rfl rfl (Nat.le_of_ble_eq_true rfl) q3057 rfl rfl ?_
  obtain ⟨ps_1, md_1, hli_1, hln_1, hel_1⟩ := LhP.at (Sub.self hw1)
  refine g_callV (q := 7) (is := [1]) (kc2 := 3 + ss.length) (ks2 := 8 + 5 * ss.length) B [] (ct_J2_size_s g J (p := ls) (xs := ps_1) (md := md_1) (cap := (capF ss.length)) (W0 := w1)  (hli_1)) dX3_all_4 rfl (rc_in B (ci := 21) rfl (k := 1) rfl (LhP.hm hw1)) rfl q3102 q321 q3665 q81 q323 rfl rfl moJ2_size rfl rfl (by decide) (by decide) (Nat.le_of_ble_eq_true rfl) (by omega) (by omega) (fun _ _ hx => noX_x hx) (fun v4 L1 hp4 => ?_)
  obtain ⟨rfl, rfl⟩ := hp4
  refine (show Go g κ 7 [some (.ref m), some (.ref p), none, none, none, none, none] [.int (nI ps_1.length)] [[(m, .inr (12, [.ref ls, .ref lb, .ref lk, .ref lp, .ref lr, .ref le, .ref lm, .ref lo, .int (nI th), .int z, .int (nI bo), .int (nI cm)]))], w2, w3, w1] (3 + ss.length) (8 + 5 * ss.length) from ?_)
  rw [hln_1.1]
  refine (show Go g κ 7 [some (.ref m), some (.ref p), none, none, none, none, none] [.int (nI ss.length)] [[(m, .inr (12, [.ref ls, .ref lb, .ref lk, .ref lp, .ref lr, .ref le, .ref lm, .ref lo, .int (nI th), .int z, .int (nI bo), .int (nI cm)]))], w2, w3, w1] (3 + ss.length) (8 + 5 * ss.length) from ?_)
  refine g_newa (atype := .boolean) (q := 9) (kc2 := (3 + ss.length) - 1) (ks2 := (8 + 5 * ss.length) - ss.length) (t := 4) (a0 := (ss.length, .inl (fun _ => 0))) B q3297 rfl rfl dX3_all_7 rfl na_boolean (nI_pos (by omega)) (nI_clamp (by omega)) (show ss.length * 1 ≤ 536870912 by omega) (by omega) (by omega) (fun n7 => ?_)
  refine (show Go g κ 9 [some (.ref m), some (.ref p), none, none, none, none, none] [.ref n7] [[(m, .inr (12, [.ref ls, .ref lb, .ref lk, .ref lp, .ref lr, .ref le, .ref lm, .ref lo, .int (nI th), .int z, .int (nI bo), .int (nI cm)]))], w2, w3, w1, [(n7, .inl (g.2.1 4, ss.length, .inl (fun _ => 0)))]] ((3 + ss.length) - 1) ((8 + 5 * ss.length) - ss.length) from ?_)
  refine g_astore_n (q := 10) (lv2 := [some (.ref m), some (.ref p), some (.ref n7), none, none, none, none]) B dX3_all_9 rfl (Nat.le_of_ble_eq_true rfl) (rv_r _) rfl ?_
  refine g_aload_n (q := 11) B dX3_all_10 rfl rfl (rv_r _) ?_
  obtain ⟨ps_2, md_2, hli_2, hln_2, hel_2⟩ := LhP.at (Sub.self hw3)
  refine g_callV (q := 14) (is := [2]) (kc2 := (3 + ss.length) - 2) (ks2 := ((8 + 5 * ss.length) - ss.length) - 4) B [] (ct_J2_iterator_s g J (p := p) (xs := ps_2) (md := md_2) (cap := capv) (W0 := w3)  (hli_2)) dX3_all_11 rfl (rc_in B (ci := 21) rfl (k := 2) rfl (LhP.hm hw3)) rfl q3232 q805 q3668 q81 q807 rfl rfl moJ2_iterator rfl rfl (by decide) (by decide) (Nat.le_of_ble_eq_true rfl) (by omega) (by omega) (fun _ _ hx => noX_x hx) (fun v11 L1 hp11 => ?_)
  obtain ⟨it11, rfl, rfl⟩ := hp11
  refine (show Go g κ 14 [some (.ref m), some (.ref p), some (.ref n7), none, none, none, none] [.ref it11] [[(m, .inr (12, [.ref ls, .ref lb, .ref lk, .ref lp, .ref lr, .ref le, .ref lm, .ref lo, .int (nI th), .int z, .int (nI bo), .int (nI cm)]))], w2, w1, [(n7, .inl (g.2.1 4, ss.length, .inl (fun _ => 0)))], [(it11, .inr (22, [.int (nI 0), .int (-1), .int md_2, .ref p]))], w3] ((3 + ss.length) - 2) (((8 + 5 * ss.length) - ss.length) - 4) from ?_)
  refine g_astore_n (q := 15) (lv2 := [some (.ref m), some (.ref p), some (.ref n7), some (.ref it11), none, none, none]) B dX3_all_14 rfl (Nat.le_of_ble_eq_true rfl) (rv_r _) rfl ?_
  have lp15 : ∀ (n15 : Nat) (k : Nat) (lrt : Int32) (f1 : Nat → Int32) (K1 : Nat → Bool) , (k ≤ vs.length) → (∀ i, i < ss.length → f1 i = bI (K1 i)) → (∀ v ∈ vs.take k, K1 v = true) → (∀ x, K1 x = true → ClK ss bx vs x ∧ x < ss.length) → vs.length - k = n15 → Go g κ 15 [some (.ref m), some (.ref p), some (.ref n7), some (.ref it11), none, none, none] [] [[(m, .inr (12, [.ref ls, .ref lb, .ref lk, .ref lp, .ref lr, .ref le, .ref lm, .ref lo, .int (nI th), .int z, .int (nI bo), .int (nI cm)]))], w2, w1, [(n7, .inl (g.2.1 4, ss.length, .inl f1))], [(it11, .inr (22, [.int (nI k), .int lrt, .int md_2, .ref p]))], w3] ((3 + ss.length) - 2) (((8 + 5 * ss.length) - ss.length) - 4) := by
    intro n15
    induction n15 using Nat.strongRecOn with
    | _ n15 ih15 =>
    intro k lrt f1 K1  hk hf1 hin hsd hmu15
    refine g_aload_n (q := 16) B dX3_all_15 rfl rfl (rv_r _) ?_
    refine g_callF (q := 21) (is := [4, 4]) (kc2 := (3 + ss.length) - 2) (ks2 := ((8 + 5 * ss.length) - ss.length) - 4) B [] (ct_J19_hasNext_s g J (p := p) (xs := ps_2) (md := md_2) (cap := capv) (it := it11) (c := k) (lr := lrt) (W1 := w3)  (hli_2) (by have := hln_2.1; omega)) dX3_all_16 rfl (ci := 22) rfl (rc_at B (ci := 22) rfl (k := 4) rfl) q3234 q940 q942 q104 q944 q938 q937 q943 q941 q939 rfl rfl mojava_util_Iterator_hasNext___Z rfl rfl (by decide) (by decide) (Nat.le_of_ble_eq_true rfl) (by omega) (by omega) (fun _ _ hx => noX_x hx) (fun v16 L1 hp16 => ?_)
    obtain ⟨rfl, rfl⟩ := hp16
    refine (show Go g κ 21 [some (.ref m), some (.ref p), some (.ref n7), some (.ref it11), none, none, none] [.int (nI (if ¬ k = ps_2.length then 1 else 0))] [[(m, .inr (12, [.ref ls, .ref lb, .ref lk, .ref lp, .ref lr, .ref le, .ref lm, .ref lo, .int (nI th), .int z, .int (nI bo), .int (nI cm)]))], w2, w1, [(n7, .inl (g.2.1 4, ss.length, .inl f1))], [(it11, .inr (22, [.int (nI k), .int lrt, .int md_2, .ref p]))], w3] ((3 + ss.length) - 2) (((8 + 5 * ss.length) - ss.length) - 4) from ?_)
    rw [hln_2.1]
    refine (show Go g κ 21 [some (.ref m), some (.ref p), some (.ref n7), some (.ref it11), none, none, none] [.int (nI (if ¬ k = vs.length then 1 else 0))] [[(m, .inr (12, [.ref ls, .ref lb, .ref lk, .ref lp, .ref lr, .ref le, .ref lm, .ref lo, .int (nI th), .int z, .int (nI bo), .int (nI cm)]))], w2, w1, [(n7, .inl (g.2.1 4, ss.length, .inl f1))], [(it11, .inr (22, [.int (nI k), .int lrt, .int md_2, .ref p]))], w3] ((3 + ss.length) - 2) (((8 + 5 * ss.length) - ss.length) - 4) from ?_)
    refine g_if_eq (tgt := 46) (q := 24) B dX3_all_21 rfl (by decide) (bo_eq) (fun c21 => ?_) (fun c21 => ?_)
    · skip
      refine g_iconst (v := nI 1) (q := 47) B dX3_all_46 rfl (by decide) ?_
      refine g_istore_n (q := 48) (lv2 := [some (.ref m), some (.ref p), some (.ref n7), some (.int (nI 1)), none, none, none]) B dX3_all_47 rfl (Nat.le_of_ble_eq_true rfl) rfl ?_
      have lp48 : ∀ (n48 : Nat) (go : Bool) (f : Nat → Int32) (K : Nat → Bool) , (∀ i, i < ss.length → f i = bI (K i)) → (∀ v ∈ vs, K v = true) → (∀ x, K x = true → ClK ss bx vs x ∧ x < ss.length) → (go = false → ClsK ss bx K) → 2 * (ss.length - fb_ct K ss.length) + (if go = true then 1 else 0) = n48 → Go g κ 48 [some (.ref m), some (.ref p), some (.ref n7), some (.int (nI (if go = true then 1 else 0))), none, none, none] [] [[(m, .inr (12, [.ref ls, .ref lb, .ref lk, .ref lp, .ref lr, .ref le, .ref lm, .ref lo, .int (nI th), .int z, .int (nI bo), .int (nI cm)]))], w2, w1, [(n7, .inl (g.2.1 4, ss.length, .inl f))], w3] (if go = true then ss.length + 1 - fb_ct K ss.length else 0) (4 * (if go = true then ss.length + 1 - fb_ct K ss.length else 0)) := by
        intro n48
        induction n48 using Nat.strongRecOn with
        | _ n48 ih48 =>
        intro go f K  hf hin hsd hgo hmu48
        refine g_iload_n (q := 49) B dX3_all_48 rfl rfl ?_
        refine g_if_eq (tgt := 240) (q := 52) B dX3_all_49 rfl (by decide) (bo_eq) (fun c49 => ?_) (fun c49 => ?_)
        · skip
          refine g_aload_n (q := 241) B dX3_all_240 rfl rfl (rv_r _) ?_
          refine g_pk [0, 1, 0, 1, 0] rfl rfl ?_
          refine (show Go g κ 241 [some (.ref m), some (.ref p), some (.ref n7), some (.int (nI (if go = true then 1 else 0))), none, none, none] [.ref n7] [[(m, .inr (12, [.ref ls, .ref lb, .ref lk, .ref lp, .ref lr, .ref le, .ref lm, .ref lo, .int (nI th), .int z, .int (nI bo), .int (nI cm)]))], w1, w2, w3, [(n7, .inl (g.2.1 4, ss.length, .inl f))]] (if go = true then ss.length + 1 - fb_ct K ss.length else 0) (4 * (if go = true then ss.length + 1 - fb_ct K ss.length else 0)) from ?_)
          exact g_aret B E dX3_all_241 (by first | exact Or.inl ⟨_, rfl⟩ | exact Or.inr ⟨_, rfl⟩) (rv_r _) (⟨n7, f, _, rfl, rfl, (hf), (fun x => ⟨fun h => (hsd x h).1, fun h => ClK.all (hgo (by simpa using c49)) hin h⟩), (fun x h => (hsd x h).2)⟩)
        · skip
          have hg1 : go = true := by simpa using c49
          have hctK := fb_ct_le K ss.length
          refine g_room (kc2 := ss.length + 1 - fb_ct K ss.length) (ks2 := 4 * (ss.length + 1 - fb_ct K ss.length)) (by rw [if_pos hg1]; exact Nat.le_refl _) (by rw [if_pos hg1]; exact Nat.le_refl _) ?_
          refine (show Go g κ 52 [some (.ref m), some (.ref p), some (.ref n7), some (.int (nI (if go = true then 1 else 0))), none, none, none] [] [[(m, .inr (12, [.ref ls, .ref lb, .ref lk, .ref lp, .ref lr, .ref le, .ref lm, .ref lo, .int (nI th), .int z, .int (nI bo), .int (nI cm)]))], w2, w1, [(n7, .inl (g.2.1 4, ss.length, .inl f))], w3] (ss.length + 1 - fb_ct K ss.length) (4 * (ss.length + 1 - fb_ct K ss.length)) from ?_)
          refine g_iconst (v := nI 0) (q := 53) B dX3_all_52 rfl (by decide) ?_
          refine g_istore_n (q := 54) (lv2 := [some (.ref m), some (.ref p), some (.ref n7), some (.int (nI 0)), none, none, none]) B dX3_all_53 rfl (Nat.le_of_ble_eq_true rfl) rfl ?_
          refine g_iconst (v := nI 0) (q := 55) B dX3_all_54 rfl (by decide) ?_
          refine g_istore (q := 57) (lv2 := [some (.ref m), some (.ref p), some (.ref n7), some (.int (nI 0)), some (.int (nI 0)), none, none]) B dX3_all_55 rfl (Nat.le_of_ble_eq_true rfl) rfl ?_
          have lp57 : ∀ (n57 : Nat) (k : Nat) (ch : Bool) (f1 : Nat → Int32) (K1 : Nat → Bool) , (k ≤ ss.length) → (∀ i, i < ss.length → f1 i = bI (K1 i)) → (∀ x, K x = true → K1 x = true) → (∀ x, K1 x = true → ClK ss bx vs x ∧ x < ss.length) → (∀ i r, i < k → ss[i]? = some r → prm K r → K1 i = true) → (ch = true → ∃ x, x < ss.length ∧ K1 x = true ∧ ¬ K x = true) → (ch = false → K1 = K) → ss.length - k = n57 → Go g κ 57 [some (.ref m), some (.ref p), some (.ref n7), some (.int (nI (if ch = true then 1 else 0))), some (.int (nI k)), none, none] [] [[(m, .inr (12, [.ref ls, .ref lb, .ref lk, .ref lp, .ref lr, .ref le, .ref lm, .ref lo, .int (nI th), .int z, .int (nI bo), .int (nI cm)]))], w2, w1, [(n7, .inl (g.2.1 4, ss.length, .inl f1))], w3] (ss.length + 1 - fb_ct K ss.length) (4 * (ss.length + 1 - fb_ct K ss.length)) := by
            intro n57
            induction n57 using Nat.strongRecOn with
            | _ n57 ih57 =>
            intro k ch f1 K1  hk hf1 hsub hsd1 hcl hct_ch hcf_ch hmu57
            refine g_iload (q := 59) B dX3_all_57 rfl rfl ?_
            refine g_aload_n (q := 60) B dX3_all_59 rfl rfl (rv_r _) ?_
            refine g_alen (v := nI ss.length) (q := 61) B (k := 3) (t := 4) dX3_all_60 rfl rfl rfl rfl ?_
            refine g_icmp_ge (tgt := 158) (q := 64) B dX3_all_61 rfl (by decide) (nI_leI (by omega) (by omega)) (fun c61 => ?_) (fun c61 => ?_)
            · skip
              refine g_aload_n (q := 159) B dX3_all_158 rfl rfl (rv_r _) ?_
              refine g_get (q := 162) B (ci := 12) (k := 0) (j := 1) in_X3 rfl dX3_all_159 rfl rfl (Nat.le_of_ble_eq_true rfl) q3058 rfl rfl ?_
              obtain ⟨ps_3, md_3, hli_3, hln_3, hel_3⟩ := LhP.at (Sub.self hw2)
              refine g_callV (q := 165) (is := [1]) (kc2 := (ss.length + 1 - fb_ct K ss.length) - 1) (ks2 := (4 * (ss.length + 1 - fb_ct K ss.length)) - 4) B [] (ct_J2_iterator_s g J (p := lb) (xs := ps_3) (md := md_3) (cap := (capF bx.length)) (W0 := w2)  (hli_3)) dX3_all_162 rfl (rc_in B (ci := 21) rfl (k := 1) rfl (LhP.hm hw2)) rfl q3232 q805 q3668 q81 q807 rfl rfl moJ2_iterator rfl rfl (by decide) (by decide) (Nat.le_of_ble_eq_true rfl) (by omega) (by omega) (fun _ _ hx => noX_x hx) (fun v162 L1 hp162 => ?_)
              obtain ⟨it162, rfl, rfl⟩ := hp162
              refine (show Go g κ 165 [some (.ref m), some (.ref p), some (.ref n7), some (.int (nI (if ch = true then 1 else 0))), some (.int (nI k)), none, none] [.ref it162] [[(m, .inr (12, [.ref ls, .ref lb, .ref lk, .ref lp, .ref lr, .ref le, .ref lm, .ref lo, .int (nI th), .int z, .int (nI bo), .int (nI cm)]))], w1, [(n7, .inl (g.2.1 4, ss.length, .inl f1))], w3, [(it162, .inr (22, [.int (nI 0), .int (-1), .int md_3, .ref lb]))], w2] ((ss.length + 1 - fb_ct K ss.length) - 1) ((4 * (ss.length + 1 - fb_ct K ss.length)) - 4) from ?_)
              refine g_astore (q := 167) (lv2 := [some (.ref m), some (.ref p), some (.ref n7), some (.int (nI (if ch = true then 1 else 0))), some (.ref it162), none, none]) B dX3_all_165 rfl (Nat.le_of_ble_eq_true rfl) (rv_r _) rfl ?_
              have lp167 : ∀ (n167 : Nat) (j : Nat) (lr2 : Int32) (ch2 : Bool) (f2 : Nat → Int32) (K2 : Nat → Bool) , (j ≤ bx.length) → (∀ i, i < ss.length → f2 i = bI (K2 i)) → (∀ x, K1 x = true → K2 x = true) → (∀ x, K2 x = true → ClK ss bx vs x ∧ x < ss.length) → (∀ i p, i < j → bx[i]? = some p → K p.1 = true → K2 p.2 = true) → (ch2 = true → ∃ x, x < ss.length ∧ K2 x = true ∧ ¬ K x = true) → (ch2 = false → K2 = K) → bx.length - j = n167 → Go g κ 167 [some (.ref m), some (.ref p), some (.ref n7), some (.int (nI (if ch2 = true then 1 else 0))), some (.ref it162), none, none] [] [[(m, .inr (12, [.ref ls, .ref lb, .ref lk, .ref lp, .ref lr, .ref le, .ref lm, .ref lo, .int (nI th), .int z, .int (nI bo), .int (nI cm)]))], w1, [(n7, .inl (g.2.1 4, ss.length, .inl f2))], w3, [(it162, .inr (22, [.int (nI j), .int lr2, .int md_3, .ref lb]))], w2] ((ss.length + 1 - fb_ct K ss.length) - 1) ((4 * (ss.length + 1 - fb_ct K ss.length)) - 4) := by
                intro n167
                induction n167 using Nat.strongRecOn with
                | _ n167 ih167 =>
                intro j lr2 ch2 f2 K2  hj hf2 hsub2 hsd2 hcb hct_ch2 hcf_ch2 hmu167
                refine g_aload (q := 169) B dX3_all_167 rfl rfl (rv_r _) ?_
                refine g_callF (q := 174) (is := [4, 4]) (kc2 := (ss.length + 1 - fb_ct K ss.length) - 1) (ks2 := (4 * (ss.length + 1 - fb_ct K ss.length)) - 4) B [] (ct_J19_hasNext_s g J (p := lb) (xs := ps_3) (md := md_3) (cap := (capF bx.length)) (it := it162) (c := j) (lr := lr2) (W1 := w2)  (hli_3) (by have := hln_3.1; omega)) dX3_all_169 rfl (ci := 22) rfl (rc_at B (ci := 22) rfl (k := 4) rfl) q3234 q940 q942 q104 q944 q938 q937 q943 q941 q939 rfl rfl mojava_util_Iterator_hasNext___Z rfl rfl (by decide) (by decide) (Nat.le_of_ble_eq_true rfl) (by omega) (by omega) (fun _ _ hx => noX_x hx) (fun v169 L1 hp169 => ?_)
                obtain ⟨rfl, rfl⟩ := hp169
                refine (show Go g κ 174 [some (.ref m), some (.ref p), some (.ref n7), some (.int (nI (if ch2 = true then 1 else 0))), some (.ref it162), none, none] [.int (nI (if ¬ j = ps_3.length then 1 else 0))] [[(m, .inr (12, [.ref ls, .ref lb, .ref lk, .ref lp, .ref lr, .ref le, .ref lm, .ref lo, .int (nI th), .int z, .int (nI bo), .int (nI cm)]))], w1, [(n7, .inl (g.2.1 4, ss.length, .inl f2))], w3, [(it162, .inr (22, [.int (nI j), .int lr2, .int md_3, .ref lb]))], w2] ((ss.length + 1 - fb_ct K ss.length) - 1) ((4 * (ss.length + 1 - fb_ct K ss.length)) - 4) from ?_)
                rw [hln_3.1]
                refine (show Go g κ 174 [some (.ref m), some (.ref p), some (.ref n7), some (.int (nI (if ch2 = true then 1 else 0))), some (.ref it162), none, none] [.int (nI (if ¬ j = bx.length then 1 else 0))] [[(m, .inr (12, [.ref ls, .ref lb, .ref lk, .ref lp, .ref lr, .ref le, .ref lm, .ref lo, .int (nI th), .int z, .int (nI bo), .int (nI cm)]))], w1, [(n7, .inl (g.2.1 4, ss.length, .inl f2))], w3, [(it162, .inr (22, [.int (nI j), .int lr2, .int md_3, .ref lb]))], w2] ((ss.length + 1 - fb_ct K ss.length) - 1) ((4 * (ss.length + 1 - fb_ct K ss.length)) - 4) from ?_)
                refine g_if_eq (tgt := 237) (q := 177) B dX3_all_174 rfl (by decide) (bo_eq) (fun c174 => ?_) (fun c174 => ?_)
                · skip
                  have hKK2 : ∀ x, K x = true → K2 x = true := fun x h => hsub2 x (hsub x h)
                  have hct2 := fb_ct_le K2 ss.length
                  have hgz : ch2 = true → fb_ct K ss.length < fb_ct K2 ss.length := fun h => by obtain ⟨x, x1, x2, x3⟩ := hct_ch2 h; exact ct_lt hKK2 x1 x2 x3
                  have hgf : ch2 = false → ClsK ss bx K2 := fun h => by
                    have e := hcf_ch2 h
                    refine ⟨fun i s hs hp => hsub2 i (hcl i s (by have := get_lt2 hs; omega) hs (by rw [← e]; exact hp)), fun p hp hk => ?_⟩
                    obtain ⟨i, hi⟩ := List.getElem?_of_mem hp
                    exact hcb i p (by have := get_lt2 hi; omega) hi (by rw [← e]; exact hk)
                  rcases (show ch2 = true ∨ ch2 = false by cases ch2; exact Or.inr rfl; exact Or.inl rfl) with hgo2 | hgo2
                  · skip
                    have hgz1 := hgz hgo2
                    subst hgo2
                    refine (show Go g κ 237 [some (.ref m), some (.ref p), some (.ref n7), some (.int (nI 1)), some (.ref it162), none, none] [] [[(m, .inr (12, [.ref ls, .ref lb, .ref lk, .ref lp, .ref lr, .ref le, .ref lm, .ref lo, .int (nI th), .int z, .int (nI bo), .int (nI cm)]))], w1, [(n7, .inl (g.2.1 4, ss.length, .inl f2))], w3, [(it162, .inr (22, [.int (nI j), .int lr2, .int md_3, .ref lb]))], w2] ((ss.length + 1 - fb_ct K ss.length) - 1) ((4 * (ss.length + 1 - fb_ct K ss.length)) - 4) from ?_)
                    refine g_goto (tgt := 48) B dX3_all_237 (by decide) ?_
                    refine g_fg 4 rfl ?_
                    refine g_pk [0, 4, 0, 0, 0] rfl rfl ?_
                    refine (show Go g κ 48 [some (.ref m), some (.ref p), some (.ref n7), some (.int (nI 1)), none, none, none] [] [[(m, .inr (12, [.ref ls, .ref lb, .ref lk, .ref lp, .ref lr, .ref le, .ref lm, .ref lo, .int (nI th), .int z, .int (nI bo), .int (nI cm)]))], w2, w1, [(n7, .inl (g.2.1 4, ss.length, .inl f2))], w3] ((ss.length + 1 - fb_ct K ss.length) - 1) ((4 * (ss.length + 1 - fb_ct K ss.length)) - 4) from ?_)
                    refine g_room (kc2 := (if true = true then ss.length + 1 - fb_ct K2 ss.length else 0)) (ks2 := 4 * (if true = true then ss.length + 1 - fb_ct K2 ss.length else 0)) (by first | (rw [if_pos rfl]; omega) | (rw [if_neg (by decide)]; omega) | (split <;> omega)) (by first | (rw [if_pos rfl]; omega) | (rw [if_neg (by decide)]; omega) | (split <;> omega)) ?_
                    exact ih48 _ (by rw [← hmu48, if_pos hg1]; first | (rw [if_pos rfl]; omega) | (rw [if_neg (by decide)]; have := ct_sub hKK2 ss.length; omega)) true f2 K2 (hf2) (fun v h => hKK2 v (hin v h)) (hsd2) (fun h => by cases h) rfl
                  · skip
                    subst hgo2
                    refine (show Go g κ 237 [some (.ref m), some (.ref p), some (.ref n7), some (.int (nI 0)), some (.ref it162), none, none] [] [[(m, .inr (12, [.ref ls, .ref lb, .ref lk, .ref lp, .ref lr, .ref le, .ref lm, .ref lo, .int (nI th), .int z, .int (nI bo), .int (nI cm)]))], w1, [(n7, .inl (g.2.1 4, ss.length, .inl f2))], w3, [(it162, .inr (22, [.int (nI j), .int lr2, .int md_3, .ref lb]))], w2] ((ss.length + 1 - fb_ct K ss.length) - 1) ((4 * (ss.length + 1 - fb_ct K ss.length)) - 4) from ?_)
                    refine g_goto (tgt := 48) B dX3_all_237 (by decide) ?_
                    refine g_fg 4 rfl ?_
                    refine g_pk [0, 4, 0, 0, 0] rfl rfl ?_
                    refine (show Go g κ 48 [some (.ref m), some (.ref p), some (.ref n7), some (.int (nI 0)), none, none, none] [] [[(m, .inr (12, [.ref ls, .ref lb, .ref lk, .ref lp, .ref lr, .ref le, .ref lm, .ref lo, .int (nI th), .int z, .int (nI bo), .int (nI cm)]))], w2, w1, [(n7, .inl (g.2.1 4, ss.length, .inl f2))], w3] ((ss.length + 1 - fb_ct K ss.length) - 1) ((4 * (ss.length + 1 - fb_ct K ss.length)) - 4) from ?_)
                    refine g_room (kc2 := (if false = true then ss.length + 1 - fb_ct K2 ss.length else 0)) (ks2 := 4 * (if false = true then ss.length + 1 - fb_ct K2 ss.length else 0)) (by first | (rw [if_pos rfl]; omega) | (rw [if_neg (by decide)]; omega) | (split <;> omega)) (by first | (rw [if_pos rfl]; omega) | (rw [if_neg (by decide)]; omega) | (split <;> omega)) ?_
                    exact ih48 _ (by rw [← hmu48, if_pos hg1]; first | (rw [if_pos rfl]; omega) | (rw [if_neg (by decide)]; have := ct_sub hKK2 ss.length; omega)) false f2 K2 (hf2) (fun v h => hKK2 v (hin v h)) (hsd2) (fun _ => hgf rfl) rfl
                · skip
                  have c174 := Classical.not_not.mp c174
                  refine g_aload (q := 179) B dX3_all_177 rfl rfl (rv_r _) ?_
                  obtain ⟨r179, hr179⟩ := get_ex (xs := bx) (i := j) (by omega)
                  obtain ⟨x179, hx179⟩ := get_ex (xs := ps_3) (i := j) (by have := get_lt2 hr179; have := hln_3.1; omega)
                  have hE_4 := hel_3 _ _ _ hx179 hr179
                  refine g_callF (q := 184) (is := [4, 4]) (kc2 := (ss.length + 1 - fb_ct K ss.length) - 1) (ks2 := (4 * (ss.length + 1 - fb_ct K ss.length)) - 4) B [] (ct_J19_next_s g J (p := lb) (xs := ps_3) (md := md_3) (cap := (capF bx.length)) (it := it162) (c := j) (lr := lr2) (x := x179) (W1 := w2)  (hli_3) (hx179)) dX3_all_179 rfl (ci := 22) rfl (rc_at B (ci := 22) rfl (k := 4) rfl) q3236 q967 q969 q104 q971 q966 q965 q970 q968 q939 rfl rfl mojava_util_Iterator_next___Ljava_lang_Object_ rfl rfl (by decide) (by decide) (Nat.le_of_ble_eq_true rfl) (by omega) (by omega) (fun _ _ hx => noX_x hx) (fun v179 L1 hp179 => ?_)
                  obtain ⟨rfl, rfl⟩ := hp179
                  refine (show Go g κ 184 [some (.ref m), some (.ref p), some (.ref n7), some (.int (nI (if ch2 = true then 1 else 0))), some (.ref it162), none, none] [.ref x179] [[(m, .inr (12, [.ref ls, .ref lb, .ref lk, .ref lp, .ref lr, .ref le, .ref lm, .ref lo, .int (nI th), .int z, .int (nI bo), .int (nI cm)]))], w1, [(n7, .inl (g.2.1 4, ss.length, .inl f2))], w3, [(it162, .inr (22, [.int (nI (j + 1)), .int (nI j), .int md_3, .ref lb]))], w2] ((ss.length + 1 - fb_ct K ss.length) - 1) ((4 * (ss.length + 1 - fb_ct K ss.length)) - 4) from ?_)
                  refine g_castRS (ci := 19) (q := 187) B rfl (rc_in B (ci := 19) rfl (k := 5) rfl (Sub.hm (hE_4) fun _ z => BbP.hm z)) dX3_all_184 rfl q3476 ?_
                  refine g_astore (q := 189) (lv2 := [some (.ref m), some (.ref p), some (.ref n7), some (.int (nI (if ch2 = true then 1 else 0))), some (.ref it162), some (.ref x179), none]) B dX3_all_187 rfl (Nat.le_of_ble_eq_true rfl) (rv_r _) rfl ?_
                  have hi179 := hbx _ (List.mem_of_getElem? hr179)
                  refine g_iload_n (q := 190) B dX3_all_189 rfl rfl ?_
                  refine g_aload_n (q := 191) B dX3_all_190 rfl rfl (rv_r _) ?_
                  refine g_aload (q := 193) B dX3_all_191 rfl rfl (rv_r _) ?_
                  have hc_5_0 := BbP.at (hE_4)
                  refine g_getNM (q := 196) B (ci := 19) (k := 5) (j := 0) in_X20 rfl dX3_all_193 rfl rfl (hc_5_0) (Nat.le_of_ble_eq_true rfl) q3483 rfl rfl ?_
                  refine g_zald (v := nI (if K2 r179.1 = true then 1 else 0)) (q := 197) B (k := 2) dX3_all_196 rfl rfl (vp_in_nI (by omega) (by omega)) (by rw [nI_clamp (by omega)]; exact hf2 _ (by omega)) ?_
                  refine g_if_eq (tgt := 214) (q := 200) B dX3_all_197 rfl (by decide) (bo_eq) (fun c197 => ?_) (fun c197 => ?_)
                  · skip
                    refine g_iconst (v := nI 0) (q := 215) B dX3_all_214 rfl (by decide) ?_
                    refine g_ior (v := nI (if ch2 = true then 1 else 0)) (q := 216) B dX3_all_215 rfl (bo_or0 _) ?_
                    refine g_istore_n (q := 217) (lv2 := [some (.ref m), some (.ref p), some (.ref n7), some (.int (nI (if ch2 = true then 1 else 0))), some (.ref it162), some (.ref x179), none]) B dX3_all_216 rfl (Nat.le_of_ble_eq_true rfl) rfl ?_
                    refine g_aload_n (q := 218) B dX3_all_217 rfl rfl (rv_r _) ?_
                    refine g_aload (q := 220) B dX3_all_218 rfl rfl (rv_r _) ?_
                    refine g_getNM (q := 223) B (ci := 19) (k := 5) (j := 1) in_X20 rfl dX3_all_220 rfl rfl (hc_5_0) (Nat.le_of_ble_eq_true rfl) q3485 rfl rfl ?_
                    refine g_dup2_11 (q := 224) B dX3_all_223 rfl rfl rfl ?_
                    refine g_zald (v := nI (if K2 r179.2 = true then 1 else 0)) (q := 225) B (k := 2) dX3_all_224 rfl rfl (vp_in_nI (by omega) (by omega)) (by rw [nI_clamp (by omega)]; exact hf2 _ (by omega)) ?_
                    refine g_aload_n (q := 226) B dX3_all_225 rfl rfl (rv_r _) ?_
                    refine g_aload (q := 228) B dX3_all_226 rfl rfl (rv_r _) ?_
                    refine g_getNM (q := 231) B (ci := 19) (k := 5) (j := 0) in_X20 rfl dX3_all_228 rfl rfl (hc_5_0) (Nat.le_of_ble_eq_true rfl) q3483 rfl rfl ?_
                    refine g_zald (v := nI (if K2 r179.1 = true then 1 else 0)) (q := 232) B (k := 2) dX3_all_231 rfl rfl (vp_in_nI (by omega) (by omega)) (by rw [nI_clamp (by omega)]; exact hf2 _ (by omega)) ?_
                    refine g_ior (v := nI (if K2 r179.2 = true then 1 else 0)) (q := 233) B dX3_all_232 rfl (bo_orb c197) ?_
                    refine g_zast (q := 234) (L2 := [[(m, .inr (12, [.ref ls, .ref lb, .ref lk, .ref lp, .ref lr, .ref le, .ref lm, .ref lo, .int (nI th), .int z, .int (nI bo), .int (nI cm)]))], w1, [(n7, .inl (g.2.1 4, ss.length, .inl (upd f2 r179.2 (vp_nar .boolean (nI (if K2 r179.2 = true then 1 else 0))))))], w3, [(it162, .inr (22, [.int (nI (j + 1)), .int (nI j), .int md_3, .ref lb]))], w2]) B (k := 2) dX3_all_233 rfl rfl (vp_in_nI (by omega) (by omega)) (by rw [nI_clamp (by omega)] <;> rfl) ?_
                    obtain ⟨f233, ef233⟩ : ∃ f : Nat → Int32, f = upd f2 r179.2 (vp_nar .boolean (nI (if K2 r179.2 = true then 1 else 0))) := ⟨_, rfl⟩
                    have hf233 : ∀ i, i < ss.length → f233 i = bI (fup K2 r179.2 (K2 r179.2) i) := by rw [ef233]; exact upd_bI hf2 _ (K2 r179.2)
                    rw [← ef233]
                    refine (show Go g κ 234 [some (.ref m), some (.ref p), some (.ref n7), some (.int (nI (if ch2 = true then 1 else 0))), some (.ref it162), some (.ref x179), none] [] [[(m, .inr (12, [.ref ls, .ref lb, .ref lk, .ref lp, .ref lr, .ref le, .ref lm, .ref lo, .int (nI th), .int z, .int (nI bo), .int (nI cm)]))], w1, [(n7, .inl (g.2.1 4, ss.length, .inl f233))], w3, [(it162, .inr (22, [.int (nI (j + 1)), .int (nI j), .int md_3, .ref lb]))], w2] ((ss.length + 1 - fb_ct K ss.length) - 1) ((4 * (ss.length + 1 - fb_ct K ss.length)) - 4) from ?_)
                    refine g_goto (tgt := 167) B dX3_all_234 (by decide) ?_
                    refine g_fg 5 rfl ?_
                    exact ih167 _ (by omega) (j + 1) (nI j) ch2 f233 K2 (by first | assumption | omega | rfl) (by have z := hf233; rw [fup_self] at z; exact z) (hsub2) (hsd2) (fun i p h1 h2 h3 => by rcases Nat.lt_or_ge i j with z | z; exact hcb i p z h2 h3; have e : i = j := (by omega); rw [e, hr179] at h2; cases h2; exact absurd (hsub2 _ (hsub _ h3)) c197) (fun h => by obtain ⟨x, x1, x2, x3⟩ := hct_ch2 h; exact ⟨x, x1, x2, x3⟩) (hcf_ch2) rfl
                  · skip
                    have c197 := Classical.not_not.mp c197
                    refine g_aload_n (q := 201) B dX3_all_200 rfl rfl (rv_r _) ?_
                    refine g_aload (q := 203) B dX3_all_201 rfl rfl (rv_r _) ?_
                    refine g_getNM (q := 206) B (ci := 19) (k := 5) (j := 1) in_X20 rfl dX3_all_203 rfl rfl (hc_5_0) (Nat.le_of_ble_eq_true rfl) q3485 rfl rfl ?_
                    refine g_zald (v := nI (if K2 r179.2 = true then 1 else 0)) (q := 207) B (k := 2) dX3_all_206 rfl rfl (vp_in_nI (by omega) (by omega)) (by rw [nI_clamp (by omega)]; exact hf2 _ (by omega)) ?_
                    refine g_if_ne (tgt := 214) (q := 210) B dX3_all_207 rfl (by decide) (bo_ne) (fun c207 => ?_) (fun c207 => ?_)
                    · skip
                      refine g_iconst (v := nI 0) (q := 215) B dX3_all_214 rfl (by decide) ?_
                      refine g_ior (v := nI (if ch2 = true then 1 else 0)) (q := 216) B dX3_all_215 rfl (bo_or0 _) ?_
                      refine g_istore_n (q := 217) (lv2 := [some (.ref m), some (.ref p), some (.ref n7), some (.int (nI (if ch2 = true then 1 else 0))), some (.ref it162), some (.ref x179), none]) B dX3_all_216 rfl (Nat.le_of_ble_eq_true rfl) rfl ?_
                      refine g_aload_n (q := 218) B dX3_all_217 rfl rfl (rv_r _) ?_
                      refine g_aload (q := 220) B dX3_all_218 rfl rfl (rv_r _) ?_
                      refine g_getNM (q := 223) B (ci := 19) (k := 5) (j := 1) in_X20 rfl dX3_all_220 rfl rfl (hc_5_0) (Nat.le_of_ble_eq_true rfl) q3485 rfl rfl ?_
                      refine g_dup2_11 (q := 224) B dX3_all_223 rfl rfl rfl ?_
                      refine g_zald (v := nI (if K2 r179.2 = true then 1 else 0)) (q := 225) B (k := 2) dX3_all_224 rfl rfl (vp_in_nI (by omega) (by omega)) (by rw [nI_clamp (by omega)]; exact hf2 _ (by omega)) ?_
                      refine g_aload_n (q := 226) B dX3_all_225 rfl rfl (rv_r _) ?_
                      refine g_aload (q := 228) B dX3_all_226 rfl rfl (rv_r _) ?_
                      refine g_getNM (q := 231) B (ci := 19) (k := 5) (j := 0) in_X20 rfl dX3_all_228 rfl rfl (hc_5_0) (Nat.le_of_ble_eq_true rfl) q3483 rfl rfl ?_
                      refine g_zald (v := nI (if K2 r179.1 = true then 1 else 0)) (q := 232) B (k := 2) dX3_all_231 rfl rfl (vp_in_nI (by omega) (by omega)) (by rw [nI_clamp (by omega)]; exact hf2 _ (by omega)) ?_
                      refine g_ior (v := nI 1) (q := 233) B dX3_all_232 rfl (bo_ort c197) ?_
                      refine g_zast (q := 234) (L2 := [[(m, .inr (12, [.ref ls, .ref lb, .ref lk, .ref lp, .ref lr, .ref le, .ref lm, .ref lo, .int (nI th), .int z, .int (nI bo), .int (nI cm)]))], w1, [(n7, .inl (g.2.1 4, ss.length, .inl (upd f2 r179.2 (vp_nar .boolean (nI 1)))))], w3, [(it162, .inr (22, [.int (nI (j + 1)), .int (nI j), .int md_3, .ref lb]))], w2]) B (k := 2) dX3_all_233 rfl rfl (vp_in_nI (by omega) (by omega)) (by rw [nI_clamp (by omega)] <;> rfl) ?_
                      obtain ⟨f233, ef233⟩ : ∃ f : Nat → Int32, f = upd f2 r179.2 (vp_nar .boolean (nI 1)) := ⟨_, rfl⟩
                      have hf233 : ∀ i, i < ss.length → f233 i = bI (fup K2 r179.2 true i) := by rw [ef233]; exact upd_bI hf2 _ true
                      rw [← ef233]
                      refine (show Go g κ 234 [some (.ref m), some (.ref p), some (.ref n7), some (.int (nI (if ch2 = true then 1 else 0))), some (.ref it162), some (.ref x179), none] [] [[(m, .inr (12, [.ref ls, .ref lb, .ref lk, .ref lp, .ref lr, .ref le, .ref lm, .ref lo, .int (nI th), .int z, .int (nI bo), .int (nI cm)]))], w1, [(n7, .inl (g.2.1 4, ss.length, .inl f233))], w3, [(it162, .inr (22, [.int (nI (j + 1)), .int (nI j), .int md_3, .ref lb]))], w2] ((ss.length + 1 - fb_ct K ss.length) - 1) ((4 * (ss.length + 1 - fb_ct K ss.length)) - 4) from ?_)
                      refine g_goto (tgt := 167) B dX3_all_234 (by decide) ?_
                      refine g_fg 5 rfl ?_
                      exact ih167 _ (by omega) (j + 1) (nI j) ch2 f233 (sIns K2 r179.2) (by first | assumption | omega | rfl) (by rw [← fup_sI]; exact hf233) (fun x h => sIns_m (hsub2 x h)) (fun x h => by rcases sIns_o h with rfl | h; exact ⟨ClK.box (List.mem_of_getElem? hr179) (hsd2 _ c197).1, (hbx _ (List.mem_of_getElem? hr179)).2⟩; exact hsd2 x h) (fun i p h1 h2 h3 => by rcases Nat.lt_or_ge i j with z | z; exact sIns_m (hcb i p z h2 h3); have e : i = j := (by omega); rw [e, hr179] at h2; cases h2; exact sIns_1 _ _) (fun h => by obtain ⟨x, x1, x2, x3⟩ := hct_ch2 h; exact ⟨x, x1, sIns_m x2, x3⟩) (fun h => by rw [← hcf_ch2 h]; funext x; rw [Bool.eq_iff_iff, sIns_iff]; exact ⟨fun z => z.elim id fun e => by rw [e]; exact c207, Or.inl⟩) rfl
                    · skip
                      refine g_iconst (v := nI 1) (q := 211) B dX3_all_210 rfl (by decide) ?_
                      refine g_goto (tgt := 215) B dX3_all_211 (by decide) ?_
                      refine g_ior (v := nI 1) (q := 216) B dX3_all_215 rfl bo_or1 ?_
                      refine g_istore_n (q := 217) (lv2 := [some (.ref m), some (.ref p), some (.ref n7), some (.int (nI 1)), some (.ref it162), some (.ref x179), none]) B dX3_all_216 rfl (Nat.le_of_ble_eq_true rfl) rfl ?_
                      refine g_aload_n (q := 218) B dX3_all_217 rfl rfl (rv_r _) ?_
                      refine g_aload (q := 220) B dX3_all_218 rfl rfl (rv_r _) ?_
                      refine g_getNM (q := 223) B (ci := 19) (k := 5) (j := 1) in_X20 rfl dX3_all_220 rfl rfl (hc_5_0) (Nat.le_of_ble_eq_true rfl) q3485 rfl rfl ?_
                      refine g_dup2_11 (q := 224) B dX3_all_223 rfl rfl rfl ?_
                      refine g_zald (v := nI (if K2 r179.2 = true then 1 else 0)) (q := 225) B (k := 2) dX3_all_224 rfl rfl (vp_in_nI (by omega) (by omega)) (by rw [nI_clamp (by omega)]; exact hf2 _ (by omega)) ?_
                      refine g_aload_n (q := 226) B dX3_all_225 rfl rfl (rv_r _) ?_
                      refine g_aload (q := 228) B dX3_all_226 rfl rfl (rv_r _) ?_
                      refine g_getNM (q := 231) B (ci := 19) (k := 5) (j := 0) in_X20 rfl dX3_all_228 rfl rfl (hc_5_0) (Nat.le_of_ble_eq_true rfl) q3483 rfl rfl ?_
                      refine g_zald (v := nI (if K2 r179.1 = true then 1 else 0)) (q := 232) B (k := 2) dX3_all_231 rfl rfl (vp_in_nI (by omega) (by omega)) (by rw [nI_clamp (by omega)]; exact hf2 _ (by omega)) ?_
                      refine g_ior (v := nI 1) (q := 233) B dX3_all_232 rfl (bo_ort c197) ?_
                      refine g_zast (q := 234) (L2 := [[(m, .inr (12, [.ref ls, .ref lb, .ref lk, .ref lp, .ref lr, .ref le, .ref lm, .ref lo, .int (nI th), .int z, .int (nI bo), .int (nI cm)]))], w1, [(n7, .inl (g.2.1 4, ss.length, .inl (upd f2 r179.2 (vp_nar .boolean (nI 1)))))], w3, [(it162, .inr (22, [.int (nI (j + 1)), .int (nI j), .int md_3, .ref lb]))], w2]) B (k := 2) dX3_all_233 rfl rfl (vp_in_nI (by omega) (by omega)) (by rw [nI_clamp (by omega)] <;> rfl) ?_
                      obtain ⟨f233, ef233⟩ : ∃ f : Nat → Int32, f = upd f2 r179.2 (vp_nar .boolean (nI 1)) := ⟨_, rfl⟩
                      have hf233 : ∀ i, i < ss.length → f233 i = bI (fup K2 r179.2 true i) := by rw [ef233]; exact upd_bI hf2 _ true
                      rw [← ef233]
                      refine (show Go g κ 234 [some (.ref m), some (.ref p), some (.ref n7), some (.int (nI 1)), some (.ref it162), some (.ref x179), none] [] [[(m, .inr (12, [.ref ls, .ref lb, .ref lk, .ref lp, .ref lr, .ref le, .ref lm, .ref lo, .int (nI th), .int z, .int (nI bo), .int (nI cm)]))], w1, [(n7, .inl (g.2.1 4, ss.length, .inl f233))], w3, [(it162, .inr (22, [.int (nI (j + 1)), .int (nI j), .int md_3, .ref lb]))], w2] ((ss.length + 1 - fb_ct K ss.length) - 1) ((4 * (ss.length + 1 - fb_ct K ss.length)) - 4) from ?_)
                      refine g_goto (tgt := 167) B dX3_all_234 (by decide) ?_
                      refine g_fg 5 rfl ?_
                      exact ih167 _ (by omega) (j + 1) (nI j) true f233 (sIns K2 r179.2) (by first | assumption | omega | rfl) (by rw [← fup_sI]; exact hf233) (fun x h => sIns_m (hsub2 x h)) (fun x h => by rcases sIns_o h with rfl | h; exact ⟨ClK.box (List.mem_of_getElem? hr179) (hsd2 _ c197).1, (hbx _ (List.mem_of_getElem? hr179)).2⟩; exact hsd2 x h) (fun i p h1 h2 h3 => by rcases Nat.lt_or_ge i j with z | z; exact sIns_m (hcb i p z h2 h3); have e : i = j := (by omega); rw [e, hr179] at h2; cases h2; exact sIns_1 _ _) (fun _ => ⟨r179.2, hi179.2, sIns_1 _ _, fun z => c207 (hsub2 _ (hsub _ z))⟩) (fun h => by cases h) rfl
              exact lp167 _ 0 (-1) ch f1 K1 (Nat.zero_le _) (hf1) (fun _ h => h) (hsd1) (fun i r h => absurd h (Nat.not_lt_zero i)) (hct_ch) (hcf_ch) rfl
            · skip
              refine g_aload_n (q := 65) B dX3_all_64 rfl rfl (rv_r _) ?_
              refine g_get (q := 68) B (ci := 12) (k := 0) (j := 0) in_X3 rfl dX3_all_65 rfl rfl (Nat.le_of_ble_eq_true rfl) q3057 rfl rfl ?_
              refine g_iload (q := 70) B dX3_all_68 rfl rfl ?_
              obtain ⟨r70, hr70⟩ := get_ex (xs := ss) (i := k) (by omega)
              obtain ⟨x70, hx70⟩ := get_ex (xs := ps_1) (i := k) (by have := get_lt2 hr70; have := hln_1.1; omega)
              have hE_6 := hel_1 _ _ _ hx70 hr70
              refine g_callV (q := 73) (is := [2]) (kc2 := ss.length + 1 - fb_ct K ss.length) (ks2 := 4 * (ss.length + 1 - fb_ct K ss.length)) B [.int (nI k)] (ct_J2_get_s g J (p := ls) (xs := ps_1) (md := md_1) (cap := (capF ss.length)) (i := k) (x := x70) (W0 := w1)  (hli_1) (hx70)) dX3_all_70 rfl (rc_in B (ci := 21) rfl (k := 2) rfl (LhP.hm hw1)) rfl q3231 q1095 q3667 q81 q1097 rfl rfl moJ2_get rfl rfl (by decide) (by decide) (Nat.le_of_ble_eq_true rfl) (by omega) (by omega) (fun _ _ hx => noX_x hx) (fun v70 L1 hp70 => ?_)
              obtain ⟨rfl, rfl⟩ := hp70
              refine (show Go g κ 73 [some (.ref m), some (.ref p), some (.ref n7), some (.int (nI (if ch = true then 1 else 0))), some (.int (nI k)), none, none] [.ref x70] [[(m, .inr (12, [.ref ls, .ref lb, .ref lk, .ref lp, .ref lr, .ref le, .ref lm, .ref lo, .int (nI th), .int z, .int (nI bo), .int (nI cm)]))], w2, [(n7, .inl (g.2.1 4, ss.length, .inl f1))], w3, w1] (ss.length + 1 - fb_ct K ss.length) (4 * (ss.length + 1 - fb_ct K ss.length)) from ?_)
              refine g_castRS (ci := 14) (q := 76) B rfl (rc_in B (ci := 14) rfl (k := 4) rfl (Sub.hm (hE_6) fun _ z => SecP.hm z)) dX3_all_73 rfl q3175 ?_
              have hb70 := ss_bd hS hr70
              refine g_astore (q := 78) (lv2 := [some (.ref m), some (.ref p), some (.ref n7), some (.int (nI (if ch = true then 1 else 0))), some (.int (nI k)), some (.ref x70), none]) B dX3_all_76 rfl (Nat.le_of_ble_eq_true rfl) (rv_r _) rfl ?_
              refine g_aload (q := 80) B dX3_all_78 rfl rfl (rv_r _) ?_
              obtain ⟨hS_7, hc_7_0⟩ := SecP.at (hE_6)
              refine g_getNM (q := 83) B (ci := 14) (k := 4) (j := 1) in_X8 rfl dX3_all_80 rfl rfl (hc_7_0) (Nat.le_of_ble_eq_true rfl) q3184 rfl rfl ?_
              refine g_iconst (v := -1) (q := 84) B dX3_all_83 rfl (by decide) ?_
              refine g_icmp_eq (tgt := 120) (q := 87) B dX3_all_84 rfl (by decide) (oI_n ((fun n h => by have := hS_7.1 n h; omega))) (fun c84 => ?_) (fun c84 => ?_)
              · skip
                have hz140 := scn_n (s := r70) hr70 (fun hp => by obtain ⟨o, e, ho, hq⟩ := hp; rw [c84] at e; cases e) hsub hcl
                refine g_iconst (v := nI 0) (q := 121) B dX3_all_120 rfl (by decide) ?_
                refine g_istore (q := 123) (lv2 := [some (.ref m), some (.ref p), some (.ref n7), some (.int (nI (if ch = true then 1 else 0))), some (.int (nI k)), some (.ref x70), some (.int (nI 0))]) B dX3_all_121 rfl (Nat.le_of_ble_eq_true rfl) rfl ?_
                refine g_iload_n (q := 124) B dX3_all_123 rfl rfl ?_
                refine g_iload (q := 126) B dX3_all_124 rfl rfl ?_
                refine g_if_eq (tgt := 140) (q := 129) B dX3_all_126 rfl (by decide) (iff_true_intro (by decide)) (fun _ => ?_) (fun z => absurd trivial z)
                refine g_iconst (v := nI 0) (q := 141) B dX3_all_140 rfl (by decide) ?_
                refine g_ior (v := nI (if ch = true then 1 else 0)) (q := 142) B dX3_all_141 rfl (bo_or0 _) ?_
                refine g_istore_n (q := 143) (lv2 := [some (.ref m), some (.ref p), some (.ref n7), some (.int (nI (if ch = true then 1 else 0))), some (.int (nI k)), some (.ref x70), some (.int (nI 0))]) B dX3_all_142 rfl (Nat.le_of_ble_eq_true rfl) rfl ?_
                refine g_aload_n (q := 144) B dX3_all_143 rfl rfl (rv_r _) ?_
                refine g_iload (q := 146) B dX3_all_144 rfl rfl ?_
                refine g_dup2_11 (q := 147) B dX3_all_146 rfl rfl rfl ?_
                refine g_zald (v := nI (if K1 k = true then 1 else 0)) (q := 148) B (k := 2) dX3_all_147 rfl rfl (vp_in_nI (by omega) (by omega)) (by rw [nI_clamp (by omega)]; exact hf1 _ (by omega)) ?_
                refine g_iload (q := 150) B dX3_all_148 rfl rfl ?_
                refine g_ior (v := nI (if K1 k = true then 1 else 0)) (q := 151) B dX3_all_150 rfl (bo_or0 _) ?_
                refine g_zast (q := 152) (L2 := [[(m, .inr (12, [.ref ls, .ref lb, .ref lk, .ref lp, .ref lr, .ref le, .ref lm, .ref lo, .int (nI th), .int z, .int (nI bo), .int (nI cm)]))], w2, [(n7, .inl (g.2.1 4, ss.length, .inl (upd f1 k (vp_nar .boolean (nI (if K1 k = true then 1 else 0))))))], w3, w1]) B (k := 2) dX3_all_151 rfl rfl (vp_in_nI (by omega) (by omega)) (by rw [nI_clamp (by omega)] <;> rfl) ?_
                obtain ⟨f151, ef151⟩ : ∃ f : Nat → Int32, f = upd f1 k (vp_nar .boolean (nI (if K1 k = true then 1 else 0))) := ⟨_, rfl⟩
                have hf151 : ∀ i, i < ss.length → f151 i = bI (fup K1 k (K1 k) i) := by rw [ef151]; exact upd_bI hf1 _ (K1 k)
                rw [← ef151]
                refine (show Go g κ 152 [some (.ref m), some (.ref p), some (.ref n7), some (.int (nI (if ch = true then 1 else 0))), some (.int (nI k)), some (.ref x70), some (.int (nI 0))] [] [[(m, .inr (12, [.ref ls, .ref lb, .ref lk, .ref lp, .ref lr, .ref le, .ref lm, .ref lo, .int (nI th), .int z, .int (nI bo), .int (nI cm)]))], w2, [(n7, .inl (g.2.1 4, ss.length, .inl f151))], w3, w1] (ss.length + 1 - fb_ct K ss.length) (4 * (ss.length + 1 - fb_ct K ss.length)) from ?_)
                refine g_iinc (v := nI (k + 1)) (q := 155) (lv2 := [some (.ref m), some (.ref p), some (.ref n7), some (.int (nI (if ch = true then 1 else 0))), some (.int (nI (k + 1))), some (.ref x70), some (.int (nI 0))]) B dX3_all_152 rfl rfl (nI_add _ 1) (Nat.le_of_ble_eq_true rfl) rfl ?_
                refine g_goto (tgt := 57) B dX3_all_155 (by decide) ?_
                refine g_fg 5 rfl ?_
                refine g_fg 6 rfl ?_
                refine g_pk [0, 0, 2, 0, 0] rfl rfl ?_
                refine (show Go g κ 57 [some (.ref m), some (.ref p), some (.ref n7), some (.int (nI (if ch = true then 1 else 0))), some (.int (nI (k + 1))), none, none] [] [[(m, .inr (12, [.ref ls, .ref lb, .ref lk, .ref lp, .ref lr, .ref le, .ref lm, .ref lo, .int (nI th), .int z, .int (nI bo), .int (nI cm)]))], w2, w1, [(n7, .inl (g.2.1 4, ss.length, .inl f151))], w3] (ss.length + 1 - fb_ct K ss.length) (4 * (ss.length + 1 - fb_ct K ss.length)) from ?_)
                exact ih57 _ (by omega) (k + 1) ch f151 K1 (by omega) (by have z := hf151; rw [fup_self] at z; exact z) (hsub) (hsd1) (hz140) (fun h => by obtain ⟨x, x1, x2, x3⟩ := hct_ch h; exact ⟨x, x1, x2, x3⟩) (hcf_ch) rfl
              · skip
                obtain ⟨v84, ev84⟩ := Option.ne_none_iff_exists'.mp c84
                refine g_aload_n (q := 88) B dX3_all_87 rfl rfl (rv_r _) ?_
                refine g_aload (q := 90) B dX3_all_88 rfl rfl (rv_r _) ?_
                refine g_getNM (q := 93) B (ci := 14) (k := 4) (j := 1) in_X8 rfl dX3_all_90 rfl rfl (hc_7_0) (Nat.le_of_ble_eq_true rfl) q3184 rfl rfl ?_
                refine g_stk (y := .int (nI v84)) (by rw [ev84]; rfl) ?_
                have hv93 := hb70.1 _ ev84
                have hv94 := get_lt2 hr70
                refine g_zald (v := nI (if K1 v84 = true then 1 else 0)) (q := 94) B (k := 2) dX3_all_93 rfl rfl (vp_in_nI (by omega) (by omega)) (by rw [nI_clamp (by omega)]; exact hf1 _ (by omega)) ?_
                refine g_if_eq (tgt := 120) (q := 97) B dX3_all_94 rfl (by decide) (bo_eq) (fun c94 => ?_) (fun c94 => ?_)
                · skip
                  have hz140 := scn_n (s := r70) hr70 (fun hp => by obtain ⟨o, e, ho, hq⟩ := hp; rw [ev84] at e; cases e; exact c94 ho) hsub hcl
                  refine g_iconst (v := nI 0) (q := 121) B dX3_all_120 rfl (by decide) ?_
                  refine g_istore (q := 123) (lv2 := [some (.ref m), some (.ref p), some (.ref n7), some (.int (nI (if ch = true then 1 else 0))), some (.int (nI k)), some (.ref x70), some (.int (nI 0))]) B dX3_all_121 rfl (Nat.le_of_ble_eq_true rfl) rfl ?_
                  refine g_iload_n (q := 124) B dX3_all_123 rfl rfl ?_
                  refine g_iload (q := 126) B dX3_all_124 rfl rfl ?_
                  refine g_if_eq (tgt := 140) (q := 129) B dX3_all_126 rfl (by decide) (iff_true_intro (by decide)) (fun _ => ?_) (fun z => absurd trivial z)
                  refine g_iconst (v := nI 0) (q := 141) B dX3_all_140 rfl (by decide) ?_
                  refine g_ior (v := nI (if ch = true then 1 else 0)) (q := 142) B dX3_all_141 rfl (bo_or0 _) ?_
                  refine g_istore_n (q := 143) (lv2 := [some (.ref m), some (.ref p), some (.ref n7), some (.int (nI (if ch = true then 1 else 0))), some (.int (nI k)), some (.ref x70), some (.int (nI 0))]) B dX3_all_142 rfl (Nat.le_of_ble_eq_true rfl) rfl ?_
                  refine g_aload_n (q := 144) B dX3_all_143 rfl rfl (rv_r _) ?_
                  refine g_iload (q := 146) B dX3_all_144 rfl rfl ?_
                  refine g_dup2_11 (q := 147) B dX3_all_146 rfl rfl rfl ?_
                  refine g_zald (v := nI (if K1 k = true then 1 else 0)) (q := 148) B (k := 2) dX3_all_147 rfl rfl (vp_in_nI (by omega) (by omega)) (by rw [nI_clamp (by omega)]; exact hf1 _ (by omega)) ?_
                  refine g_iload (q := 150) B dX3_all_148 rfl rfl ?_
                  refine g_ior (v := nI (if K1 k = true then 1 else 0)) (q := 151) B dX3_all_150 rfl (bo_or0 _) ?_
                  refine g_zast (q := 152) (L2 := [[(m, .inr (12, [.ref ls, .ref lb, .ref lk, .ref lp, .ref lr, .ref le, .ref lm, .ref lo, .int (nI th), .int z, .int (nI bo), .int (nI cm)]))], w2, [(n7, .inl (g.2.1 4, ss.length, .inl (upd f1 k (vp_nar .boolean (nI (if K1 k = true then 1 else 0))))))], w3, w1]) B (k := 2) dX3_all_151 rfl rfl (vp_in_nI (by omega) (by omega)) (by rw [nI_clamp (by omega)] <;> rfl) ?_
                  obtain ⟨f151, ef151⟩ : ∃ f : Nat → Int32, f = upd f1 k (vp_nar .boolean (nI (if K1 k = true then 1 else 0))) := ⟨_, rfl⟩
                  have hf151 : ∀ i, i < ss.length → f151 i = bI (fup K1 k (K1 k) i) := by rw [ef151]; exact upd_bI hf1 _ (K1 k)
                  rw [← ef151]
                  refine (show Go g κ 152 [some (.ref m), some (.ref p), some (.ref n7), some (.int (nI (if ch = true then 1 else 0))), some (.int (nI k)), some (.ref x70), some (.int (nI 0))] [] [[(m, .inr (12, [.ref ls, .ref lb, .ref lk, .ref lp, .ref lr, .ref le, .ref lm, .ref lo, .int (nI th), .int z, .int (nI bo), .int (nI cm)]))], w2, [(n7, .inl (g.2.1 4, ss.length, .inl f151))], w3, w1] (ss.length + 1 - fb_ct K ss.length) (4 * (ss.length + 1 - fb_ct K ss.length)) from ?_)
                  refine g_iinc (v := nI (k + 1)) (q := 155) (lv2 := [some (.ref m), some (.ref p), some (.ref n7), some (.int (nI (if ch = true then 1 else 0))), some (.int (nI (k + 1))), some (.ref x70), some (.int (nI 0))]) B dX3_all_152 rfl rfl (nI_add _ 1) (Nat.le_of_ble_eq_true rfl) rfl ?_
                  refine g_goto (tgt := 57) B dX3_all_155 (by decide) ?_
                  refine g_fg 5 rfl ?_
                  refine g_fg 6 rfl ?_
                  refine g_pk [0, 0, 2, 0, 0] rfl rfl ?_
                  refine (show Go g κ 57 [some (.ref m), some (.ref p), some (.ref n7), some (.int (nI (if ch = true then 1 else 0))), some (.int (nI (k + 1))), none, none] [] [[(m, .inr (12, [.ref ls, .ref lb, .ref lk, .ref lp, .ref lr, .ref le, .ref lm, .ref lo, .int (nI th), .int z, .int (nI bo), .int (nI cm)]))], w2, w1, [(n7, .inl (g.2.1 4, ss.length, .inl f151))], w3] (ss.length + 1 - fb_ct K ss.length) (4 * (ss.length + 1 - fb_ct K ss.length)) from ?_)
                  exact ih57 _ (by omega) (k + 1) ch f151 K1 (by omega) (by have z := hf151; rw [fup_self] at z; exact z) (hsub) (hsd1) (hz140) (fun h => by obtain ⟨x, x1, x2, x3⟩ := hct_ch h; exact ⟨x, x1, x2, x3⟩) (hcf_ch) rfl
                · skip
                  have c94 := Classical.not_not.mp c94
                  have hone : r70.2.1 ≠ none := by rw [ev84]; simp
                  refine g_aload (q := 99) B dX3_all_97 rfl rfl (rv_r _) ?_
                  refine g_getNM (q := 102) B (ci := 14) (k := 4) (j := 2) in_X8 rfl dX3_all_99 rfl rfl (hc_7_0) (Nat.le_of_ble_eq_true rfl) q3186 rfl rfl ?_
                  refine g_iconst (v := -1) (q := 103) B dX3_all_102 rfl (by decide) ?_
                  refine g_icmp_eq (tgt := 116) (q := 106) B dX3_all_103 rfl (by decide) (oI_n ((fun n h => by have := hb70.2 hone n h; have := get_lt2 hr70; omega))) (fun c103 => ?_) (fun c103 => ?_)
                  · skip
                    have hpr : prm K1 r70 := ⟨v84, ev84, c94, fun q e => by rw [c103] at e; cases e⟩
                    have hz140 := scn_y (vs := vs) (bx := bx) hr70 hpr hsub hsd1 hcl
                    refine g_iconst (v := nI 1) (q := 117) B dX3_all_116 rfl (by decide) ?_
                    refine g_goto (tgt := 121) B dX3_all_117 (by decide) ?_
                    refine g_istore (q := 123) (lv2 := [some (.ref m), some (.ref p), some (.ref n7), some (.int (nI (if ch = true then 1 else 0))), some (.int (nI k)), some (.ref x70), some (.int (nI 1))]) B dX3_all_121 rfl (Nat.le_of_ble_eq_true rfl) rfl ?_
                    refine g_iload_n (q := 124) B dX3_all_123 rfl rfl ?_
                    refine g_iload (q := 126) B dX3_all_124 rfl rfl ?_
                    refine g_if_eq (tgt := 140) (q := 129) B dX3_all_126 rfl (by decide) (iff_false_intro (by decide)) (fun z => z.elim) (fun _ => ?_)
                    refine g_aload_n (q := 130) B dX3_all_129 rfl rfl (rv_r _) ?_
                    refine g_iload (q := 132) B dX3_all_130 rfl rfl ?_
                    refine g_zald (v := nI (if K1 k = true then 1 else 0)) (q := 133) B (k := 2) dX3_all_132 rfl rfl (vp_in_nI (by omega) (by omega)) (by rw [nI_clamp (by omega)]; exact hf1 _ (by omega)) ?_
                    refine g_if_ne (tgt := 140) (q := 136) B dX3_all_133 rfl (by decide) (bo_ne) (fun c133 => ?_) (fun c133 => ?_)
                    · skip
                      refine g_iconst (v := nI 0) (q := 141) B dX3_all_140 rfl (by decide) ?_
                      refine g_ior (v := nI (if ch = true then 1 else 0)) (q := 142) B dX3_all_141 rfl (bo_or0 _) ?_
                      refine g_istore_n (q := 143) (lv2 := [some (.ref m), some (.ref p), some (.ref n7), some (.int (nI (if ch = true then 1 else 0))), some (.int (nI k)), some (.ref x70), some (.int (nI 1))]) B dX3_all_142 rfl (Nat.le_of_ble_eq_true rfl) rfl ?_
                      refine g_aload_n (q := 144) B dX3_all_143 rfl rfl (rv_r _) ?_
                      refine g_iload (q := 146) B dX3_all_144 rfl rfl ?_
                      refine g_dup2_11 (q := 147) B dX3_all_146 rfl rfl rfl ?_
                      refine g_zald (v := nI (if K1 k = true then 1 else 0)) (q := 148) B (k := 2) dX3_all_147 rfl rfl (vp_in_nI (by omega) (by omega)) (by rw [nI_clamp (by omega)]; exact hf1 _ (by omega)) ?_
                      refine g_iload (q := 150) B dX3_all_148 rfl rfl ?_
                      refine g_ior (v := nI 1) (q := 151) B dX3_all_150 rfl bo_or1 ?_
                      refine g_zast (q := 152) (L2 := [[(m, .inr (12, [.ref ls, .ref lb, .ref lk, .ref lp, .ref lr, .ref le, .ref lm, .ref lo, .int (nI th), .int z, .int (nI bo), .int (nI cm)]))], w2, [(n7, .inl (g.2.1 4, ss.length, .inl (upd f1 k (vp_nar .boolean (nI 1)))))], w3, w1]) B (k := 2) dX3_all_151 rfl rfl (vp_in_nI (by omega) (by omega)) (by rw [nI_clamp (by omega)] <;> rfl) ?_
                      obtain ⟨f151, ef151⟩ : ∃ f : Nat → Int32, f = upd f1 k (vp_nar .boolean (nI 1)) := ⟨_, rfl⟩
                      have hf151 : ∀ i, i < ss.length → f151 i = bI (fup K1 k true i) := by rw [ef151]; exact upd_bI hf1 _ true
                      rw [← ef151]
                      refine (show Go g κ 152 [some (.ref m), some (.ref p), some (.ref n7), some (.int (nI (if ch = true then 1 else 0))), some (.int (nI k)), some (.ref x70), some (.int (nI 1))] [] [[(m, .inr (12, [.ref ls, .ref lb, .ref lk, .ref lp, .ref lr, .ref le, .ref lm, .ref lo, .int (nI th), .int z, .int (nI bo), .int (nI cm)]))], w2, [(n7, .inl (g.2.1 4, ss.length, .inl f151))], w3, w1] (ss.length + 1 - fb_ct K ss.length) (4 * (ss.length + 1 - fb_ct K ss.length)) from ?_)
                      refine g_iinc (v := nI (k + 1)) (q := 155) (lv2 := [some (.ref m), some (.ref p), some (.ref n7), some (.int (nI (if ch = true then 1 else 0))), some (.int (nI (k + 1))), some (.ref x70), some (.int (nI 1))]) B dX3_all_152 rfl rfl (nI_add _ 1) (Nat.le_of_ble_eq_true rfl) rfl ?_
                      refine g_goto (tgt := 57) B dX3_all_155 (by decide) ?_
                      refine g_fg 5 rfl ?_
                      refine g_fg 6 rfl ?_
                      refine g_pk [0, 0, 2, 0, 0] rfl rfl ?_
                      refine (show Go g κ 57 [some (.ref m), some (.ref p), some (.ref n7), some (.int (nI (if ch = true then 1 else 0))), some (.int (nI (k + 1))), none, none] [] [[(m, .inr (12, [.ref ls, .ref lb, .ref lk, .ref lp, .ref lr, .ref le, .ref lm, .ref lo, .int (nI th), .int z, .int (nI bo), .int (nI cm)]))], w2, w1, [(n7, .inl (g.2.1 4, ss.length, .inl f151))], w3] (ss.length + 1 - fb_ct K ss.length) (4 * (ss.length + 1 - fb_ct K ss.length)) from ?_)
                      exact ih57 _ (by omega) (k + 1) ch f151 (sIns K1 k) (by omega) (by rw [← fup_sI]; exact hf151) (hz140.1) (hz140.2.1) (hz140.2.2) (fun h => by obtain ⟨x, x1, x2, x3⟩ := hct_ch h; exact ⟨x, x1, sIns_m x2, x3⟩) (fun h => by rw [← hcf_ch h]; funext x; rw [Bool.eq_iff_iff, sIns_iff]; exact ⟨fun z => z.elim id fun e => by rw [e]; exact c133, Or.inl⟩) rfl
                    · skip
                      refine g_iconst (v := nI 1) (q := 137) B dX3_all_136 rfl (by decide) ?_
                      refine g_goto (tgt := 141) B dX3_all_137 (by decide) ?_
                      refine g_ior (v := nI 1) (q := 142) B dX3_all_141 rfl bo_or1 ?_
                      refine g_istore_n (q := 143) (lv2 := [some (.ref m), some (.ref p), some (.ref n7), some (.int (nI 1)), some (.int (nI k)), some (.ref x70), some (.int (nI 1))]) B dX3_all_142 rfl (Nat.le_of_ble_eq_true rfl) rfl ?_
                      refine g_aload_n (q := 144) B dX3_all_143 rfl rfl (rv_r _) ?_
                      refine g_iload (q := 146) B dX3_all_144 rfl rfl ?_
                      refine g_dup2_11 (q := 147) B dX3_all_146 rfl rfl rfl ?_
                      refine g_zald (v := nI (if K1 k = true then 1 else 0)) (q := 148) B (k := 2) dX3_all_147 rfl rfl (vp_in_nI (by omega) (by omega)) (by rw [nI_clamp (by omega)]; exact hf1 _ (by omega)) ?_
                      refine g_iload (q := 150) B dX3_all_148 rfl rfl ?_
                      refine g_ior (v := nI 1) (q := 151) B dX3_all_150 rfl bo_or1 ?_
                      refine g_zast (q := 152) (L2 := [[(m, .inr (12, [.ref ls, .ref lb, .ref lk, .ref lp, .ref lr, .ref le, .ref lm, .ref lo, .int (nI th), .int z, .int (nI bo), .int (nI cm)]))], w2, [(n7, .inl (g.2.1 4, ss.length, .inl (upd f1 k (vp_nar .boolean (nI 1)))))], w3, w1]) B (k := 2) dX3_all_151 rfl rfl (vp_in_nI (by omega) (by omega)) (by rw [nI_clamp (by omega)] <;> rfl) ?_
                      obtain ⟨f151, ef151⟩ : ∃ f : Nat → Int32, f = upd f1 k (vp_nar .boolean (nI 1)) := ⟨_, rfl⟩
                      have hf151 : ∀ i, i < ss.length → f151 i = bI (fup K1 k true i) := by rw [ef151]; exact upd_bI hf1 _ true
                      rw [← ef151]
                      refine (show Go g κ 152 [some (.ref m), some (.ref p), some (.ref n7), some (.int (nI 1)), some (.int (nI k)), some (.ref x70), some (.int (nI 1))] [] [[(m, .inr (12, [.ref ls, .ref lb, .ref lk, .ref lp, .ref lr, .ref le, .ref lm, .ref lo, .int (nI th), .int z, .int (nI bo), .int (nI cm)]))], w2, [(n7, .inl (g.2.1 4, ss.length, .inl f151))], w3, w1] (ss.length + 1 - fb_ct K ss.length) (4 * (ss.length + 1 - fb_ct K ss.length)) from ?_)
                      refine g_iinc (v := nI (k + 1)) (q := 155) (lv2 := [some (.ref m), some (.ref p), some (.ref n7), some (.int (nI 1)), some (.int (nI (k + 1))), some (.ref x70), some (.int (nI 1))]) B dX3_all_152 rfl rfl (nI_add _ 1) (Nat.le_of_ble_eq_true rfl) rfl ?_
                      refine g_goto (tgt := 57) B dX3_all_155 (by decide) ?_
                      refine g_fg 5 rfl ?_
                      refine g_fg 6 rfl ?_
                      refine g_pk [0, 0, 2, 0, 0] rfl rfl ?_
                      refine (show Go g κ 57 [some (.ref m), some (.ref p), some (.ref n7), some (.int (nI 1)), some (.int (nI (k + 1))), none, none] [] [[(m, .inr (12, [.ref ls, .ref lb, .ref lk, .ref lp, .ref lr, .ref le, .ref lm, .ref lo, .int (nI th), .int z, .int (nI bo), .int (nI cm)]))], w2, w1, [(n7, .inl (g.2.1 4, ss.length, .inl f151))], w3] (ss.length + 1 - fb_ct K ss.length) (4 * (ss.length + 1 - fb_ct K ss.length)) from ?_)
                      exact ih57 _ (by omega) (k + 1) true f151 (sIns K1 k) (by omega) (by rw [← fup_sI]; exact hf151) (hz140.1) (hz140.2.1) (hz140.2.2) (fun _ => ⟨k, by omega, sIns_1 _ _, fun z => c133 (hsub k z)⟩) (fun h => by cases h) rfl
                  · skip
                    obtain ⟨v103, ev103⟩ := Option.ne_none_iff_exists'.mp c103
                    refine g_aload_n (q := 107) B dX3_all_106 rfl rfl (rv_r _) ?_
                    refine g_aload (q := 109) B dX3_all_107 rfl rfl (rv_r _) ?_
                    refine g_getNM (q := 112) B (ci := 14) (k := 4) (j := 2) in_X8 rfl dX3_all_109 rfl rfl (hc_7_0) (Nat.le_of_ble_eq_true rfl) q3186 rfl rfl ?_
                    refine g_stk (y := .int (nI v103)) (by rw [ev103]; rfl) ?_
                    have hv95 := hb70.2 hone _ ev103
                    refine g_zald (v := nI (if K1 v103 = true then 1 else 0)) (q := 113) B (k := 2) dX3_all_112 rfl rfl (vp_in_nI (by omega) (by omega)) (by rw [nI_clamp (by omega)]; exact hf1 _ (by omega)) ?_
                    refine g_if_eq (tgt := 120) (q := 116) B dX3_all_113 rfl (by decide) (bo_eq) (fun c113 => ?_) (fun c113 => ?_)
                    · skip
                      have hz140 := scn_n (s := r70) hr70 (fun hp => by obtain ⟨o, e, ho, hq⟩ := hp; exact c113 (hq v103 ev103)) hsub hcl
                      refine g_iconst (v := nI 0) (q := 121) B dX3_all_120 rfl (by decide) ?_
                      refine g_istore (q := 123) (lv2 := [some (.ref m), some (.ref p), some (.ref n7), some (.int (nI (if ch = true then 1 else 0))), some (.int (nI k)), some (.ref x70), some (.int (nI 0))]) B dX3_all_121 rfl (Nat.le_of_ble_eq_true rfl) rfl ?_
                      refine g_iload_n (q := 124) B dX3_all_123 rfl rfl ?_
                      refine g_iload (q := 126) B dX3_all_124 rfl rfl ?_
                      refine g_if_eq (tgt := 140) (q := 129) B dX3_all_126 rfl (by decide) (iff_true_intro (by decide)) (fun _ => ?_) (fun z => absurd trivial z)
                      refine g_iconst (v := nI 0) (q := 141) B dX3_all_140 rfl (by decide) ?_
                      refine g_ior (v := nI (if ch = true then 1 else 0)) (q := 142) B dX3_all_141 rfl (bo_or0 _) ?_
                      refine g_istore_n (q := 143) (lv2 := [some (.ref m), some (.ref p), some (.ref n7), some (.int (nI (if ch = true then 1 else 0))), some (.int (nI k)), some (.ref x70), some (.int (nI 0))]) B dX3_all_142 rfl (Nat.le_of_ble_eq_true rfl) rfl ?_
                      refine g_aload_n (q := 144) B dX3_all_143 rfl rfl (rv_r _) ?_
                      refine g_iload (q := 146) B dX3_all_144 rfl rfl ?_
                      refine g_dup2_11 (q := 147) B dX3_all_146 rfl rfl rfl ?_
                      refine g_zald (v := nI (if K1 k = true then 1 else 0)) (q := 148) B (k := 2) dX3_all_147 rfl rfl (vp_in_nI (by omega) (by omega)) (by rw [nI_clamp (by omega)]; exact hf1 _ (by omega)) ?_
                      refine g_iload (q := 150) B dX3_all_148 rfl rfl ?_
                      refine g_ior (v := nI (if K1 k = true then 1 else 0)) (q := 151) B dX3_all_150 rfl (bo_or0 _) ?_
                      refine g_zast (q := 152) (L2 := [[(m, .inr (12, [.ref ls, .ref lb, .ref lk, .ref lp, .ref lr, .ref le, .ref lm, .ref lo, .int (nI th), .int z, .int (nI bo), .int (nI cm)]))], w2, [(n7, .inl (g.2.1 4, ss.length, .inl (upd f1 k (vp_nar .boolean (nI (if K1 k = true then 1 else 0))))))], w3, w1]) B (k := 2) dX3_all_151 rfl rfl (vp_in_nI (by omega) (by omega)) (by rw [nI_clamp (by omega)] <;> rfl) ?_
                      obtain ⟨f151, ef151⟩ : ∃ f : Nat → Int32, f = upd f1 k (vp_nar .boolean (nI (if K1 k = true then 1 else 0))) := ⟨_, rfl⟩
                      have hf151 : ∀ i, i < ss.length → f151 i = bI (fup K1 k (K1 k) i) := by rw [ef151]; exact upd_bI hf1 _ (K1 k)
                      rw [← ef151]
                      refine (show Go g κ 152 [some (.ref m), some (.ref p), some (.ref n7), some (.int (nI (if ch = true then 1 else 0))), some (.int (nI k)), some (.ref x70), some (.int (nI 0))] [] [[(m, .inr (12, [.ref ls, .ref lb, .ref lk, .ref lp, .ref lr, .ref le, .ref lm, .ref lo, .int (nI th), .int z, .int (nI bo), .int (nI cm)]))], w2, [(n7, .inl (g.2.1 4, ss.length, .inl f151))], w3, w1] (ss.length + 1 - fb_ct K ss.length) (4 * (ss.length + 1 - fb_ct K ss.length)) from ?_)
                      refine g_iinc (v := nI (k + 1)) (q := 155) (lv2 := [some (.ref m), some (.ref p), some (.ref n7), some (.int (nI (if ch = true then 1 else 0))), some (.int (nI (k + 1))), some (.ref x70), some (.int (nI 0))]) B dX3_all_152 rfl rfl (nI_add _ 1) (Nat.le_of_ble_eq_true rfl) rfl ?_
                      refine g_goto (tgt := 57) B dX3_all_155 (by decide) ?_
                      refine g_fg 5 rfl ?_
                      refine g_fg 6 rfl ?_
                      refine g_pk [0, 0, 2, 0, 0] rfl rfl ?_
                      refine (show Go g κ 57 [some (.ref m), some (.ref p), some (.ref n7), some (.int (nI (if ch = true then 1 else 0))), some (.int (nI (k + 1))), none, none] [] [[(m, .inr (12, [.ref ls, .ref lb, .ref lk, .ref lp, .ref lr, .ref le, .ref lm, .ref lo, .int (nI th), .int z, .int (nI bo), .int (nI cm)]))], w2, w1, [(n7, .inl (g.2.1 4, ss.length, .inl f151))], w3] (ss.length + 1 - fb_ct K ss.length) (4 * (ss.length + 1 - fb_ct K ss.length)) from ?_)
                      exact ih57 _ (by omega) (k + 1) ch f151 K1 (by omega) (by have z := hf151; rw [fup_self] at z; exact z) (hsub) (hsd1) (hz140) (fun h => by obtain ⟨x, x1, x2, x3⟩ := hct_ch h; exact ⟨x, x1, x2, x3⟩) (hcf_ch) rfl
                    · skip
                      have c113 := Classical.not_not.mp c113
                      have hpr : prm K1 r70 := ⟨v84, ev84, c94, fun q e => by rw [ev103] at e; cases e; exact c113⟩
                      have hz140 := scn_y (vs := vs) (bx := bx) hr70 hpr hsub hsd1 hcl
                      refine g_iconst (v := nI 1) (q := 117) B dX3_all_116 rfl (by decide) ?_
                      refine g_goto (tgt := 121) B dX3_all_117 (by decide) ?_
                      refine g_istore (q := 123) (lv2 := [some (.ref m), some (.ref p), some (.ref n7), some (.int (nI (if ch = true then 1 else 0))), some (.int (nI k)), some (.ref x70), some (.int (nI 1))]) B dX3_all_121 rfl (Nat.le_of_ble_eq_true rfl) rfl ?_
                      refine g_iload_n (q := 124) B dX3_all_123 rfl rfl ?_
                      refine g_iload (q := 126) B dX3_all_124 rfl rfl ?_
                      refine g_if_eq (tgt := 140) (q := 129) B dX3_all_126 rfl (by decide) (iff_false_intro (by decide)) (fun z => z.elim) (fun _ => ?_)
                      refine g_aload_n (q := 130) B dX3_all_129 rfl rfl (rv_r _) ?_
                      refine g_iload (q := 132) B dX3_all_130 rfl rfl ?_
                      refine g_zald (v := nI (if K1 k = true then 1 else 0)) (q := 133) B (k := 2) dX3_all_132 rfl rfl (vp_in_nI (by omega) (by omega)) (by rw [nI_clamp (by omega)]; exact hf1 _ (by omega)) ?_
                      refine g_if_ne (tgt := 140) (q := 136) B dX3_all_133 rfl (by decide) (bo_ne) (fun c133 => ?_) (fun c133 => ?_)
                      · skip
                        refine g_iconst (v := nI 0) (q := 141) B dX3_all_140 rfl (by decide) ?_
                        refine g_ior (v := nI (if ch = true then 1 else 0)) (q := 142) B dX3_all_141 rfl (bo_or0 _) ?_
                        refine g_istore_n (q := 143) (lv2 := [some (.ref m), some (.ref p), some (.ref n7), some (.int (nI (if ch = true then 1 else 0))), some (.int (nI k)), some (.ref x70), some (.int (nI 1))]) B dX3_all_142 rfl (Nat.le_of_ble_eq_true rfl) rfl ?_
                        refine g_aload_n (q := 144) B dX3_all_143 rfl rfl (rv_r _) ?_
                        refine g_iload (q := 146) B dX3_all_144 rfl rfl ?_
                        refine g_dup2_11 (q := 147) B dX3_all_146 rfl rfl rfl ?_
                        refine g_zald (v := nI (if K1 k = true then 1 else 0)) (q := 148) B (k := 2) dX3_all_147 rfl rfl (vp_in_nI (by omega) (by omega)) (by rw [nI_clamp (by omega)]; exact hf1 _ (by omega)) ?_
                        refine g_iload (q := 150) B dX3_all_148 rfl rfl ?_
                        refine g_ior (v := nI 1) (q := 151) B dX3_all_150 rfl bo_or1 ?_
                        refine g_zast (q := 152) (L2 := [[(m, .inr (12, [.ref ls, .ref lb, .ref lk, .ref lp, .ref lr, .ref le, .ref lm, .ref lo, .int (nI th), .int z, .int (nI bo), .int (nI cm)]))], w2, [(n7, .inl (g.2.1 4, ss.length, .inl (upd f1 k (vp_nar .boolean (nI 1)))))], w3, w1]) B (k := 2) dX3_all_151 rfl rfl (vp_in_nI (by omega) (by omega)) (by rw [nI_clamp (by omega)] <;> rfl) ?_
                        obtain ⟨f151, ef151⟩ : ∃ f : Nat → Int32, f = upd f1 k (vp_nar .boolean (nI 1)) := ⟨_, rfl⟩
                        have hf151 : ∀ i, i < ss.length → f151 i = bI (fup K1 k true i) := by rw [ef151]; exact upd_bI hf1 _ true
                        rw [← ef151]
                        refine (show Go g κ 152 [some (.ref m), some (.ref p), some (.ref n7), some (.int (nI (if ch = true then 1 else 0))), some (.int (nI k)), some (.ref x70), some (.int (nI 1))] [] [[(m, .inr (12, [.ref ls, .ref lb, .ref lk, .ref lp, .ref lr, .ref le, .ref lm, .ref lo, .int (nI th), .int z, .int (nI bo), .int (nI cm)]))], w2, [(n7, .inl (g.2.1 4, ss.length, .inl f151))], w3, w1] (ss.length + 1 - fb_ct K ss.length) (4 * (ss.length + 1 - fb_ct K ss.length)) from ?_)
                        refine g_iinc (v := nI (k + 1)) (q := 155) (lv2 := [some (.ref m), some (.ref p), some (.ref n7), some (.int (nI (if ch = true then 1 else 0))), some (.int (nI (k + 1))), some (.ref x70), some (.int (nI 1))]) B dX3_all_152 rfl rfl (nI_add _ 1) (Nat.le_of_ble_eq_true rfl) rfl ?_
                        refine g_goto (tgt := 57) B dX3_all_155 (by decide) ?_
                        refine g_fg 5 rfl ?_
                        refine g_fg 6 rfl ?_
                        refine g_pk [0, 0, 2, 0, 0] rfl rfl ?_
                        refine (show Go g κ 57 [some (.ref m), some (.ref p), some (.ref n7), some (.int (nI (if ch = true then 1 else 0))), some (.int (nI (k + 1))), none, none] [] [[(m, .inr (12, [.ref ls, .ref lb, .ref lk, .ref lp, .ref lr, .ref le, .ref lm, .ref lo, .int (nI th), .int z, .int (nI bo), .int (nI cm)]))], w2, w1, [(n7, .inl (g.2.1 4, ss.length, .inl f151))], w3] (ss.length + 1 - fb_ct K ss.length) (4 * (ss.length + 1 - fb_ct K ss.length)) from ?_)
                        exact ih57 _ (by omega) (k + 1) ch f151 (sIns K1 k) (by omega) (by rw [← fup_sI]; exact hf151) (hz140.1) (hz140.2.1) (hz140.2.2) (fun h => by obtain ⟨x, x1, x2, x3⟩ := hct_ch h; exact ⟨x, x1, sIns_m x2, x3⟩) (fun h => by rw [← hcf_ch h]; funext x; rw [Bool.eq_iff_iff, sIns_iff]; exact ⟨fun z => z.elim id fun e => by rw [e]; exact c133, Or.inl⟩) rfl
                      · skip
                        refine g_iconst (v := nI 1) (q := 137) B dX3_all_136 rfl (by decide) ?_
                        refine g_goto (tgt := 141) B dX3_all_137 (by decide) ?_
                        refine g_ior (v := nI 1) (q := 142) B dX3_all_141 rfl bo_or1 ?_
                        refine g_istore_n (q := 143) (lv2 := [some (.ref m), some (.ref p), some (.ref n7), some (.int (nI 1)), some (.int (nI k)), some (.ref x70), some (.int (nI 1))]) B dX3_all_142 rfl (Nat.le_of_ble_eq_true rfl) rfl ?_
                        refine g_aload_n (q := 144) B dX3_all_143 rfl rfl (rv_r _) ?_
                        refine g_iload (q := 146) B dX3_all_144 rfl rfl ?_
                        refine g_dup2_11 (q := 147) B dX3_all_146 rfl rfl rfl ?_
                        refine g_zald (v := nI (if K1 k = true then 1 else 0)) (q := 148) B (k := 2) dX3_all_147 rfl rfl (vp_in_nI (by omega) (by omega)) (by rw [nI_clamp (by omega)]; exact hf1 _ (by omega)) ?_
                        refine g_iload (q := 150) B dX3_all_148 rfl rfl ?_
                        refine g_ior (v := nI 1) (q := 151) B dX3_all_150 rfl bo_or1 ?_
                        refine g_zast (q := 152) (L2 := [[(m, .inr (12, [.ref ls, .ref lb, .ref lk, .ref lp, .ref lr, .ref le, .ref lm, .ref lo, .int (nI th), .int z, .int (nI bo), .int (nI cm)]))], w2, [(n7, .inl (g.2.1 4, ss.length, .inl (upd f1 k (vp_nar .boolean (nI 1)))))], w3, w1]) B (k := 2) dX3_all_151 rfl rfl (vp_in_nI (by omega) (by omega)) (by rw [nI_clamp (by omega)] <;> rfl) ?_
                        obtain ⟨f151, ef151⟩ : ∃ f : Nat → Int32, f = upd f1 k (vp_nar .boolean (nI 1)) := ⟨_, rfl⟩
                        have hf151 : ∀ i, i < ss.length → f151 i = bI (fup K1 k true i) := by rw [ef151]; exact upd_bI hf1 _ true
                        rw [← ef151]
                        refine (show Go g κ 152 [some (.ref m), some (.ref p), some (.ref n7), some (.int (nI 1)), some (.int (nI k)), some (.ref x70), some (.int (nI 1))] [] [[(m, .inr (12, [.ref ls, .ref lb, .ref lk, .ref lp, .ref lr, .ref le, .ref lm, .ref lo, .int (nI th), .int z, .int (nI bo), .int (nI cm)]))], w2, [(n7, .inl (g.2.1 4, ss.length, .inl f151))], w3, w1] (ss.length + 1 - fb_ct K ss.length) (4 * (ss.length + 1 - fb_ct K ss.length)) from ?_)
                        refine g_iinc (v := nI (k + 1)) (q := 155) (lv2 := [some (.ref m), some (.ref p), some (.ref n7), some (.int (nI 1)), some (.int (nI (k + 1))), some (.ref x70), some (.int (nI 1))]) B dX3_all_152 rfl rfl (nI_add _ 1) (Nat.le_of_ble_eq_true rfl) rfl ?_
                        refine g_goto (tgt := 57) B dX3_all_155 (by decide) ?_
                        refine g_fg 5 rfl ?_
                        refine g_fg 6 rfl ?_
                        refine g_pk [0, 0, 2, 0, 0] rfl rfl ?_
                        refine (show Go g κ 57 [some (.ref m), some (.ref p), some (.ref n7), some (.int (nI 1)), some (.int (nI (k + 1))), none, none] [] [[(m, .inr (12, [.ref ls, .ref lb, .ref lk, .ref lp, .ref lr, .ref le, .ref lm, .ref lo, .int (nI th), .int z, .int (nI bo), .int (nI cm)]))], w2, w1, [(n7, .inl (g.2.1 4, ss.length, .inl f151))], w3] (ss.length + 1 - fb_ct K ss.length) (4 * (ss.length + 1 - fb_ct K ss.length)) from ?_)
                        exact ih57 _ (by omega) (k + 1) true f151 (sIns K1 k) (by omega) (by rw [← fup_sI]; exact hf151) (hz140.1) (hz140.2.1) (hz140.2.2) (fun _ => ⟨k, by omega, sIns_1 _ _, fun z => c133 (hsub k z)⟩) (fun h => by cases h) rfl
          exact lp57 _ 0 false f K (Nat.zero_le _) (hf) (fun _ h => h) (hsd) (fun i r h => absurd h (Nat.not_lt_zero i)) (fun h => by cases h) (fun _ => rfl) rfl
      refine g_pk [0, 0, 0, 0, 1] rfl rfl ?_
      refine (show Go g κ 48 [some (.ref m), some (.ref p), some (.ref n7), some (.int (nI 1)), none, none, none] [] [[(m, .inr (12, [.ref ls, .ref lb, .ref lk, .ref lp, .ref lr, .ref le, .ref lm, .ref lo, .int (nI th), .int z, .int (nI bo), .int (nI cm)]))], w2, w1, [(n7, .inl (g.2.1 4, ss.length, .inl f1))], w3] ((3 + ss.length) - 2) (((8 + 5 * ss.length) - ss.length) - 4) from ?_)
      refine g_room (kc2 := (if true = true then ss.length + 1 - fb_ct K1 ss.length else 0)) (ks2 := 4 * (if true = true then ss.length + 1 - fb_ct K1 ss.length else 0)) (by first | (rw [if_pos rfl]; omega) | (rw [if_neg (by decide)]; omega) | (split <;> omega)) (by first | (rw [if_pos rfl]; omega) | (rw [if_neg (by decide)]; omega) | (split <;> omega)) ?_
      exact lp48 _ true f1 K1 (hf1) (by rw [show k = vs.length by omega, List.take_length] at hin; exact hin) (hsd) (fun h => by cases h) rfl
    · skip
      have c21 := Classical.not_not.mp c21
      refine g_aload_n (q := 25) B dX3_all_24 rfl rfl (rv_r _) ?_
      obtain ⟨r25, hr25⟩ := get_ex (xs := vs) (i := k) (by omega)
      obtain ⟨x25, hx25⟩ := get_ex (xs := ps_2) (i := k) (by have := get_lt2 hr25; have := hln_2.1; omega)
      have hb_8 := Sub.box (hel_2 _ _ _ hx25 hr25)
      refine g_callF (q := 30) (is := [4, 4]) (kc2 := (3 + ss.length) - 2) (ks2 := ((8 + 5 * ss.length) - ss.length) - 4) B [] (ct_J19_next_s g J (p := p) (xs := ps_2) (md := md_2) (cap := capv) (it := it11) (c := k) (lr := lrt) (x := x25) (W1 := w3)  (hli_2) (hx25)) dX3_all_25 rfl (ci := 22) rfl (rc_at B (ci := 22) rfl (k := 4) rfl) q3236 q967 q969 q104 q971 q966 q965 q970 q968 q939 rfl rfl mojava_util_Iterator_next___Ljava_lang_Object_ rfl rfl (by decide) (by decide) (Nat.le_of_ble_eq_true rfl) (by omega) (by omega) (fun _ _ hx => noX_x hx) (fun v25 L1 hp25 => ?_)
      obtain ⟨rfl, rfl⟩ := hp25
      refine (show Go g κ 30 [some (.ref m), some (.ref p), some (.ref n7), some (.ref it11), none, none, none] [.ref x25] [[(m, .inr (12, [.ref ls, .ref lb, .ref lk, .ref lp, .ref lr, .ref le, .ref lm, .ref lo, .int (nI th), .int z, .int (nI bo), .int (nI cm)]))], w2, w1, [(n7, .inl (g.2.1 4, ss.length, .inl f1))], [(it11, .inr (22, [.int (nI (k + 1)), .int (nI k), .int md_2, .ref p]))], w3] ((3 + ss.length) - 2) (((8 + 5 * ss.length) - ss.length) - 4) from ?_)
      refine g_castRS (ci := 35) (q := 33) B rfl (rc_bxat B J (k := 5) rfl hb_8) dX3_all_30 rfl q3240 ?_
      refine g_callV (q := 36) (is := [5]) (kc2 := (3 + ss.length) - 2) (ks2 := ((8 + 5 * ss.length) - ss.length) - 4) B [] (ct_J26_intValue_b g J (a := x25) (v := nI r25) (wb := w3)  (hb_8)) dX3_all_33 rfl (rc_bxat B J (k := 5) rfl hb_8) rfl q3241 q1052 q1053 q111 q1054 rfl rfl moJ26_intValue rfl rfl (by decide) (by decide) (Nat.le_of_ble_eq_true rfl) (by omega) (by omega) (fun _ _ hx => noX_x hx) (fun v33 L1 hp33 => ?_)
      obtain ⟨rfl, rfl⟩ := hp33
      refine (show Go g κ 36 [some (.ref m), some (.ref p), some (.ref n7), some (.ref it11), none, none, none] [.int (nI r25)] [[(m, .inr (12, [.ref ls, .ref lb, .ref lk, .ref lp, .ref lr, .ref le, .ref lm, .ref lo, .int (nI th), .int z, .int (nI bo), .int (nI cm)]))], w2, w1, [(n7, .inl (g.2.1 4, ss.length, .inl f1))], [(it11, .inr (22, [.int (nI (k + 1)), .int (nI k), .int md_2, .ref p]))], w3] ((3 + ss.length) - 2) (((8 + 5 * ss.length) - ss.length) - 4) from ?_)
      refine g_istore (q := 38) (lv2 := [some (.ref m), some (.ref p), some (.ref n7), some (.ref it11), some (.int (nI r25)), none, none]) B dX3_all_36 rfl (Nat.le_of_ble_eq_true rfl) rfl ?_
      have hv25 := hvs _ (List.mem_of_getElem? hr25)
      refine g_aload_n (q := 39) B dX3_all_38 rfl rfl (rv_r _) ?_
      refine g_iload (q := 41) B dX3_all_39 rfl rfl ?_
      refine g_iconst (v := nI 1) (q := 42) B dX3_all_41 rfl (by decide) ?_
      refine g_zast (q := 43) (L2 := [[(m, .inr (12, [.ref ls, .ref lb, .ref lk, .ref lp, .ref lr, .ref le, .ref lm, .ref lo, .int (nI th), .int z, .int (nI bo), .int (nI cm)]))], w2, w1, [(n7, .inl (g.2.1 4, ss.length, .inl (upd f1 r25 (vp_nar .boolean (nI 1)))))], [(it11, .inr (22, [.int (nI (k + 1)), .int (nI k), .int md_2, .ref p]))], w3]) B (k := 3) dX3_all_42 rfl rfl (vp_in_nI (by omega) (by omega)) (by rw [nI_clamp (by omega)] <;> rfl) ?_
      obtain ⟨f42, ef42⟩ : ∃ f : Nat → Int32, f = upd f1 r25 (vp_nar .boolean (nI 1)) := ⟨_, rfl⟩
      have hf42 : ∀ i, i < ss.length → f42 i = bI (fup K1 r25 true i) := by rw [ef42]; exact upd_bI hf1 _ true
      rw [← ef42]
      refine (show Go g κ 43 [some (.ref m), some (.ref p), some (.ref n7), some (.ref it11), some (.int (nI r25)), none, none] [] [[(m, .inr (12, [.ref ls, .ref lb, .ref lk, .ref lp, .ref lr, .ref le, .ref lm, .ref lo, .int (nI th), .int z, .int (nI bo), .int (nI cm)]))], w2, w1, [(n7, .inl (g.2.1 4, ss.length, .inl f42))], [(it11, .inr (22, [.int (nI (k + 1)), .int (nI k), .int md_2, .ref p]))], w3] ((3 + ss.length) - 2) (((8 + 5 * ss.length) - ss.length) - 4) from ?_)
      refine g_goto (tgt := 15) B dX3_all_43 (by decide) ?_
      refine g_fg 4 rfl ?_
      exact ih15 _ (by have := get_lt2 hr25; omega) (k + 1) (nI k) f42 (sIns K1 r25) (by first | assumption | omega | rfl) (by rw [← fup_sI]; exact hf42) (fun v h => by rw [List.take_add_one, hr25] at h; rcases List.mem_append.mp h with h | h; exact sIns_m (hin v h); simp at h; rw [h]; exact sIns_1 _ _) (fun x h => by rcases sIns_o h with rfl | h; exact ⟨ClK.of _ (List.mem_of_getElem? hr25), hvs _ (List.mem_of_getElem? hr25)⟩; exact hsd x h) rfl
  exact lp15 _ 0 (-1) (fun _ => 0) (fun _ => false) (Nat.zero_le _) (fun _ _ => rfl) (fun v h => absurd h (by simp)) (fun x h => by cases h) rfl
