set_option maxRecDepth 100000
theorem gx_cl {g : Gv} {κ : Kx} {E : String} {pc : Nat} {lv : List (Option Value)} {st : List Value} {L Lc Lr : List va_W} {kc ks : Nat} (is : List Nat) (h : xt L is = (Lc, Lr)) (kk : Gx g κ E pc lv st [Lc.flatten] kc ks) : Gx g κ E pc lv st L kc ks := by
  obtain ⟨p, l, e, R, s, m, args, below, meth, c, A, mc, ms, Q⟩ := κ
  intro H locs cells slots ls q ce h1 h2 h3 h4
  exact kk H locs cells slots ls q ce h1 h2 h3 ((h4.xt h).left.eq (by simp))
/-- Keygrove: secrets, boxes, z; persons, packages, proposals, trees, steps, messages, stolen, number of boxes -/
abbrev KsS : Type := List Sec × List (Nat × Nat) × Int32 × List PeS × List PkS × List PrS × List TrS × List StS × List MsS × (Nat → Bool) × Nat
abbrev zSs (C : KsS) : List Sec := C.1
abbrev zBx (C : KsS) : List (Nat × Nat) := C.2.1
abbrev zZz (C : KsS) : Int32 := C.2.2.1
abbrev zPs (C : KsS) : List PeS := C.2.2.2.1
abbrev zKs (C : KsS) : List PkS := C.2.2.2.2.1
abbrev zRs (C : KsS) : List PrS := C.2.2.2.2.2.1
abbrev zTs (C : KsS) : List TrS := C.2.2.2.2.2.2.1
abbrev zSt (C : KsS) : List StS := C.2.2.2.2.2.2.2.1
abbrev zMs (C : KsS) : List MsS := C.2.2.2.2.2.2.2.2.1
abbrev zSo (C : KsS) : Nat → Bool := C.2.2.2.2.2.2.2.2.2.1
abbrev zBn (C : KsS) : Nat := C.2.2.2.2.2.2.2.2.2.2
/-- numbers that are kept -/
def KsB (C : KsS) : Prop := (zSs C).length ≤ 900 ∧ (zBx C).length ≤ 1900 ∧ (zPs C).length ≤ 10 ∧ (zKs C).length ≤ 24 ∧ (zRs C).length ≤ 8 ∧ (zTs C).length ≤ 24 ∧ (zSt C).length = (zTs C).length ∧ (zMs C).length ≤ 40 ∧ zBn C ≤ 1900 ∧ (∀ x, zSo C x = true → x < (zSs C).length) ∧ ∀ (i : Nat) (r : PeS), (zPs C)[i]? = some r → pNo r = i ∧ (∀ k ∈ pPk r, k < (zKs C).length) ∧ (∀ x, helP (zKs C) r x → x < (zSs C).length) ∧ ∀ x, pEv r x = true → x < (zSs C).length
def capB (a b c d e f s : Nat) : Prop := a ≤ 60 ∧ b ≤ 60 ∧ c ≤ 60 ∧ d ≤ 60 ∧ e ≤ 60 ∧ f ≤ 100 ∧ s ≤ 60
def KgP (g : Gv) (x : Nat) (C : KsS) (w : va_W) : Prop := ∃ (b : Nat) (lp : Nat) (lk : Nat) (lr : Nat) (lt : Nat) (ls : Nat) (lm : Nat) (so : Nat) (pcap : Nat) (kcap : Nat) (rcap : Nat) (tcap : Nat) (scap : Nat) (mcap : Nat) (socap : Nat) (ps : List Nat) (pks : List Nat) (pmd : Int32) (v0 : va_W) (v1 : va_W) (v2 : va_W) (v3 : va_W) (v4 : va_W) (v5 : va_W) (v6 : va_W) (v7 : va_W), (capB pcap kcap rcap tcap scap mcap socap) ∧ BookP g b (zSs C) (zBx C) (zZz C) v0 ∧ PersL g lp ps (zPs C) pcap x pks pmd v1 ∧ LoP g (PackP g) lk pks (zKs C) kcap v2 ∧ PropL g lr (zRs C) rcap pks v3 ∧ LhP g (TreeP g) lt (zTs C) tcap v4 ∧ LhP g (StepP g) ls (zSt C) scap v5 ∧ LhP g (MsgP g) lm (zMs C) mcap v6 ∧ SetP g so (zSo C) socap v7 ∧ w = ([[(x, .inr (0, [.ref b, .ref lp, .ref lk, .ref lr, .ref lt, .ref ls, .ref lm, .ref so, .int (nI (zBn C))]))], v0, v1, v2, v3, v4, v5, v6, v7] : List va_W).flatten
theorem KgP.hm {g : Gv} {x : Nat} {C : KsS} {w : va_W} (h : KgP g x C w) : ∃ fs, (x, .inr (0, fs)) ∈ w := by
  obtain ⟨b, lp, lk, lr, lt, ls, lm, so, pcap, kcap, rcap, tcap, scap, mcap, socap, ps, pks, pmd, v0, v1, v2, v3, v4, v5, v6, v7, hcap, hv0, hv1, hv2, hv3, hv4, hv5, hv6, hv7, rfl⟩ := h
  exact ⟨_, List.mem_cons_self⟩
theorem KgP.vd {g : Gv} {x : Nat} {C : KsS} {w : va_W} (h : KgP g x C w) : Vd g x w := by
  obtain ⟨fs, h⟩ := KgP.hm h
  exact Or.inl ⟨0, fs, by decide, h⟩
theorem KgP.at {g : Gv} {x : Nat} {C : KsS} {W : va_W} (h : Sub (KgP g x C) W) : ∃ (b : Nat) (lp : Nat) (lk : Nat) (lr : Nat) (lt : Nat) (ls : Nat) (lm : Nat) (so : Nat) (pcap : Nat) (kcap : Nat) (rcap : Nat) (tcap : Nat) (scap : Nat) (mcap : Nat) (socap : Nat) (ps : List Nat) (pks : List Nat) (pmd : Int32), (capB pcap kcap rcap tcap scap mcap socap) ∧ (x, .inr (0, [.ref b, .ref lp, .ref lk, .ref lr, .ref lt, .ref ls, .ref lm, .ref so, .int (nI (zBn C))])) ∈ W ∧ Sub (BookP g b (zSs C) (zBx C) (zZz C)) W ∧ Sub (PersL g lp ps (zPs C) pcap x pks pmd) W ∧ Sub (LoP g (PackP g) lk pks (zKs C) kcap) W ∧ Sub (PropL g lr (zRs C) rcap pks) W ∧ Sub (LhP g (TreeP g) lt (zTs C) tcap) W ∧ Sub (LhP g (StepP g) ls (zSt C) scap) W ∧ Sub (LhP g (MsgP g) lm (zMs C) mcap) W ∧ Sub (SetP g so (zSo C) socap) W := by
  obtain ⟨w, R, hp, h⟩ := h
  obtain ⟨b, lp, lk, lr, lt, ls, lm, so, pcap, kcap, rcap, tcap, scap, mcap, socap, ps, pks, pmd, v0, v1, v2, v3, v4, v5, v6, v7, hcap, hv0, hv1, hv2, hv3, hv4, hv5, hv6, hv7, rfl⟩ := h
  exact ⟨b, lp, lk, lr, lt, ls, lm, so, pcap, kcap, rcap, tcap, scap, mcap, socap, ps, pks, pmd, hcap, sub_c hp 0 rfl, Sub.in hp rfl 1 rfl hv0, Sub.in hp rfl 2 rfl hv1, Sub.in hp rfl 3 rfl hv2, Sub.in hp rfl 4 rfl hv3, Sub.in hp rfl 5 rfl hv4, Sub.in hp rfl 6 rfl hv5, Sub.in hp rfl 7 rfl hv6, Sub.in hp rfl 8 rfl hv7⟩
theorem moX1_can : Mo yX1_can 1 := by
  refine ⟨by decide, by decide, by decide +kernel⟩
theorem ct_X1_isGroup (g : Gv) (J : Jd g) {x : Nat} {lk : Nat} {b : Nat} {lp : Nat} {lr : Nat} {lt : Nat} {ls : Nat} {lm : Nat} {so : Nat} {bxs : Nat} {Ts : List TrS} {tcap : Nat} {w1 : va_W} (hw1 : LhP g (TreeP g) lt Ts tcap w1) : Ct g yX1_isGroup (ws_ yX1_isGroup cX1_isGroup 1 none) 9 1 6 [.ref x] [[(x, .inr (0, [.ref b, .ref lp, .ref lk, .ref lr, .ref lt, .ref ls, .ref lm, .ref so, .int (nI bxs)]))], w1] (fun (rv_ : Option Value) (rL_ : List va_W) => rv_ = none ∧ rL_ = [[(x, .inr (0, [.ref b, .ref lp, .ref lk, .ref lr, .ref lt, .ref ls, .ref lm, .ref so, .int (nI bxs)]))], w1] ∧ (Ts ≠ [])) (fun (rE_ : String) (rL_ : List va_W) => rL_ = [[(x, .inr (0, [.ref b, .ref lp, .ref lk, .ref lr, .ref lt, .ref ls, .ref lm, .ref so, .int (nI bxs)]))], w1] ∧ ((rE_ = "java/lang/UnsupportedOperationException" ∧ (¬ Ts ≠ [])))) := by
  refine Ct.of "Keygrove" [some (.ref x)] rfl (by decide) rfl (Nat.le_of_ble_eq_true rfl) rfl ?_
  intro κ B E tb
  refine g_aload_n (q := 1) B dX1_isGroup_0 rfl rfl (rv_r _) ?_
  refine g_get (q := 4) B (ci := 0) (k := 0) (j := 4) in_X1 rfl dX1_isGroup_1 rfl rfl (Nat.le_of_ble_eq_true rfl) q282 rfl rfl ?_
  obtain ⟨ps_1, md_1, hli_1, hln_1, hel_1⟩ := LhP.at (Sub.self hw1)
  refine g_callF (q := 9) (is := [1]) (kc2 := 1) (ks2 := 6) B [] (ct_J2_isEmpty_s g J (p := lt) (xs := ps_1) (md := md_1) (cap := tcap) (W0 := w1)  (hli_1)) dX1_isGroup_4 rfl (ci := 21) rfl (rc_in B (ci := 21) rfl (k := 1) rfl (LhP.hm hw1)) q1125 q1128 q1130 q81 q1132 q1127 q1126 q1131 q1129 q318 rfl rfl mojava_util_List_isEmpty___Z rfl rfl (by decide) (by decide) (Nat.le_of_ble_eq_true rfl) (Nat.le_of_ble_eq_true rfl) (Nat.le_of_ble_eq_true rfl) (fun _ _ hx => noX_x hx) (fun v4 L1 hp4 => ?_)
  obtain ⟨rfl, rfl⟩ := hp4
  refine (show Go g κ 9 [some (.ref x)] [.int (nI (if ps_1.length = 0 then 1 else 0))] [[(x, .inr (0, [.ref b, .ref lp, .ref lk, .ref lr, .ref lt, .ref ls, .ref lm, .ref so, .int (nI bxs)]))], w1] 1 6 from ?_)
  rw [hln_1.1]
  refine (show Go g κ 9 [some (.ref x)] [.int (nI (if Ts.length = 0 then 1 else 0))] [[(x, .inr (0, [.ref b, .ref lp, .ref lk, .ref lr, .ref lt, .ref ls, .ref lm, .ref so, .int (nI bxs)]))], w1] 1 6 from ?_)
  refine g_if_ne (tgt := 16) (q := 12) B dX1_isGroup_9 rfl (by decide) (bo_ne) (fun c9 => ?_) (fun c9 => ?_)
  · skip
    refine g_iconst (v := nI 0) (q := 17) B dX1_isGroup_16 rfl (by decide) ?_
    refine g_callS (q := 20) (is := []) (kc2 := 0) (ks2 := 0) B [.int (nI 0)] (ct_X1_can g J (c := False) (dc := instDecidableFalse)  ) dX1_isGroup_17 rfl q2331 q2332 q77 q2333 rfl rfl moX1_can rfl rfl (by decide) (by decide) (Nat.le_of_ble_eq_true rfl) (Nat.le_of_ble_eq_true rfl) (Nat.le_of_ble_eq_true rfl) (fun E17 L1 hx17 => ?_) (fun v17 L1 hp17 => ?_)
    · skip
      obtain ⟨rfl, hx17⟩ := hx17
      obtain ⟨rfl, hx17⟩ := hx17
      refine gx_pk [0, 0] rfl rfl ?_
      exact g_out B E tb (by first | exact ⟨rfl, ⟨rfl, hx17⟩⟩ | exact ⟨rfl, ⟨rfl, fun z => z (List.length_eq_zero_iff.mp c9)⟩⟩ | exact ⟨rfl, ⟨rfl, by simp_all⟩⟩)
    obtain ⟨rfl, rfl, ht_17⟩ := hp17
    exact ht_17.elim
  · skip
    have hne : Ts ≠ [] := fun z => c9 (by rw [z]; rfl)
    refine g_iconst (v := nI 1) (q := 13) B dX1_isGroup_12 rfl (by decide) ?_
    refine g_goto (tgt := 17) B dX1_isGroup_13 (by decide) ?_
    refine g_callS (q := 20) (is := []) (kc2 := 0) (ks2 := 0) B [.int (nI 1)] (ct_X1_can g J (c := True) (dc := instDecidableTrue)  ) dX1_isGroup_17 rfl q2331 q2332 q77 q2333 rfl rfl moX1_can rfl rfl (by decide) (by decide) (Nat.le_of_ble_eq_true rfl) (Nat.le_of_ble_eq_true rfl) (Nat.le_of_ble_eq_true rfl) (fun E17 L1 hx17 => ?_) (fun v17 L1 hp17 => ?_)
    · skip
      obtain ⟨rfl, hx17⟩ := hx17
      obtain ⟨rfl, hx17⟩ := hx17
      exact absurd trivial hx17
    obtain ⟨rfl, rfl, ht_17⟩ := hp17
    refine (show Go g κ 20 [some (.ref x)] [] [[(x, .inr (0, [.ref b, .ref lp, .ref lk, .ref lr, .ref lt, .ref ls, .ref lm, .ref so, .int (nI bxs)]))], w1] 0 0 from ?_)
    exact g_vret B E dX1_isGroup_20 (⟨rfl, rfl, (by first | assumption | omega | rfl | simp_all)⟩)
theorem moX1_isGroup : Mo yX1_isGroup 0 := by
  refine ⟨by decide, by decide, by decide +kernel⟩
theorem ct_X1_epoch (g : Gv) (J : Jd g) {x : Nat} {C : KsS} {w0 : va_W} (hw0 : KgP g x C w0) (hC : KsB C) : Ct g yX1_epoch (ws_ yX1_epoch cX1_epoch 1 (some .int)) 10 1 6 [.ref x] [w0] (fun (rv_ : Option Value) (rL_ : List va_W) => ∃ (u0 : va_W), rv_ = some (.int (nI (zTs C).length - nI 1)) ∧ rL_ = [u0] ∧ KgP g x C u0 ∧ (zTs C ≠ [])) (fun (rE_ : String) (rL_ : List va_W) => rL_ = [w0] ∧ ((rE_ = "java/lang/UnsupportedOperationException" ∧ (¬ zTs C ≠ [])))) := by
  refine Ct.of "Keygrove" [some (.ref x)] rfl (by decide) rfl (Nat.le_of_ble_eq_true rfl) rfl ?_
  intro κ B E tb
  have hC0 := hC
  obtain ⟨hc1, hc2, hc3, hc4, hc5, hc6, hc7, hc8, hc9, hc10, hc11⟩ := hC0
  obtain ⟨b, lp, lk, lr, lt, ls, lm, so, pcap, kcap, rcap, tcap, scap, mcap, socap, ps, pks, pmd, v0, v1, v2, v3, v4, v5, v6, v7, hcap, hv0, hv1, hv2, hv3, hv4, hv5, hv6, hv7, rfl⟩ := hw0
  refine g_open 0 rfl rfl rfl ?_
  refine (show Go g κ 0 [some (.ref x)] [] [[(x, .inr (0, [.ref b, .ref lp, .ref lk, .ref lr, .ref lt, .ref ls, .ref lm, .ref so, .int (nI (zBn C))]))], v0, v1, v2, v3, v4, v5, v6, v7] 1 6 from ?_)
  refine g_aload_n (q := 1) B dX1_epoch_0 rfl rfl (rv_r _) ?_
  refine g_callV (q := 4) (is := [0, 4]) (kc2 := 0) (ks2 := 0) B [] (ct_X1_isGroup g J (x := x) (lk := lk) (b := b) (lp := lp) (lr := lr) (lt := lt) (ls := ls) (lm := lm) (so := so) (bxs := zBn C) (Ts := (zTs C)) (tcap := tcap) hv4 ) dX1_epoch_1 rfl (rc_at B (ci := 0) rfl (k := 0) rfl) rfl q2327 q2329 qs27 q77 q2330 rfl rfl moX1_isGroup rfl rfl (by decide) (by decide) (Nat.le_of_ble_eq_true rfl) (Nat.le_of_ble_eq_true rfl) (Nat.le_of_ble_eq_true rfl) (fun E1 L1 hx1 => ?_) (fun v1 L1 hp1 => ?_)
  · skip
    obtain ⟨rfl, hx1⟩ := hx1
    obtain ⟨rfl, hx1⟩ := hx1
    refine gx_cl [7, 0, 0, 0, 0, 3, 0, 0, 0] rfl ?_
    exact g_out B E tb (by first | exact ⟨rfl, ⟨rfl, hx1⟩⟩ | exact ⟨rfl, ⟨rfl, by simp_all⟩⟩)
  obtain ⟨rfl, rfl, hne_1⟩ := hp1
  refine (show Go g κ 4 [some (.ref x)] [] [v0, v1, v2, v3, v5, v6, v7, [(x, .inr (0, [.ref b, .ref lp, .ref lk, .ref lr, .ref lt, .ref ls, .ref lm, .ref so, .int (nI (zBn C))]))], v4] 0 0 from ?_)
  refine g_aload_n (q := 5) B dX1_epoch_4 rfl rfl (rv_r _) ?_
  refine g_callV (q := 8) (is := [7, 7]) (kc2 := 0) (ks2 := 0) B [] (ct_X1_newest g J (x := x) (lk := lk) (b := b) (lp := lp) (lr := lr) (lt := lt) (ls := ls) (lm := lm) (so := so) (bxs := (zBn C)) (Ts := (zTs C)) (tcap := tcap) hv4 ) dX1_epoch_5 rfl (rc_at B (ci := 0) rfl (k := 7) rfl) rfl q1120 q1122 qs8 q77 q1123 rfl rfl moX1_newest rfl rfl (by decide) (by decide) (Nat.le_of_ble_eq_true rfl) (Nat.le_of_ble_eq_true rfl) (Nat.le_of_ble_eq_true rfl) (fun _ _ hx => noX_x hx) (fun v5 L1 hp5 => ?_)
  obtain ⟨rfl, rfl⟩ := hp5
  refine (show Go g κ 8 [some (.ref x)] [.int (nI (zTs C).length - nI 1)] [v0, v1, v2, v3, v5, v6, v7, [(x, .inr (0, [.ref b, .ref lp, .ref lk, .ref lr, .ref lt, .ref ls, .ref lm, .ref so, .int (nI (zBn C))]))], v4] 0 0 from ?_)
  obtain ⟨wc_1, ewc_1⟩ : ∃ w : va_W, w = ([[(x, .inr (0, [.ref b, .ref lp, .ref lk, .ref lr, .ref lt, .ref ls, .ref lm, .ref so, .int (nI (zBn C))]))], v0, v1, v2, v3, v4, v5, v6, v7] : List va_W).flatten := ⟨_, rfl⟩
  have hwc_1 : KgP g x C wc_1 := by
    rw [ewc_1]
    exact ⟨b, lp, lk, lr, lt, ls, lm, so, pcap, kcap, rcap, tcap, scap, mcap, socap, ps, pks, pmd, _, _, _, _, _, _, _, _, hcap, hv0, hv1, hv2, hv3, hv4, hv5, hv6, hv7, rfl⟩
  refine g_close (w := wc_1) [7, 0, 0, 0, 0, 3, 0, 0, 0] rfl ewc_1 rfl ?_
  refine (show Go g κ 8 [some (.ref x)] [.int (nI (zTs C).length - nI 1)] [wc_1] 0 0 from ?_)
  exact g_iret B E dX1_epoch_8 (⟨wc_1, rfl, rfl, hwc_1, (by first | assumption | omega | rfl | simp_all)⟩)
theorem moX1_personWith : Mo yX1_personWith 1 := by
  refine ⟨by decide, by decide, by decide +kernel⟩
theorem moX1_found_2 : Mo yX1_found_2 1 := by
  refine ⟨by decide, by decide, by decide +kernel⟩
theorem ct_X1_epochOf (g : Gv) (J : Jd g) {x : Nat} {C : KsS} {v : Int32} {w0 : va_W} (hw0 : KgP g x C w0) (hC : KsB C) : Ct g yX1_epochOf (ws_ yX1_epochOf cX1_epochOf 3 (some .int)) 10 10 60 [.ref x, .int v] [w0] (fun (rv_ : Option Value) (rL_ : List va_W) => ∃ (i : Nat) (r : PeS) (u0 : va_W), rv_ = some (.int (oI (pEp r))) ∧ rL_ = [u0] ∧ KgP g x C u0 ∧ (v = nI i) ∧ ((zPs C)[i]? = some r) ∧ (¬ pEp r = none)) (fun (rE_ : String) (rL_ : List va_W) => rL_ = [w0] ∧ ((rE_ = "java/lang/IndexOutOfBoundsException" ∧ (¬ inR v (zPs C).length = true)) ∨ (rE_ = "java/util/NoSuchElementException" ∧ (∃ (i : Nat) (r : PeS), v = nI i ∧ (zPs C)[i]? = some r ∧ pEp r = none)))) := by
  refine Ct.of "Keygrove" [some (.ref x), some (.int v), none] rfl (by decide) rfl (Nat.le_of_ble_eq_true rfl) rfl ?_
  intro κ B E tb
  have hC0 := hC
  obtain ⟨hc1, hc2, hc3, hc4, hc5, hc6, hc7, hc8, hc9, hc10, hc11⟩ := hC0
  obtain ⟨b, lp, lk, lr, lt, ls, lm, so, pcap, kcap, rcap, tcap, scap, mcap, socap, ps, pks, pmd, v0, v1, v2, v3, v4, v5, v6, v7, hcap, hv0, hv1, hv2, hv3, hv4, hv5, hv6, hv7, rfl⟩ := hw0
  refine g_open 0 rfl rfl rfl ?_
  refine (show Go g κ 0 [some (.ref x), some (.int v), none] [] [[(x, .inr (0, [.ref b, .ref lp, .ref lk, .ref lr, .ref lt, .ref ls, .ref lm, .ref so, .int (nI (zBn C))]))], v0, v1, v2, v3, v4, v5, v6, v7] 10 60 from ?_)
  refine g_aload_n (q := 1) B dX1_epochOf_0 rfl rfl (rv_r _) ?_
  refine g_iload_n (q := 2) B dX1_epochOf_1 rfl rfl ?_
  refine g_callV (q := 5) (is := [0, 1]) (kc2 := 9) (ks2 := 54) B [.int v] (ct_X1_personWith g J (x := x) (lk := lk) (b := b) (lp := lp) (lr := lr) (lt := lt) (ls := ls) (lm := lm) (so := so) (bxs := zBn C) (ps := ps) (Ps := (zPs C)) (pcap := pcap) (pks := pks) (pmd := pmd) (v := v) hv1 (by first | assumption | omega | rfl)) dX1_epochOf_2 rfl (rc_at B (ci := 0) rfl (k := 0) rfl) rfl q1961 q1963 qs15 q77 q1964 rfl rfl moX1_personWith rfl rfl (by decide) (by decide) (Nat.le_of_ble_eq_true rfl) (Nat.le_of_ble_eq_true rfl) (Nat.le_of_ble_eq_true rfl) (fun E2 L1 hx2 => ?_) (fun v2 L1 hp2 => ?_)
  · skip
    obtain ⟨rfl, hx2⟩ := hx2
    obtain ⟨rfl, hx2⟩ := hx2
    refine gx_cl [7, 0, 6, 0, 0, 0, 0, 0, 0] rfl ?_
    exact g_out B E tb (by first | exact ⟨rfl, Or.inl ⟨rfl, hx2⟩⟩ | exact ⟨rfl, Or.inl ⟨rfl, by simp_all⟩⟩)
  obtain ⟨i2, a2, r2, rfl, rfl, hv_2, ha_2, hr_2⟩ := hp2
  refine (show Go g κ 5 [some (.ref x), some (.int v), none] [.ref a2] [v0, v2, v3, v4, v5, v6, v7, [(x, .inr (0, [.ref b, .ref lp, .ref lk, .ref lr, .ref lt, .ref ls, .ref lm, .ref so, .int (nI (zBn C))]))], v1] 9 54 from ?_)
  subst hv_2
  obtain ⟨hli_1, hln_1, hel_1⟩ := PersL.at (Sub.self hv1)
  have hE_2 := hel_1 _ _ _ ha_2 hr_2
  refine (show Go g κ 5 [some (.ref x), some (.int (nI i2)), none] [.ref a2] [v0, v2, v3, v4, v5, v6, v7, [(x, .inr (0, [.ref b, .ref lp, .ref lk, .ref lr, .ref lt, .ref ls, .ref lm, .ref so, .int (nI (zBn C))]))], v1] 9 54 from ?_)
  refine g_astore_n (q := 6) (lv2 := [some (.ref x), some (.int (nI i2)), some (.ref a2)]) B dX1_epochOf_5 rfl (Nat.le_of_ble_eq_true rfl) (rv_r _) rfl ?_
  refine g_aload_n (q := 7) B dX1_epochOf_6 rfl rfl (rv_r _) ?_
  refine g_callV (q := 10) (is := [8]) (kc2 := 9) (ks2 := 54) B [] (ct_X4_isIn_s g J (a := a2) (x := x) (pks := pks) (r := r2) (W0 := v1)  (hE_2)) dX1_epochOf_7 rfl (rc_in B (ci := 2) rfl (k := 8) rfl (Sub.hm (hE_2) fun _ z => PersP.hm z)) rfl q1211 q1207 q1208 q90 q1209 rfl rfl moX4_isIn rfl rfl (by decide) (by decide) (Nat.le_of_ble_eq_true rfl) (Nat.le_of_ble_eq_true rfl) (Nat.le_of_ble_eq_true rfl) (fun _ _ hx => noX_x hx) (fun v7 L1 hp7 => ?_)
  obtain ⟨rfl, rfl⟩ := hp7
  refine (show Go g κ 10 [some (.ref x), some (.int (nI i2)), some (.ref a2)] [.int (nI (if ¬ pEp r2 = none then 1 else 0))] [v0, v2, v3, v4, v5, v6, v7, [(x, .inr (0, [.ref b, .ref lp, .ref lk, .ref lr, .ref lt, .ref ls, .ref lm, .ref so, .int (nI (zBn C))]))], v1] 9 54 from ?_)
  refine g_callS (q := 13) (is := []) (kc2 := 8) (ks2 := 48) B [.int (nI (if ¬ pEp r2 = none then 1 else 0))] (ct_X1_found_2 g J (c := ¬ pEp r2 = none) (dc := _)  ) dX1_epochOf_10 rfl q2357 q2358 q77 q2359 rfl rfl moX1_found_2 rfl rfl (by decide) (by decide) (Nat.le_of_ble_eq_true rfl) (Nat.le_of_ble_eq_true rfl) (Nat.le_of_ble_eq_true rfl) (fun E10 L1 hx10 => ?_) (fun v10 L1 hp10 => ?_)
  · skip
    obtain ⟨rfl, hx10⟩ := hx10
    obtain ⟨rfl, hx10⟩ := hx10
    refine gx_cl [7, 0, 6, 0, 0, 0, 0, 0, 0] rfl ?_
    exact g_out B E tb (by first | exact ⟨rfl, Or.inr (⟨rfl, hx10⟩)⟩ | exact ⟨rfl, Or.inr (⟨rfl, ⟨_, _, rfl, hr_2, Classical.not_not.mp hx10⟩⟩)⟩ | exact ⟨rfl, Or.inr (⟨rfl, by simp_all⟩)⟩)
  obtain ⟨rfl, rfl, ht_10⟩ := hp10
  refine (show Go g κ 13 [some (.ref x), some (.int (nI i2)), some (.ref a2)] [] [v0, v2, v3, v4, v5, v6, v7, [(x, .inr (0, [.ref b, .ref lp, .ref lk, .ref lr, .ref lt, .ref ls, .ref lm, .ref so, .int (nI (zBn C))]))], v1] 8 48 from ?_)
  refine g_aload_n (q := 14) B dX1_epochOf_13 rfl rfl (rv_r _) ?_
  obtain ⟨ev_3, pl_3, nd_3, ch_3, ecap_3, pcap_3, nn_3, nc_3, plc_3, md_3, hP_3, hpl_3, hec_3, hpc_3, hc_3_0, hs_3_0, hs_3_1, hs_3_2, hs_3_3⟩ := PersP.at (hE_2)
  refine g_getNM (q := 17) B (ci := 2) (k := 8) (j := 3) in_X4 rfl dX1_epochOf_14 rfl rfl (hc_3_0) (Nat.le_of_ble_eq_true rfl) q1901 rfl rfl ?_
  obtain ⟨wc_4, ewc_4⟩ : ∃ w : va_W, w = ([[(x, .inr (0, [.ref b, .ref lp, .ref lk, .ref lr, .ref lt, .ref ls, .ref lm, .ref so, .int (nI (zBn C))]))], v0, v1, v2, v3, v4, v5, v6, v7] : List va_W).flatten := ⟨_, rfl⟩
  have hwc_4 : KgP g x C wc_4 := by
    rw [ewc_4]
    exact ⟨b, lp, lk, lr, lt, ls, lm, so, pcap, kcap, rcap, tcap, scap, mcap, socap, ps, pks, pmd, _, _, _, _, _, _, _, _, hcap, hv0, hv1, hv2, hv3, hv4, hv5, hv6, hv7, rfl⟩
  refine g_close (w := wc_4) [7, 0, 6, 0, 0, 0, 0, 0, 0] rfl ewc_4 rfl ?_
  refine (show Go g κ 17 [some (.ref x), some (.int (nI i2)), some (.ref a2)] [.int (oI (pEp r2))] [wc_4] 8 48 from ?_)
  exact g_iret B E dX1_epochOf_17 (⟨i2, r2, _, rfl, rfl, hwc_4, rfl, hr_2, ht_10⟩)
theorem ct_X1_leafOf (g : Gv) (J : Jd g) {x : Nat} {C : KsS} {v : Int32} {w0 : va_W} (hw0 : KgP g x C w0) (hC : KsB C) : Ct g yX1_leafOf (ws_ yX1_leafOf cX1_leafOf 3 (some .int)) 10 10 60 [.ref x, .int v] [w0] (fun (rv_ : Option Value) (rL_ : List va_W) => ∃ (i : Nat) (r : PeS) (u0 : va_W), rv_ = some (.int (nI (pLf r))) ∧ rL_ = [u0] ∧ KgP g x C u0 ∧ (v = nI i) ∧ ((zPs C)[i]? = some r) ∧ (¬ pEp r = none)) (fun (rE_ : String) (rL_ : List va_W) => rL_ = [w0] ∧ ((rE_ = "java/lang/IndexOutOfBoundsException" ∧ (¬ inR v (zPs C).length = true)) ∨ (rE_ = "java/util/NoSuchElementException" ∧ (∃ (i : Nat) (r : PeS), v = nI i ∧ (zPs C)[i]? = some r ∧ pEp r = none)))) := by
  refine Ct.of "Keygrove" [some (.ref x), some (.int v), none] rfl (by decide) rfl (Nat.le_of_ble_eq_true rfl) rfl ?_
  intro κ B E tb
  have hC0 := hC
  obtain ⟨hc1, hc2, hc3, hc4, hc5, hc6, hc7, hc8, hc9, hc10, hc11⟩ := hC0
  obtain ⟨b, lp, lk, lr, lt, ls, lm, so, pcap, kcap, rcap, tcap, scap, mcap, socap, ps, pks, pmd, v0, v1, v2, v3, v4, v5, v6, v7, hcap, hv0, hv1, hv2, hv3, hv4, hv5, hv6, hv7, rfl⟩ := hw0
  refine g_open 0 rfl rfl rfl ?_
  refine (show Go g κ 0 [some (.ref x), some (.int v), none] [] [[(x, .inr (0, [.ref b, .ref lp, .ref lk, .ref lr, .ref lt, .ref ls, .ref lm, .ref so, .int (nI (zBn C))]))], v0, v1, v2, v3, v4, v5, v6, v7] 10 60 from ?_)
  refine g_aload_n (q := 1) B dX1_leafOf_0 rfl rfl (rv_r _) ?_
  refine g_iload_n (q := 2) B dX1_leafOf_1 rfl rfl ?_
  refine g_callV (q := 5) (is := [0, 1]) (kc2 := 9) (ks2 := 54) B [.int v] (ct_X1_personWith g J (x := x) (lk := lk) (b := b) (lp := lp) (lr := lr) (lt := lt) (ls := ls) (lm := lm) (so := so) (bxs := zBn C) (ps := ps) (Ps := (zPs C)) (pcap := pcap) (pks := pks) (pmd := pmd) (v := v) hv1 (by first | assumption | omega | rfl)) dX1_leafOf_2 rfl (rc_at B (ci := 0) rfl (k := 0) rfl) rfl q1961 q1963 qs15 q77 q1964 rfl rfl moX1_personWith rfl rfl (by decide) (by decide) (Nat.le_of_ble_eq_true rfl) (Nat.le_of_ble_eq_true rfl) (Nat.le_of_ble_eq_true rfl) (fun E2 L1 hx2 => ?_) (fun v2 L1 hp2 => ?_)
  · skip
    obtain ⟨rfl, hx2⟩ := hx2
    obtain ⟨rfl, hx2⟩ := hx2
    refine gx_cl [7, 0, 6, 0, 0, 0, 0, 0, 0] rfl ?_
    exact g_out B E tb (by first | exact ⟨rfl, Or.inl ⟨rfl, hx2⟩⟩ | exact ⟨rfl, Or.inl ⟨rfl, by simp_all⟩⟩)
  obtain ⟨i2, a2, r2, rfl, rfl, hv_2, ha_2, hr_2⟩ := hp2
  refine (show Go g κ 5 [some (.ref x), some (.int v), none] [.ref a2] [v0, v2, v3, v4, v5, v6, v7, [(x, .inr (0, [.ref b, .ref lp, .ref lk, .ref lr, .ref lt, .ref ls, .ref lm, .ref so, .int (nI (zBn C))]))], v1] 9 54 from ?_)
  subst hv_2
  obtain ⟨hli_1, hln_1, hel_1⟩ := PersL.at (Sub.self hv1)
  have hE_2 := hel_1 _ _ _ ha_2 hr_2
  refine (show Go g κ 5 [some (.ref x), some (.int (nI i2)), none] [.ref a2] [v0, v2, v3, v4, v5, v6, v7, [(x, .inr (0, [.ref b, .ref lp, .ref lk, .ref lr, .ref lt, .ref ls, .ref lm, .ref so, .int (nI (zBn C))]))], v1] 9 54 from ?_)
  refine g_astore_n (q := 6) (lv2 := [some (.ref x), some (.int (nI i2)), some (.ref a2)]) B dX1_leafOf_5 rfl (Nat.le_of_ble_eq_true rfl) (rv_r _) rfl ?_
  refine g_aload_n (q := 7) B dX1_leafOf_6 rfl rfl (rv_r _) ?_
  refine g_callV (q := 10) (is := [8]) (kc2 := 9) (ks2 := 54) B [] (ct_X4_isIn_s g J (a := a2) (x := x) (pks := pks) (r := r2) (W0 := v1)  (hE_2)) dX1_leafOf_7 rfl (rc_in B (ci := 2) rfl (k := 8) rfl (Sub.hm (hE_2) fun _ z => PersP.hm z)) rfl q1211 q1207 q1208 q90 q1209 rfl rfl moX4_isIn rfl rfl (by decide) (by decide) (Nat.le_of_ble_eq_true rfl) (Nat.le_of_ble_eq_true rfl) (Nat.le_of_ble_eq_true rfl) (fun _ _ hx => noX_x hx) (fun v7 L1 hp7 => ?_)
  obtain ⟨rfl, rfl⟩ := hp7
  refine (show Go g κ 10 [some (.ref x), some (.int (nI i2)), some (.ref a2)] [.int (nI (if ¬ pEp r2 = none then 1 else 0))] [v0, v2, v3, v4, v5, v6, v7, [(x, .inr (0, [.ref b, .ref lp, .ref lk, .ref lr, .ref lt, .ref ls, .ref lm, .ref so, .int (nI (zBn C))]))], v1] 9 54 from ?_)
  refine g_callS (q := 13) (is := []) (kc2 := 8) (ks2 := 48) B [.int (nI (if ¬ pEp r2 = none then 1 else 0))] (ct_X1_found_2 g J (c := ¬ pEp r2 = none) (dc := _)  ) dX1_leafOf_10 rfl q2357 q2358 q77 q2359 rfl rfl moX1_found_2 rfl rfl (by decide) (by decide) (Nat.le_of_ble_eq_true rfl) (Nat.le_of_ble_eq_true rfl) (Nat.le_of_ble_eq_true rfl) (fun E10 L1 hx10 => ?_) (fun v10 L1 hp10 => ?_)
  · skip
    obtain ⟨rfl, hx10⟩ := hx10
    obtain ⟨rfl, hx10⟩ := hx10
    refine gx_cl [7, 0, 6, 0, 0, 0, 0, 0, 0] rfl ?_
    exact g_out B E tb (by first | exact ⟨rfl, Or.inr (⟨rfl, hx10⟩)⟩ | exact ⟨rfl, Or.inr (⟨rfl, ⟨_, _, rfl, hr_2, Classical.not_not.mp hx10⟩⟩)⟩ | exact ⟨rfl, Or.inr (⟨rfl, by simp_all⟩)⟩)
  obtain ⟨rfl, rfl, ht_10⟩ := hp10
  refine (show Go g κ 13 [some (.ref x), some (.int (nI i2)), some (.ref a2)] [] [v0, v2, v3, v4, v5, v6, v7, [(x, .inr (0, [.ref b, .ref lp, .ref lk, .ref lr, .ref lt, .ref ls, .ref lm, .ref so, .int (nI (zBn C))]))], v1] 8 48 from ?_)
  refine g_aload_n (q := 14) B dX1_leafOf_13 rfl rfl (rv_r _) ?_
  obtain ⟨ev_3, pl_3, nd_3, ch_3, ecap_3, pcap_3, nn_3, nc_3, plc_3, md_3, hP_3, hpl_3, hec_3, hpc_3, hc_3_0, hs_3_0, hs_3_1, hs_3_2, hs_3_3⟩ := PersP.at (hE_2)
  refine g_getNM (q := 17) B (ci := 2) (k := 8) (j := 4) in_X4 rfl dX1_leafOf_14 rfl rfl (hc_3_0) (Nat.le_of_ble_eq_true rfl) q1903 rfl rfl ?_
  obtain ⟨wc_4, ewc_4⟩ : ∃ w : va_W, w = ([[(x, .inr (0, [.ref b, .ref lp, .ref lk, .ref lr, .ref lt, .ref ls, .ref lm, .ref so, .int (nI (zBn C))]))], v0, v1, v2, v3, v4, v5, v6, v7] : List va_W).flatten := ⟨_, rfl⟩
  have hwc_4 : KgP g x C wc_4 := by
    rw [ewc_4]
    exact ⟨b, lp, lk, lr, lt, ls, lm, so, pcap, kcap, rcap, tcap, scap, mcap, socap, ps, pks, pmd, _, _, _, _, _, _, _, _, hcap, hv0, hv1, hv2, hv3, hv4, hv5, hv6, hv7, rfl⟩
  refine g_close (w := wc_4) [7, 0, 6, 0, 0, 0, 0, 0, 0] rfl ewc_4 rfl ?_
  refine (show Go g κ 17 [some (.ref x), some (.int (nI i2)), some (.ref a2)] [.int (nI (pLf r2))] [wc_4] 8 48 from ?_)
  exact g_iret B E dX1_leafOf_17 (⟨i2, r2, _, rfl, rfl, hwc_4, rfl, hr_2, ht_10⟩)
theorem ct_X1_seed (g : Gv) (J : Jd g) {x : Nat} {C : KsS} {v : Int32} {w0 : va_W} (hw0 : KgP g x C w0) (hC : KsB C) : Ct g yX1_seed (ws_ yX1_seed cX1_seed 3 (some .int)) 1 0 0 [.ref x, .int v] [w0] (fun (rv_ : Option Value) (rL_ : List va_W) => ∃ (u0 : va_W), rv_ = some (.int (zZz C)) ∧ rL_ = [u0] ∧ KgP g x ((zSs C, zBx C, v, C.2.2.2) : KsS) u0) noX := by
  refine Ct.of "Keygrove" [some (.ref x), some (.int v), none] rfl (by decide) rfl (Nat.le_of_ble_eq_true rfl) rfl ?_
  intro κ B E tb
  have hC0 := hC
  obtain ⟨hc1, hc2, hc3, hc4, hc5, hc6, hc7, hc8, hc9, hc10, hc11⟩ := hC0
  obtain ⟨b, lp, lk, lr, lt, ls, lm, so, pcap, kcap, rcap, tcap, scap, mcap, socap, ps, pks, pmd, v0, v1, v2, v3, v4, v5, v6, v7, hcap, hv0, hv1, hv2, hv3, hv4, hv5, hv6, hv7, rfl⟩ := hw0
  refine g_open 0 rfl rfl rfl ?_
  refine (show Go g κ 0 [some (.ref x), some (.int v), none] [] [[(x, .inr (0, [.ref b, .ref lp, .ref lk, .ref lr, .ref lt, .ref ls, .ref lm, .ref so, .int (nI (zBn C))]))], v0, v1, v2, v3, v4, v5, v6, v7] 0 0 from ?_)
  refine g_aload_n (q := 1) B dX1_seed_0 rfl rfl (rv_r _) ?_
  refine g_get (q := 4) B (ci := 0) (k := 0) (j := 0) in_X1 rfl dX1_seed_1 rfl rfl (Nat.le_of_ble_eq_true rfl) q277 rfl rfl ?_
  obtain ⟨al_1, fo_1, ol_1, cl_1, xs_1, hS_1, hbx_1, hc_1_0, hs_1_0, hs_1_1, hs_1_2, hs_1_3, hs_1_4⟩ := BookP.at (Sub.self hv0)
  refine g_getNM (q := 7) B (ci := 1) (k := 1) (j := 4) in_X2 rfl dX1_seed_4 rfl rfl (hc_1_0) (Nat.le_of_ble_eq_true rfl) q238 rfl rfl ?_
  refine g_istore_n (q := 8) (lv2 := [some (.ref x), some (.int v), some (.int (zZz C))]) B dX1_seed_7 rfl (Nat.le_of_ble_eq_true rfl) rfl ?_
  refine g_aload_n (q := 9) B dX1_seed_8 rfl rfl (rv_r _) ?_
  refine g_get (q := 12) B (ci := 0) (k := 0) (j := 0) in_X1 rfl dX1_seed_9 rfl rfl (Nat.le_of_ble_eq_true rfl) q277 rfl rfl ?_
  obtain ⟨al_b, fo_b, ol_b, cl_b, xs_b, v0_b, v1_b, v2_b, v3_b, v4_b, hS_b, hbx_b, hv0_b, hv1_b, hv2_b, hv3_b, hv4_b, rfl⟩ := hv0
  refine g_open 1 rfl rfl rfl ?_
  refine (show Go g κ 12 [some (.ref x), some (.int v), some (.int (zZz C))] [.ref b] [[(x, .inr (0, [.ref b, .ref lp, .ref lk, .ref lr, .ref lt, .ref ls, .ref lm, .ref so, .int (nI (zBn C))]))], v1, v2, v3, v4, v5, v6, v7, [(b, .inr (1, [.ref al_b, .ref fo_b, .ref ol_b, .ref cl_b, .int (zZz C)]))], v0_b, v1_b, v2_b, v3_b, v4_b] 0 0 from ?_)
  refine g_iload_n (q := 13) B dX1_seed_12 rfl rfl ?_
  refine g_putN (q := 16) (L2 := [[(x, .inr (0, [.ref b, .ref lp, .ref lk, .ref lr, .ref lt, .ref ls, .ref lm, .ref so, .int (nI (zBn C))]))], v1, v2, v3, v4, v5, v6, v7, [(b, .inr (1, [.ref al_b, .ref fo_b, .ref ol_b, .ref cl_b, .int v]))], v0_b, v1_b, v2_b, v3_b, v4_b]) B (ci := 1) (k := 8) (j := 4) in_X2 tyX2 tyX2_ok nmX2 rfl dX1_seed_13 rfl rfl (Nat.le_of_ble_eq_true rfl) q238 rfl rfl rfl rfl (Nat.le_of_ble_eq_true rfl) rfl ?_
  obtain ⟨wc_2, ewc_2⟩ : ∃ w : va_W, w = ([[(b, .inr (1, [.ref al_b, .ref fo_b, .ref ol_b, .ref cl_b, .int v]))], v0_b, v1_b, v2_b, v3_b, v4_b] : List va_W).flatten := ⟨_, rfl⟩
  have hwc_2 : BookP g b (zSs C) (zBx C) v wc_2 := by
    rw [ewc_2]
    exact ⟨al_b, fo_b, ol_b, cl_b, xs_b, _, _, _, _, _, hS_b, hbx_b, hv0_b, hv1_b, hv2_b, hv3_b, hv4_b, rfl⟩
  refine g_close (w := wc_2) [8, 8, 8, 8, 8, 8] rfl ewc_2 rfl ?_
  refine (show Go g κ 16 [some (.ref x), some (.int v), some (.int (zZz C))] [] [[(x, .inr (0, [.ref b, .ref lp, .ref lk, .ref lr, .ref lt, .ref ls, .ref lm, .ref so, .int (nI (zBn C))]))], v1, v2, v3, v4, v5, v6, v7, wc_2] 0 0 from ?_)
  refine g_iload_n (q := 17) B dX1_seed_16 rfl rfl ?_
  obtain ⟨wc_3, ewc_3⟩ : ∃ w : va_W, w = ([[(x, .inr (0, [.ref b, .ref lp, .ref lk, .ref lr, .ref lt, .ref ls, .ref lm, .ref so, .int (nI (zBn C))]))], wc_2, v1, v2, v3, v4, v5, v6, v7] : List va_W).flatten := ⟨_, rfl⟩
  have hwc_3 : KgP g x ((zSs C, zBx C, v, C.2.2.2) : KsS) wc_3 := by
    rw [ewc_3]
    exact ⟨b, lp, lk, lr, lt, ls, lm, so, pcap, kcap, rcap, tcap, scap, mcap, socap, ps, pks, pmd, _, _, _, _, _, _, _, _, hcap, hwc_2, hv1, hv2, hv3, hv4, hv5, hv6, hv7, rfl⟩
  refine g_close (w := wc_3) [0, 7, 0, 0, 0, 0, 0, 0, 0] rfl ewc_3 rfl ?_
  refine (show Go g κ 17 [some (.ref x), some (.int v), some (.int (zZz C))] [.int (zZz C)] [wc_3] 0 0 from ?_)
  exact g_iret B E dX1_seed_17 (⟨wc_3, rfl, rfl, hwc_3⟩)
theorem moX1_hasEpoch : Mo yX1_hasEpoch 1 := by
  refine ⟨by decide, by decide, by decide +kernel⟩
theorem ct_X1_isMember (g : Gv) (J : Jd g) {x : Nat} {C : KsS} {v : Int32} {u : Int32} {w0 : va_W} (hw0 : KgP g x C w0) (hC : KsB C) : Ct g yX1_isMember (ws_ yX1_isMember cX1_isMember 4 (some .boolean)) 10 10 60 [.ref x, .int v, .int u] [w0] (fun (rv_ : Option Value) (rL_ : List va_W) => ∃ (i : Nat) (r : PeS) (j : Nat) (T : TrS) (u0 : va_W), rv_ = some (.int (nI (if ¬ lof T (pNo r) = none then 1 else 0))) ∧ rL_ = [u0] ∧ KgP g x C u0 ∧ (v = nI i) ∧ ((zPs C)[i]? = some r) ∧ (u = nI j) ∧ ((zTs C)[j]? = some T)) (fun (rE_ : String) (rL_ : List va_W) => rL_ = [w0] ∧ ((rE_ = "java/lang/IndexOutOfBoundsException" ∧ (¬ (inR v (zPs C).length = true ∧ inR u (zTs C).length = true))))) := by
  refine Ct.of "Keygrove" [some (.ref x), some (.int v), some (.int u), none] rfl (by decide) rfl (Nat.le_of_ble_eq_true rfl) rfl ?_
  intro κ B E tb
  have hC0 := hC
  obtain ⟨hc1, hc2, hc3, hc4, hc5, hc6, hc7, hc8, hc9, hc10, hc11⟩ := hC0
  obtain ⟨b, lp, lk, lr, lt, ls, lm, so, pcap, kcap, rcap, tcap, scap, mcap, socap, ps, pks, pmd, v0, v1, v2, v3, v4, v5, v6, v7, hcap, hv0, hv1, hv2, hv3, hv4, hv5, hv6, hv7, rfl⟩ := hw0
  refine g_open 0 rfl rfl rfl ?_
  refine (show Go g κ 0 [some (.ref x), some (.int v), some (.int u), none] [] [[(x, .inr (0, [.ref b, .ref lp, .ref lk, .ref lr, .ref lt, .ref ls, .ref lm, .ref so, .int (nI (zBn C))]))], v0, v1, v2, v3, v4, v5, v6, v7] 10 60 from ?_)
  refine g_aload_n (q := 1) B dX1_isMember_0 rfl rfl (rv_r _) ?_
  refine g_iload_n (q := 2) B dX1_isMember_1 rfl rfl ?_
  refine g_callV (q := 5) (is := [0, 1]) (kc2 := 9) (ks2 := 54) B [.int v] (ct_X1_personWith g J (x := x) (lk := lk) (b := b) (lp := lp) (lr := lr) (lt := lt) (ls := ls) (lm := lm) (so := so) (bxs := zBn C) (ps := ps) (Ps := (zPs C)) (pcap := pcap) (pks := pks) (pmd := pmd) (v := v) hv1 (by first | assumption | omega | rfl)) dX1_isMember_2 rfl (rc_at B (ci := 0) rfl (k := 0) rfl) rfl q1961 q1963 qs15 q77 q1964 rfl rfl moX1_personWith rfl rfl (by decide) (by decide) (Nat.le_of_ble_eq_true rfl) (Nat.le_of_ble_eq_true rfl) (Nat.le_of_ble_eq_true rfl) (fun E2 L1 hx2 => ?_) (fun v2 L1 hp2 => ?_)
  · skip
    obtain ⟨rfl, hx2⟩ := hx2
    obtain ⟨rfl, hx2⟩ := hx2
    refine gx_cl [7, 0, 6, 0, 0, 0, 0, 0, 0] rfl ?_
    exact g_out B E tb (by first | exact ⟨rfl, ⟨rfl, hx2⟩⟩ | exact ⟨rfl, ⟨rfl, fun z => hx2 z.1⟩⟩ | exact ⟨rfl, ⟨rfl, by simp_all⟩⟩)
  obtain ⟨i2, a2, r2, rfl, rfl, hv_2, ha_2, hr_2⟩ := hp2
  refine (show Go g κ 5 [some (.ref x), some (.int v), some (.int u), none] [.ref a2] [v0, v2, v3, v4, v5, v6, v7, [(x, .inr (0, [.ref b, .ref lp, .ref lk, .ref lr, .ref lt, .ref ls, .ref lm, .ref so, .int (nI (zBn C))]))], v1] 9 54 from ?_)
  subst hv_2
  obtain ⟨hli_1, hln_1, hel_1⟩ := PersL.at (Sub.self hv1)
  have hE_2 := hel_1 _ _ _ ha_2 hr_2
  refine (show Go g κ 5 [some (.ref x), some (.int (nI i2)), some (.int u), none] [.ref a2] [v0, v2, v3, v4, v5, v6, v7, [(x, .inr (0, [.ref b, .ref lp, .ref lk, .ref lr, .ref lt, .ref ls, .ref lm, .ref so, .int (nI (zBn C))]))], v1] 9 54 from ?_)
  refine g_astore_n (q := 6) (lv2 := [some (.ref x), some (.int (nI i2)), some (.int u), some (.ref a2)]) B dX1_isMember_5 rfl (Nat.le_of_ble_eq_true rfl) (rv_r _) rfl ?_
  refine g_aload_n (q := 7) B dX1_isMember_6 rfl rfl (rv_r _) ?_
  refine g_iload_n (q := 8) B dX1_isMember_7 rfl rfl ?_
  refine g_callV (q := 11) (is := [7, 3]) (kc2 := 8) (ks2 := 48) B [.int u] (ct_X1_hasEpoch g J (x := x) (lk := lk) (b := b) (lp := lp) (lr := lr) (lt := lt) (ls := ls) (lm := lm) (so := so) (bxs := (zBn C)) (Ts := (zTs C)) (tcap := tcap) (v := u) hv4 (by first | assumption | omega | rfl)) dX1_isMember_8 rfl (rc_at B (ci := 0) rfl (k := 7) rfl) rfl q2376 q2378 qs28 q77 q2379 rfl rfl moX1_hasEpoch rfl rfl (by decide) (by decide) (Nat.le_of_ble_eq_true rfl) (Nat.le_of_ble_eq_true rfl) (Nat.le_of_ble_eq_true rfl) (fun E8 L1 hx8 => ?_) (fun v8 L1 hp8 => ?_)
  · skip
    obtain ⟨rfl, hx8⟩ := hx8
    obtain ⟨rfl, hx8⟩ := hx8
    refine gx_cl [7, 0, 5, 0, 0, 3, 0, 0, 0] rfl ?_
    exact g_out B E tb (by first | exact ⟨rfl, ⟨rfl, hx8⟩⟩ | exact ⟨rfl, ⟨rfl, fun z => hx8 z.2⟩⟩ | exact ⟨rfl, ⟨rfl, by simp_all⟩⟩)
  obtain ⟨i8, rfl, rfl, hv_8, hi_8⟩ := hp8
  refine (show Go g κ 11 [some (.ref x), some (.int (nI i2)), some (.int u), some (.ref a2)] [] [v0, v2, v3, v5, v6, v7, v1, [(x, .inr (0, [.ref b, .ref lp, .ref lk, .ref lr, .ref lt, .ref ls, .ref lm, .ref so, .int (nI (zBn C))]))], v4] 8 48 from ?_)
  subst hv_8
  refine (show Go g κ 11 [some (.ref x), some (.int (nI i2)), some (.int (nI i8)), some (.ref a2)] [] [v0, v2, v3, v5, v6, v7, v1, [(x, .inr (0, [.ref b, .ref lp, .ref lk, .ref lr, .ref lt, .ref ls, .ref lm, .ref so, .int (nI (zBn C))]))], v4] 8 48 from ?_)
  refine g_aload_n (q := 12) B dX1_isMember_11 rfl rfl (rv_r _) ?_
  refine g_get (q := 15) B (ci := 0) (k := 7) (j := 4) in_X1 rfl dX1_isMember_12 rfl rfl (Nat.le_of_ble_eq_true rfl) q282 rfl rfl ?_
  refine g_iload_n (q := 16) B dX1_isMember_15 rfl rfl ?_
  obtain ⟨ps_3, md_3, hli_3, hln_3, hel_3⟩ := LhP.at (Sub.self hv4)
  obtain ⟨r16, hr16⟩ := get_ex (xs := (zTs C)) (i := i8) (by omega)
  obtain ⟨x16, hx16⟩ := get_ex (xs := ps_3) (i := i8) (by have := get_lt2 hr16; have := hln_3.1; omega)
  have hE_4 := hel_3 _ _ _ hx16 hr16
  refine g_callF (q := 21) (is := [8]) (kc2 := 8) (ks2 := 48) B [.int (nI i8)] (ct_J2_get_s g J (p := lt) (xs := ps_3) (md := md_3) (cap := tcap) (i := i8) (x := x16) (W0 := v4)  (hli_3) (hx16)) dX1_isMember_16 rfl (ci := 21) rfl (rc_in B (ci := 21) rfl (k := 8) rfl (LhP.hm hv4)) q1138 q1093 q1095 q81 q1097 q1092 q1091 q1096 q1094 q318 rfl rfl mojava_util_List_get__I_Ljava_lang_Object_ rfl rfl (by decide) (by decide) (Nat.le_of_ble_eq_true rfl) (Nat.le_of_ble_eq_true rfl) (Nat.le_of_ble_eq_true rfl) (fun _ _ hx => noX_x hx) (fun v16 L1 hp16 => ?_)
  obtain ⟨rfl, rfl⟩ := hp16
  refine (show Go g κ 21 [some (.ref x), some (.int (nI i2)), some (.int (nI i8)), some (.ref a2)] [.ref x16] [v0, v2, v3, v5, v6, v7, v1, [(x, .inr (0, [.ref b, .ref lp, .ref lk, .ref lr, .ref lt, .ref ls, .ref lm, .ref so, .int (nI (zBn C))]))], v4] 8 48 from ?_)
  refine g_castRS (ci := 5) (q := 24) B rfl (rc_in B (ci := 5) rfl (k := 8) rfl (Sub.hm (hE_4) fun _ z => TreeP.hm z)) dX1_isMember_21 rfl q1139 ?_
  refine g_aload_n (q := 25) B dX1_isMember_24 rfl rfl (rv_r _) ?_
  obtain ⟨ev_5, pl_5, nd_5, ch_5, ecap_5, pcap_5, nn_5, nc_5, plc_5, md_5, hP_5, hpl_5, hec_5, hpc_5, hc_5_0, hs_5_0, hs_5_1, hs_5_2, hs_5_3⟩ := PersP.at (hE_2)
  refine g_getNM (q := 28) B (ci := 2) (k := 6) (j := 0) in_X4 rfl dX1_isMember_25 rfl rfl (hc_5_0) (Nat.le_of_ble_eq_true rfl) q1895 rfl rfl ?_
  have hpb := (PersP.at (hE_2))
  obtain ⟨-, -, -, -, -, -, -, -, -, -, hPB, -⟩ := hpb
  have hno := hPB.1
  refine g_callV (q := 31) (is := [8]) (kc2 := 8) (ks2 := 48) B [.int (nI (pNo r2))] (ct_X10_leafOf_s g J (t := x16) (T := r16) (p := pNo r2) (W0 := v4)  (hE_4) (by omega)) dX1_isMember_28 rfl (rc_in B (ci := 5) rfl (k := 8) rfl (Sub.hm (hE_4) fun _ z => TreeP.hm z)) rfl q1220 q1221 q1222 q123 q1223 rfl rfl moX10_leafOf rfl rfl (by decide) (by decide) (Nat.le_of_ble_eq_true rfl) (Nat.le_of_ble_eq_true rfl) (Nat.le_of_ble_eq_true rfl) (fun _ _ hx => noX_x hx) (fun v28 L1 hp28 => ?_)
  obtain ⟨rfl, rfl⟩ := hp28
  refine (show Go g κ 31 [some (.ref x), some (.int (nI i2)), some (.int (nI i8)), some (.ref a2)] [.int (oI (lof r16 (pNo r2)))] [v0, v2, v3, v5, v6, v7, v1, [(x, .inr (0, [.ref b, .ref lp, .ref lk, .ref lr, .ref lt, .ref ls, .ref lm, .ref so, .int (nI (zBn C))]))], v4] 8 48 from ?_)
  refine g_iconst (v := -1) (q := 32) B dX1_isMember_31 rfl (by decide) ?_
  refine g_icmp_eq (tgt := 39) (q := 35) B dX1_isMember_32 rfl (by decide) (oI_n (fun n h => by have := (lof_o h).1; have hTB := TreeP.b2 (hE_4); have := p2_4 hTB.1; omega)) (fun c32 => ?_) (fun c32 => ?_)
  · skip
    refine g_iconst (v := nI 0) (q := 40) B dX1_isMember_39 rfl (by decide) ?_
    obtain ⟨wc_6, ewc_6⟩ : ∃ w : va_W, w = ([[(x, .inr (0, [.ref b, .ref lp, .ref lk, .ref lr, .ref lt, .ref ls, .ref lm, .ref so, .int (nI (zBn C))]))], v0, v1, v2, v3, v4, v5, v6, v7] : List va_W).flatten := ⟨_, rfl⟩
    have hwc_6 : KgP g x C wc_6 := by
      rw [ewc_6]
      exact ⟨b, lp, lk, lr, lt, ls, lm, so, pcap, kcap, rcap, tcap, scap, mcap, socap, ps, pks, pmd, _, _, _, _, _, _, _, _, hcap, hv0, hv1, hv2, hv3, hv4, hv5, hv6, hv7, rfl⟩
    refine g_close (w := wc_6) [7, 0, 5, 0, 0, 3, 0, 0, 0] rfl ewc_6 rfl ?_
    refine (show Go g κ 40 [some (.ref x), some (.int (nI i2)), some (.int (nI i8)), some (.ref a2)] [.int (nI 0)] [wc_6] 8 48 from ?_)
    exact g_zret B E dX1_isMember_40 (by decide) (⟨i2, r2, i8, r16, _, bo0 (fun z => z c32), rfl, hwc_6, rfl, hr_2, rfl, hr16⟩)
  · skip
    refine g_iconst (v := nI 1) (q := 36) B dX1_isMember_35 rfl (by decide) ?_
    refine g_goto (tgt := 40) B dX1_isMember_36 (by decide) ?_
    obtain ⟨wc_7, ewc_7⟩ : ∃ w : va_W, w = ([[(x, .inr (0, [.ref b, .ref lp, .ref lk, .ref lr, .ref lt, .ref ls, .ref lm, .ref so, .int (nI (zBn C))]))], v0, v1, v2, v3, v4, v5, v6, v7] : List va_W).flatten := ⟨_, rfl⟩
    have hwc_7 : KgP g x C wc_7 := by
      rw [ewc_7]
      exact ⟨b, lp, lk, lr, lt, ls, lm, so, pcap, kcap, rcap, tcap, scap, mcap, socap, ps, pks, pmd, _, _, _, _, _, _, _, _, hcap, hv0, hv1, hv2, hv3, hv4, hv5, hv6, hv7, rfl⟩
    refine g_close (w := wc_7) [7, 0, 5, 0, 0, 3, 0, 0, 0] rfl ewc_7 rfl ?_
    refine (show Go g κ 40 [some (.ref x), some (.int (nI i2)), some (.int (nI i8)), some (.ref a2)] [.int (nI 1)] [wc_7] 8 48 from ?_)
    exact g_zret B E dX1_isMember_40 (by decide) (⟨i2, r2, i8, r16, _, bo1 c32, rfl, hwc_7, rfl, hr_2, rfl, hr16⟩)
theorem ct_X1_proposals (g : Gv) (J : Jd g) {x : Nat} {C : KsS} {w0 : va_W} (hw0 : KgP g x C w0) (hC : KsB C) : Ct g yX1_proposals (ws_ yX1_proposals cX1_proposals 1 (some .int)) 1 0 0 [.ref x] [w0] (fun (rv_ : Option Value) (rL_ : List va_W) => ∃ (u0 : va_W), rv_ = some (.int (nI ((zRs C).length))) ∧ rL_ = [u0] ∧ KgP g x C u0) noX := by
  refine Ct.of "Keygrove" [some (.ref x)] rfl (by decide) rfl (Nat.le_of_ble_eq_true rfl) rfl ?_
  intro κ B E tb
  have hC0 := hC
  obtain ⟨hc1, hc2, hc3, hc4, hc5, hc6, hc7, hc8, hc9, hc10, hc11⟩ := hC0
  obtain ⟨b, lp, lk, lr, lt, ls, lm, so, pcap, kcap, rcap, tcap, scap, mcap, socap, ps, pks, pmd, v0, v1, v2, v3, v4, v5, v6, v7, hcap, hv0, hv1, hv2, hv3, hv4, hv5, hv6, hv7, rfl⟩ := hw0
  refine g_open 0 rfl rfl rfl ?_
  refine (show Go g κ 0 [some (.ref x)] [] [[(x, .inr (0, [.ref b, .ref lp, .ref lk, .ref lr, .ref lt, .ref ls, .ref lm, .ref so, .int (nI (zBn C))]))], v0, v1, v2, v3, v4, v5, v6, v7] 0 0 from ?_)
  refine g_aload_n (q := 1) B dX1_proposals_0 rfl rfl (rv_r _) ?_
  refine g_get (q := 4) B (ci := 0) (k := 0) (j := 3) in_X1 rfl dX1_proposals_1 rfl rfl (Nat.le_of_ble_eq_true rfl) q280 rfl rfl ?_
  obtain ⟨ps_1, md_1, hli_1, hln_1, hel_1⟩ := LhP.at (Sub.self hv3)
  refine g_callF (q := 9) (is := [4]) (kc2 := 0) (ks2 := 0) B [] (ct_J2_size_s g J (p := lr) (xs := ps_1) (md := md_1) (cap := rcap) (W0 := v3)  (hli_1)) dX1_proposals_4 rfl (ci := 21) rfl (rc_in B (ci := 21) rfl (k := 4) rfl (PropL.hm hv3)) q315 q319 q321 q81 q323 q317 q316 q322 q320 q318 rfl rfl mojava_util_List_size___I rfl rfl (by decide) (by decide) (Nat.le_of_ble_eq_true rfl) (Nat.le_of_ble_eq_true rfl) (Nat.le_of_ble_eq_true rfl) (fun _ _ hx => noX_x hx) (fun v4 L1 hp4 => ?_)
  obtain ⟨rfl, rfl⟩ := hp4
  refine (show Go g κ 9 [some (.ref x)] [.int (nI ps_1.length)] [[(x, .inr (0, [.ref b, .ref lp, .ref lk, .ref lr, .ref lt, .ref ls, .ref lm, .ref so, .int (nI (zBn C))]))], v0, v1, v2, v4, v5, v6, v7, v3] 0 0 from ?_)
  rw [hln_1.1]
  refine (show Go g κ 9 [some (.ref x)] [.int (nI ((zRs C).length))] [[(x, .inr (0, [.ref b, .ref lp, .ref lk, .ref lr, .ref lt, .ref ls, .ref lm, .ref so, .int (nI (zBn C))]))], v0, v1, v2, v4, v5, v6, v7, v3] 0 0 from ?_)
  obtain ⟨wc_2, ewc_2⟩ : ∃ w : va_W, w = ([[(x, .inr (0, [.ref b, .ref lp, .ref lk, .ref lr, .ref lt, .ref ls, .ref lm, .ref so, .int (nI (zBn C))]))], v0, v1, v2, v3, v4, v5, v6, v7] : List va_W).flatten := ⟨_, rfl⟩
  have hwc_2 : KgP g x C wc_2 := by
    rw [ewc_2]
    exact ⟨b, lp, lk, lr, lt, ls, lm, so, pcap, kcap, rcap, tcap, scap, mcap, socap, ps, pks, pmd, _, _, _, _, _, _, _, _, hcap, hv0, hv1, hv2, hv3, hv4, hv5, hv6, hv7, rfl⟩
  refine g_close (w := wc_2) [0, 0, 0, 0, 4, 0, 0, 0, 0] rfl ewc_2 rfl ?_
  refine (show Go g κ 9 [some (.ref x)] [.int (nI ((zRs C).length))] [wc_2] 0 0 from ?_)
  exact g_iret B E dX1_proposals_9 (⟨wc_2, rfl, rfl, hwc_2⟩)
theorem ct_X16_kind (g : Gv) (J : Jd g) {a : Nat} : Ct g yX16_kind (ws_ yX16_kind cX16_kind 1 (some .char)) 0 0 0 [.ref a] [] (fun (rv_ : Option Value) (rL_ : List va_W) => rv_ = some (.int (nI 97)) ∧ rL_ = []) noX := by
  refine Ct.of "Keygrove$Add" [some (.ref a)] rfl (by decide) rfl (Nat.le_of_ble_eq_true rfl) rfl ?_
  intro κ B E tb
  refine g_bipush (v := nI 97) (q := 2) B dX16_kind_0 rfl (by decide) ?_
  exact g_zret B E dX16_kind_2 (by decide) (⟨rfl, rfl⟩)
theorem ct_X18_kind (g : Gv) (J : Jd g) {a : Nat} : Ct g yX18_kind (ws_ yX18_kind cX18_kind 1 (some .char)) 0 0 0 [.ref a] [] (fun (rv_ : Option Value) (rL_ : List va_W) => rv_ = some (.int (nI 114)) ∧ rL_ = []) noX := by
  refine Ct.of "Keygrove$Remove" [some (.ref a)] rfl (by decide) rfl (Nat.le_of_ble_eq_true rfl) rfl ?_
  intro κ B E tb
  refine g_bipush (v := nI 114) (q := 2) B dX18_kind_0 rfl (by decide) ?_
  exact g_zret B E dX18_kind_2 (by decide) (⟨rfl, rfl⟩)
theorem ct_X19_kind (g : Gv) (J : Jd g) {a : Nat} : Ct g yX19_kind (ws_ yX19_kind cX19_kind 1 (some .char)) 0 0 0 [.ref a] [] (fun (rv_ : Option Value) (rL_ : List va_W) => rv_ = some (.int (nI 110)) ∧ rL_ = []) noX := by
  refine Ct.of "Keygrove$Renew" [some (.ref a)] rfl (by decide) rfl (Nat.le_of_ble_eq_true rfl) rfl ?_
  intro κ B E tb
  refine g_bipush (v := nI 110) (q := 2) B dX19_kind_0 rfl (by decide) ?_
  exact g_zret B E dX19_kind_2 (by decide) (⟨rfl, rfl⟩)
def prK (r : PrS) : Nat := if r.1 = 0 then 97 else if r.1 = 1 then 114 else 110
theorem propk0 {r : PrS} (h : r.1 = 0) : prK r = 97 := by unfold prK; rw [if_pos h]
theorem propk1 {r : PrS} (h : r.1 = 1) : prK r = 114 := by unfold prK; rw [if_neg (by omega), if_pos h]
theorem propk2 {r : PrS} (h : r.1 = 2) : prK r = 110 := by unfold prK; rw [if_neg (by omega), if_neg (by omega)]
theorem moKeygrove_Proposal_kind___C : Mo ⟨"Keygrove$Proposal", "kind", "()C"⟩ 0 := by
  refine ⟨by decide, by decide, by decide +kernel⟩
theorem ct_X1_proposal (g : Gv) (J : Jd g) {x : Nat} {C : KsS} {v : Int32} {w0 : va_W} (hw0 : KgP g x C w0) (hC : KsB C) : Ct g yX1_proposal (ws_ yX1_proposal cX1_proposal 2 (some .char)) 10 10 60 [.ref x, .int v] [w0] (fun (rv_ : Option Value) (rL_ : List va_W) => ∃ (i : Nat) (r : PrS) (u0 : va_W), rv_ = some (.int (nI (prK r))) ∧ rL_ = [u0] ∧ KgP g x C u0 ∧ (v = nI i) ∧ ((zRs C)[i]? = some r)) (fun (rE_ : String) (rL_ : List va_W) => rL_ = [w0] ∧ ((rE_ = "java/util/NoSuchElementException" ∧ (¬ inR v (zRs C).length = true)))) := by
  refine Ct.of "Keygrove" [some (.ref x), some (.int v)] rfl (by decide) rfl (Nat.le_of_ble_eq_true rfl) rfl ?_
  intro κ B E tb
  have hC0 := hC
  obtain ⟨hc1, hc2, hc3, hc4, hc5, hc6, hc7, hc8, hc9, hc10, hc11⟩ := hC0
  obtain ⟨b, lp, lk, lr, lt, ls, lm, so, pcap, kcap, rcap, tcap, scap, mcap, socap, ps, pks, pmd, v0, v1, v2, v3, v4, v5, v6, v7, hcap, hv0, hv1, hv2, hv3, hv4, hv5, hv6, hv7, rfl⟩ := hw0
  refine g_open 0 rfl rfl rfl ?_
  refine (show Go g κ 0 [some (.ref x), some (.int v)] [] [[(x, .inr (0, [.ref b, .ref lp, .ref lk, .ref lr, .ref lt, .ref ls, .ref lm, .ref so, .int (nI (zBn C))]))], v0, v1, v2, v3, v4, v5, v6, v7] 10 60 from ?_)
  refine g_iload_n (q := 1) B dX1_proposal_0 rfl rfl ?_
  refine g_iconst (v := nI 0) (q := 2) B dX1_proposal_1 rfl (by decide) ?_
  refine g_aload_n (q := 3) B dX1_proposal_2 rfl rfl (rv_r _) ?_
  refine g_get (q := 6) B (ci := 0) (k := 0) (j := 3) in_X1 rfl dX1_proposal_3 rfl rfl (Nat.le_of_ble_eq_true rfl) q280 rfl rfl ?_
  obtain ⟨ps_1, md_1, hli_1, hln_1, hel_1⟩ := LhP.at (Sub.self hv3)
  refine g_callF (q := 11) (is := [4]) (kc2 := 10) (ks2 := 60) B [] (ct_J2_size_s g J (p := lr) (xs := ps_1) (md := md_1) (cap := rcap) (W0 := v3)  (hli_1)) dX1_proposal_6 rfl (ci := 21) rfl (rc_in B (ci := 21) rfl (k := 4) rfl (PropL.hm hv3)) q315 q319 q321 q81 q323 q317 q316 q322 q320 q318 rfl rfl mojava_util_List_size___I rfl rfl (by decide) (by decide) (Nat.le_of_ble_eq_true rfl) (Nat.le_of_ble_eq_true rfl) (Nat.le_of_ble_eq_true rfl) (fun _ _ hx => noX_x hx) (fun v6 L1 hp6 => ?_)
  obtain ⟨rfl, rfl⟩ := hp6
  refine (show Go g κ 11 [some (.ref x), some (.int v)] [.int (nI ps_1.length), .int (nI 0), .int v] [[(x, .inr (0, [.ref b, .ref lp, .ref lk, .ref lr, .ref lt, .ref ls, .ref lm, .ref so, .int (nI (zBn C))]))], v0, v1, v2, v4, v5, v6, v7, v3] 10 60 from ?_)
  rw [hln_1.1]
  refine (show Go g κ 11 [some (.ref x), some (.int v)] [.int (nI ((zRs C).length)), .int (nI 0), .int v] [[(x, .inr (0, [.ref b, .ref lp, .ref lk, .ref lr, .ref lt, .ref ls, .ref lm, .ref so, .int (nI (zBn C))]))], v0, v1, v2, v4, v5, v6, v7, v3] 10 60 from ?_)
  refine g_iconst (v := nI 1) (q := 12) B dX1_proposal_11 rfl (by decide) ?_
  refine g_isub (v := nI (zRs C).length - nI 1) (q := 13) B dX1_proposal_12 rfl rfl ?_
  refine g_callS (q := 16) (is := []) (kc2 := 10) (ks2 := 60) B [.int v, .int (nI 0), .int (nI (zRs C).length - nI 1)] (ct_X1_in g J (v := v) (n := (zRs C).length)  (by first | assumption | omega | rfl)) dX1_proposal_13 rfl q1965 q1966 q77 q1967 rfl rfl moX1_in rfl rfl (by decide) (by decide) (Nat.le_of_ble_eq_true rfl) (Nat.le_of_ble_eq_true rfl) (Nat.le_of_ble_eq_true rfl) (fun _ _ hx => noX_x hx) (fun v13 L1 hp13 => ?_)
  obtain ⟨rfl, rfl⟩ := hp13
  refine (show Go g κ 16 [some (.ref x), some (.int v)] [.int (nI (if inR v ((zRs C).length) = true then 1 else 0))] [[(x, .inr (0, [.ref b, .ref lp, .ref lk, .ref lr, .ref lt, .ref ls, .ref lm, .ref so, .int (nI (zBn C))]))], v0, v1, v2, v4, v5, v6, v7, v3] 10 60 from ?_)
  refine g_callS (q := 19) (is := []) (kc2 := 9) (ks2 := 54) B [.int (nI (if inR v ((zRs C).length) = true then 1 else 0))] (ct_X1_found_2 g J (c := inR v ((zRs C).length) = true) (dc := _)  ) dX1_proposal_16 rfl q2357 q2358 q77 q2359 rfl rfl moX1_found_2 rfl rfl (by decide) (by decide) (Nat.le_of_ble_eq_true rfl) (Nat.le_of_ble_eq_true rfl) (Nat.le_of_ble_eq_true rfl) (fun E16 L1 hx16 => ?_) (fun v16 L1 hp16 => ?_)
  · skip
    obtain ⟨rfl, hx16⟩ := hx16
    obtain ⟨rfl, hx16⟩ := hx16
    refine gx_cl [0, 0, 0, 0, 4, 0, 0, 0, 0] rfl ?_
    exact g_out B E tb (by first | exact ⟨rfl, ⟨rfl, hx16⟩⟩ | exact ⟨rfl, ⟨rfl, by simp_all⟩⟩)
  obtain ⟨rfl, rfl, ht_16⟩ := hp16
  refine (show Go g κ 19 [some (.ref x), some (.int v)] [] [[(x, .inr (0, [.ref b, .ref lp, .ref lk, .ref lr, .ref lt, .ref ls, .ref lm, .ref so, .int (nI (zBn C))]))], v0, v1, v2, v4, v5, v6, v7, v3] 9 54 from ?_)
  obtain ⟨i, hii, rfl⟩ := inR_t ht_16
  refine (show Go g κ 19 [some (.ref x), some (.int (nI i))] [] [[(x, .inr (0, [.ref b, .ref lp, .ref lk, .ref lr, .ref lt, .ref ls, .ref lm, .ref so, .int (nI (zBn C))]))], v0, v1, v2, v4, v5, v6, v7, v3] 9 54 from ?_)
  refine g_aload_n (q := 20) B dX1_proposal_19 rfl rfl (rv_r _) ?_
  refine g_get (q := 23) B (ci := 0) (k := 0) (j := 3) in_X1 rfl dX1_proposal_20 rfl rfl (Nat.le_of_ble_eq_true rfl) q280 rfl rfl ?_
  refine g_iload_n (q := 24) B dX1_proposal_23 rfl rfl ?_
  obtain ⟨r24, hr24⟩ := get_ex (xs := (zRs C)) (i := i) (by omega)
  obtain ⟨x24, hx24⟩ := get_ex (xs := ps_1) (i := i) (by have := get_lt2 hr24; have := hln_1.1; omega)
  have hE_2 := hel_1 _ _ _ hx24 hr24
  refine g_callF (q := 29) (is := [8]) (kc2 := 9) (ks2 := 54) B [.int (nI i)] (ct_J2_get_s g J (p := lr) (xs := ps_1) (md := md_1) (cap := rcap) (i := i) (x := x24) (W0 := v3)  (hli_1) (hx24)) dX1_proposal_24 rfl (ci := 21) rfl (rc_in B (ci := 21) rfl (k := 8) rfl (PropL.hm hv3)) q1138 q1093 q1095 q81 q1097 q1092 q1091 q1096 q1094 q318 rfl rfl mojava_util_List_get__I_Ljava_lang_Object_ rfl rfl (by decide) (by decide) (Nat.le_of_ble_eq_true rfl) (Nat.le_of_ble_eq_true rfl) (Nat.le_of_ble_eq_true rfl) (fun _ _ hx => noX_x hx) (fun v24 L1 hp24 => ?_)
  obtain ⟨rfl, rfl⟩ := hp24
  refine (show Go g κ 29 [some (.ref x), some (.int (nI i))] [.ref x24] [[(x, .inr (0, [.ref b, .ref lp, .ref lk, .ref lr, .ref lt, .ref ls, .ref lm, .ref so, .int (nI (zBn C))]))], v0, v1, v2, v4, v5, v6, v7, v3] 9 54 from ?_)
  rcases (PropP.at (show Sub (PropP g pks x24 r24) _ from hE_2)) with ⟨hkd, kp, hkp, hcp⟩ | ⟨hkd, hcp⟩ | ⟨hkd, hcp⟩
  · skip
    refine g_castR (q := 32) B (rc_in B (ci := 8) rfl (k := 8) rfl ⟨_, hcp⟩) dX1_proposal_29 rfl q2391 q3673 ?_
    refine g_callA (q := 35) (is := []) (kc2 := 9) (ks2 := 54) B [] (ct_X16_kind g J (a := x24)  ) dX1_proposal_32 rfl (rc_in B (ci := 8) rfl (k := 8) rfl ⟨_, hcp⟩) q2462 (by decide) q2461 q2463 q2464 q2465 q140 q2466 rfl rfl moKeygrove_Proposal_kind___C rfl rfl (by decide) (by decide) (Nat.le_of_ble_eq_true rfl) (Nat.le_of_ble_eq_true rfl) (Nat.le_of_ble_eq_true rfl) (fun _ _ hx => noX_x hx) (fun v32 L1 hp32 => ?_)
    obtain ⟨rfl, rfl⟩ := hp32
    refine (show Go g κ 35 [some (.ref x), some (.int (nI i))] [.int (nI 97)] [[(x, .inr (0, [.ref b, .ref lp, .ref lk, .ref lr, .ref lt, .ref ls, .ref lm, .ref so, .int (nI (zBn C))]))], v0, v1, v2, v4, v5, v6, v7, v3] 9 54 from ?_)
    obtain ⟨wc_3, ewc_3⟩ : ∃ w : va_W, w = ([[(x, .inr (0, [.ref b, .ref lp, .ref lk, .ref lr, .ref lt, .ref ls, .ref lm, .ref so, .int (nI (zBn C))]))], v0, v1, v2, v3, v4, v5, v6, v7] : List va_W).flatten := ⟨_, rfl⟩
    have hwc_3 : KgP g x C wc_3 := by
      rw [ewc_3]
      exact ⟨b, lp, lk, lr, lt, ls, lm, so, pcap, kcap, rcap, tcap, scap, mcap, socap, ps, pks, pmd, _, _, _, _, _, _, _, _, hcap, hv0, hv1, hv2, hv3, hv4, hv5, hv6, hv7, rfl⟩
    refine g_close (w := wc_3) [0, 0, 0, 0, 4, 0, 0, 0, 0] rfl ewc_3 rfl ?_
    refine (show Go g κ 35 [some (.ref x), some (.int (nI i))] [.int (nI 97)] [wc_3] 9 54 from ?_)
    exact g_zret B E dX1_proposal_35 (by decide) (⟨i, r24, _, by rw [propk0 hkd], rfl, hwc_3, rfl, hr24⟩)
  · skip
    refine g_castR (q := 32) B (rc_in B (ci := 9) rfl (k := 8) rfl ⟨_, hcp⟩) dX1_proposal_29 rfl q2391 q3674 ?_
    refine g_callA (q := 35) (is := []) (kc2 := 9) (ks2 := 54) B [] (ct_X18_kind g J (a := x24)  ) dX1_proposal_32 rfl (rc_in B (ci := 9) rfl (k := 8) rfl ⟨_, hcp⟩) q2462 (by decide) q2461 q2463 q2467 q2468 q142 q2469 rfl rfl moKeygrove_Proposal_kind___C rfl rfl (by decide) (by decide) (Nat.le_of_ble_eq_true rfl) (Nat.le_of_ble_eq_true rfl) (Nat.le_of_ble_eq_true rfl) (fun _ _ hx => noX_x hx) (fun v32 L1 hp32 => ?_)
    obtain ⟨rfl, rfl⟩ := hp32
    refine (show Go g κ 35 [some (.ref x), some (.int (nI i))] [.int (nI 114)] [[(x, .inr (0, [.ref b, .ref lp, .ref lk, .ref lr, .ref lt, .ref ls, .ref lm, .ref so, .int (nI (zBn C))]))], v0, v1, v2, v4, v5, v6, v7, v3] 9 54 from ?_)
    obtain ⟨wc_4, ewc_4⟩ : ∃ w : va_W, w = ([[(x, .inr (0, [.ref b, .ref lp, .ref lk, .ref lr, .ref lt, .ref ls, .ref lm, .ref so, .int (nI (zBn C))]))], v0, v1, v2, v3, v4, v5, v6, v7] : List va_W).flatten := ⟨_, rfl⟩
    have hwc_4 : KgP g x C wc_4 := by
      rw [ewc_4]
      exact ⟨b, lp, lk, lr, lt, ls, lm, so, pcap, kcap, rcap, tcap, scap, mcap, socap, ps, pks, pmd, _, _, _, _, _, _, _, _, hcap, hv0, hv1, hv2, hv3, hv4, hv5, hv6, hv7, rfl⟩
    refine g_close (w := wc_4) [0, 0, 0, 0, 4, 0, 0, 0, 0] rfl ewc_4 rfl ?_
    refine (show Go g κ 35 [some (.ref x), some (.int (nI i))] [.int (nI 114)] [wc_4] 9 54 from ?_)
    exact g_zret B E dX1_proposal_35 (by decide) (⟨i, r24, _, by rw [propk1 hkd], rfl, hwc_4, rfl, hr24⟩)
  · skip
    refine g_castR (q := 32) B (rc_in B (ci := 10) rfl (k := 8) rfl ⟨_, hcp⟩) dX1_proposal_29 rfl q2391 q3675 ?_
    refine g_callA (q := 35) (is := []) (kc2 := 9) (ks2 := 54) B [] (ct_X19_kind g J (a := x24)  ) dX1_proposal_32 rfl (rc_in B (ci := 10) rfl (k := 8) rfl ⟨_, hcp⟩) q2462 (by decide) q2461 q2463 q2470 q2471 q143 q2472 rfl rfl moKeygrove_Proposal_kind___C rfl rfl (by decide) (by decide) (Nat.le_of_ble_eq_true rfl) (Nat.le_of_ble_eq_true rfl) (Nat.le_of_ble_eq_true rfl) (fun _ _ hx => noX_x hx) (fun v32 L1 hp32 => ?_)
    obtain ⟨rfl, rfl⟩ := hp32
    refine (show Go g κ 35 [some (.ref x), some (.int (nI i))] [.int (nI 110)] [[(x, .inr (0, [.ref b, .ref lp, .ref lk, .ref lr, .ref lt, .ref ls, .ref lm, .ref so, .int (nI (zBn C))]))], v0, v1, v2, v4, v5, v6, v7, v3] 9 54 from ?_)
    obtain ⟨wc_5, ewc_5⟩ : ∃ w : va_W, w = ([[(x, .inr (0, [.ref b, .ref lp, .ref lk, .ref lr, .ref lt, .ref ls, .ref lm, .ref so, .int (nI (zBn C))]))], v0, v1, v2, v3, v4, v5, v6, v7] : List va_W).flatten := ⟨_, rfl⟩
    have hwc_5 : KgP g x C wc_5 := by
      rw [ewc_5]
      exact ⟨b, lp, lk, lr, lt, ls, lm, so, pcap, kcap, rcap, tcap, scap, mcap, socap, ps, pks, pmd, _, _, _, _, _, _, _, _, hcap, hv0, hv1, hv2, hv3, hv4, hv5, hv6, hv7, rfl⟩
    refine g_close (w := wc_5) [0, 0, 0, 0, 4, 0, 0, 0, 0] rfl ewc_5 rfl ?_
    refine (show Go g κ 35 [some (.ref x), some (.int (nI i))] [.int (nI 110)] [wc_5] 9 54 from ?_)
    exact g_zret B E dX1_proposal_35 (by decide) (⟨i, r24, _, by rw [propk2 hkd], rfl, hwc_5, rfl, hr24⟩)
theorem ct_X1_leaves (g : Gv) (J : Jd g) {x : Nat} {C : KsS} {T : TrS} {w0 : va_W} (hw0 : KgP g x C w0) (hC : KsB C) (hT : zTs C ≠ [] → (zTs C)[(zTs C).length - 1]? = some T) : Ct g yX1_leaves (ws_ yX1_leaves cX1_leaves 1 (some .int)) 10 10 60 [.ref x] [w0] (fun (rv_ : Option Value) (rL_ : List va_W) => ∃ (u0 : va_W), rv_ = some (.int (nI (2 ^ T.1))) ∧ rL_ = [u0] ∧ KgP g x C u0 ∧ (zTs C ≠ [])) (fun (rE_ : String) (rL_ : List va_W) => rL_ = [w0] ∧ ((rE_ = "java/lang/UnsupportedOperationException" ∧ (¬ zTs C ≠ [])))) := by
  refine Ct.of "Keygrove" [some (.ref x)] rfl (by decide) rfl (Nat.le_of_ble_eq_true rfl) rfl ?_
  intro κ B E tb
  have hC0 := hC
  obtain ⟨hc1, hc2, hc3, hc4, hc5, hc6, hc7, hc8, hc9, hc10, hc11⟩ := hC0
  obtain ⟨b, lp, lk, lr, lt, ls, lm, so, pcap, kcap, rcap, tcap, scap, mcap, socap, ps, pks, pmd, v0, v1, v2, v3, v4, v5, v6, v7, hcap, hv0, hv1, hv2, hv3, hv4, hv5, hv6, hv7, rfl⟩ := hw0
  refine g_open 0 rfl rfl rfl ?_
  refine (show Go g κ 0 [some (.ref x)] [] [[(x, .inr (0, [.ref b, .ref lp, .ref lk, .ref lr, .ref lt, .ref ls, .ref lm, .ref so, .int (nI (zBn C))]))], v0, v1, v2, v3, v4, v5, v6, v7] 10 60 from ?_)
  refine g_aload_n (q := 1) B dX1_leaves_0 rfl rfl (rv_r _) ?_
  refine g_callV (q := 4) (is := [0, 4]) (kc2 := 9) (ks2 := 54) B [] (ct_X1_isGroup g J (x := x) (lk := lk) (b := b) (lp := lp) (lr := lr) (lt := lt) (ls := ls) (lm := lm) (so := so) (bxs := zBn C) (Ts := (zTs C)) (tcap := tcap) hv4 ) dX1_leaves_1 rfl (rc_at B (ci := 0) rfl (k := 0) rfl) rfl q2327 q2329 qs27 q77 q2330 rfl rfl moX1_isGroup rfl rfl (by decide) (by decide) (Nat.le_of_ble_eq_true rfl) (Nat.le_of_ble_eq_true rfl) (Nat.le_of_ble_eq_true rfl) (fun E1 L1 hx1 => ?_) (fun v1 L1 hp1 => ?_)
  · skip
    obtain ⟨rfl, hx1⟩ := hx1
    obtain ⟨rfl, hx1⟩ := hx1
    refine gx_cl [7, 0, 0, 0, 0, 3, 0, 0, 0] rfl ?_
    exact g_out B E tb (by first | exact ⟨rfl, ⟨rfl, hx1⟩⟩ | exact ⟨rfl, ⟨rfl, by simp_all⟩⟩)
  obtain ⟨rfl, rfl, hne_1⟩ := hp1
  refine (show Go g κ 4 [some (.ref x)] [] [v0, v1, v2, v3, v5, v6, v7, [(x, .inr (0, [.ref b, .ref lp, .ref lk, .ref lr, .ref lt, .ref ls, .ref lm, .ref so, .int (nI (zBn C))]))], v4] 9 54 from ?_)
  refine g_aload_n (q := 5) B dX1_leaves_4 rfl rfl (rv_r _) ?_
  refine g_callV (q := 8) (is := [7, 7]) (kc2 := 9) (ks2 := 54) B [] (ct_X1_tree g J (x := x) (lk := lk) (b := b) (lp := lp) (lr := lr) (lt := lt) (ls := ls) (lm := lm) (so := so) (bxs := (zBn C)) (Ts := (zTs C)) (tcap := tcap) (T := T) hv4 (hT hne_1)) dX1_leaves_5 rfl (rc_at B (ci := 0) rfl (k := 7) rfl) rfl q1133 q1135 qs9 q77 q1136 rfl rfl moX1_tree rfl rfl (by decide) (by decide) (Nat.le_of_ble_eq_true rfl) (Nat.le_of_ble_eq_true rfl) (Nat.le_of_ble_eq_true rfl) (fun _ _ hx => noX_x hx) (fun v5 L1 hp5 => ?_)
  obtain ⟨t5, rfl, rfl, hE_5⟩ := hp5
  refine (show Go g κ 8 [some (.ref x)] [.ref t5] [v0, v1, v2, v3, v5, v6, v7, [(x, .inr (0, [.ref b, .ref lp, .ref lk, .ref lr, .ref lt, .ref ls, .ref lm, .ref so, .int (nI (zBn C))]))], v4] 9 54 from ?_)
  have hTB5 := TreeP.b2 hE_5
  have hp25 := p2_4 hTB5.1
  obtain ⟨as_1, al_1, ap_1, fs_1, fl_1, fp_1, hB_1, hfs_1, hfl_1, hfp_1, hc_1_0, hc_1_1, hc_1_2, hc_1_3⟩ := TreeP.at (hE_5)
  refine g_getNM (q := 11) B (ci := 5) (k := 8) (j := 0) in_X10 rfl dX1_leaves_8 rfl rfl (hc_1_0) (Nat.le_of_ble_eq_true rfl) q2037 rfl rfl ?_
  obtain ⟨wc_2, ewc_2⟩ : ∃ w : va_W, w = ([[(x, .inr (0, [.ref b, .ref lp, .ref lk, .ref lr, .ref lt, .ref ls, .ref lm, .ref so, .int (nI (zBn C))]))], v0, v1, v2, v3, v4, v5, v6, v7] : List va_W).flatten := ⟨_, rfl⟩
  have hwc_2 : KgP g x C wc_2 := by
    rw [ewc_2]
    exact ⟨b, lp, lk, lr, lt, ls, lm, so, pcap, kcap, rcap, tcap, scap, mcap, socap, ps, pks, pmd, _, _, _, _, _, _, _, _, hcap, hv0, hv1, hv2, hv3, hv4, hv5, hv6, hv7, rfl⟩
  refine g_close (w := wc_2) [7, 0, 0, 0, 0, 3, 0, 0, 0] rfl ewc_2 rfl ?_
  refine (show Go g κ 11 [some (.ref x)] [.int (nI (2 ^ T.1))] [wc_2] 9 54 from ?_)
  exact g_iret B E dX1_leaves_11 (⟨wc_2, rfl, rfl, hwc_2, (by first | assumption | omega | rfl | simp_all)⟩)
theorem moX1_hasNode : Mo yX1_hasNode 1 := by
  refine ⟨by decide, by decide, by decide +kernel⟩
theorem ct_X1_isBlank (g : Gv) (J : Jd g) {x : Nat} {C : KsS} {T : TrS} {v : Int32} {w0 : va_W} (hw0 : KgP g x C w0) (hC : KsB C) (hT : zTs C ≠ [] → (zTs C)[(zTs C).length - 1]? = some T) : Ct g yX1_isBlank (ws_ yX1_isBlank cX1_isBlank 2 (some .boolean)) 10 10 60 [.ref x, .int v] [w0] (fun (rv_ : Option Value) (rL_ : List va_W) => ∃ (i : Nat) (u0 : va_W), rv_ = some (.int (nI (if T.2.1 i = none then 1 else 0))) ∧ rL_ = [u0] ∧ KgP g x C u0 ∧ (v = nI i) ∧ (i < 2 * 2 ^ T.1 - 1) ∧ (zTs C ≠ [])) (fun (rE_ : String) (rL_ : List va_W) => rL_ = [w0] ∧ ((rE_ = "java/lang/IndexOutOfBoundsException" ∧ (¬ (zTs C ≠ [] ∧ inR v (2 * 2 ^ T.1 - 1) = true))))) := by
  refine Ct.of "Keygrove" [some (.ref x), some (.int v)] rfl (by decide) rfl (Nat.le_of_ble_eq_true rfl) rfl ?_
  intro κ B E tb
  have hC0 := hC
  obtain ⟨hc1, hc2, hc3, hc4, hc5, hc6, hc7, hc8, hc9, hc10, hc11⟩ := hC0
  obtain ⟨b, lp, lk, lr, lt, ls, lm, so, pcap, kcap, rcap, tcap, scap, mcap, socap, ps, pks, pmd, v0, v1, v2, v3, v4, v5, v6, v7, hcap, hv0, hv1, hv2, hv3, hv4, hv5, hv6, hv7, rfl⟩ := hw0
  refine g_open 0 rfl rfl rfl ?_
  refine (show Go g κ 0 [some (.ref x), some (.int v)] [] [[(x, .inr (0, [.ref b, .ref lp, .ref lk, .ref lr, .ref lt, .ref ls, .ref lm, .ref so, .int (nI (zBn C))]))], v0, v1, v2, v3, v4, v5, v6, v7] 10 60 from ?_)
  refine g_aload_n (q := 1) B dX1_isBlank_0 rfl rfl (rv_r _) ?_
  refine g_iload_n (q := 2) B dX1_isBlank_1 rfl rfl ?_
  refine g_callV (q := 5) (is := [0, 4]) (kc2 := 9) (ks2 := 54) B [.int v] (ct_X1_hasNode g J (x := x) (lk := lk) (b := b) (lp := lp) (lr := lr) (lt := lt) (ls := ls) (lm := lm) (so := so) (bxs := zBn C) (Ts := (zTs C)) (tcap := tcap) (T := T) (v := v) hv4 (by first | assumption | omega | rfl) (hT)) dX1_isBlank_2 rfl (rc_at B (ci := 0) rfl (k := 0) rfl) rfl q2807 q2809 qs45 q77 q2810 rfl rfl moX1_hasNode rfl rfl (by decide) (by decide) (Nat.le_of_ble_eq_true rfl) (Nat.le_of_ble_eq_true rfl) (Nat.le_of_ble_eq_true rfl) (fun E2 L1 hx2 => ?_) (fun v2 L1 hp2 => ?_)
  · skip
    obtain ⟨rfl, hx2⟩ := hx2
    obtain ⟨rfl, hx2⟩ := hx2
    refine gx_cl [7, 0, 0, 0, 0, 3, 0, 0, 0] rfl ?_
    exact g_out B E tb (by first | exact ⟨rfl, ⟨rfl, hx2⟩⟩ | exact ⟨rfl, ⟨rfl, by simp_all⟩⟩)
  obtain ⟨i2, rfl, rfl, hv_2, hne_2, hi_2⟩ := hp2
  refine (show Go g κ 5 [some (.ref x), some (.int v)] [] [v0, v1, v2, v3, v5, v6, v7, [(x, .inr (0, [.ref b, .ref lp, .ref lk, .ref lr, .ref lt, .ref ls, .ref lm, .ref so, .int (nI (zBn C))]))], v4] 9 54 from ?_)
  subst hv_2
  refine (show Go g κ 5 [some (.ref x), some (.int (nI i2))] [] [v0, v1, v2, v3, v5, v6, v7, [(x, .inr (0, [.ref b, .ref lp, .ref lk, .ref lr, .ref lt, .ref ls, .ref lm, .ref so, .int (nI (zBn C))]))], v4] 9 54 from ?_)
  refine g_aload_n (q := 6) B dX1_isBlank_5 rfl rfl (rv_r _) ?_
  refine g_callV (q := 9) (is := [7, 7]) (kc2 := 9) (ks2 := 54) B [] (ct_X1_tree g J (x := x) (lk := lk) (b := b) (lp := lp) (lr := lr) (lt := lt) (ls := ls) (lm := lm) (so := so) (bxs := (zBn C)) (Ts := (zTs C)) (tcap := tcap) (T := T) hv4 (hT hne_2)) dX1_isBlank_6 rfl (rc_at B (ci := 0) rfl (k := 7) rfl) rfl q1133 q1135 qs9 q77 q1136 rfl rfl moX1_tree rfl rfl (by decide) (by decide) (Nat.le_of_ble_eq_true rfl) (Nat.le_of_ble_eq_true rfl) (Nat.le_of_ble_eq_true rfl) (fun _ _ hx => noX_x hx) (fun v6 L1 hp6 => ?_)
  obtain ⟨t6, rfl, rfl, hE_6⟩ := hp6
  refine (show Go g κ 9 [some (.ref x), some (.int (nI i2))] [.ref t6] [v0, v1, v2, v3, v5, v6, v7, [(x, .inr (0, [.ref b, .ref lp, .ref lk, .ref lr, .ref lt, .ref ls, .ref lm, .ref so, .int (nI (zBn C))]))], v4] 9 54 from ?_)
  have hTB6 := TreeP.b2 hE_6
  have hp26 := p2_4 hTB6.1
  refine g_iload_n (q := 10) B dX1_isBlank_9 rfl rfl ?_
  refine g_callV (q := 13) (is := [8]) (kc2 := 9) (ks2 := 54) B [.int (nI i2)] (ct_X10_isBlank_s g J (t := t6) (T := T) (n := i2) (W0 := v4)  (hE_6) (by first | assumption | omega | rfl)) dX1_isBlank_10 rfl (rc_in B (ci := 5) rfl (k := 8) rfl (Sub.hm (hE_6) fun _ z => TreeP.hm z)) rfl q1144 q1145 q1146 q123 q1147 rfl rfl moX10_isBlank rfl rfl (by decide) (by decide) (Nat.le_of_ble_eq_true rfl) (Nat.le_of_ble_eq_true rfl) (Nat.le_of_ble_eq_true rfl) (fun _ _ hx => noX_x hx) (fun v10 L1 hp10 => ?_)
  obtain ⟨rfl, rfl⟩ := hp10
  refine (show Go g κ 13 [some (.ref x), some (.int (nI i2))] [.int (nI (if T.2.1 i2 = none then 1 else 0))] [v0, v1, v2, v3, v5, v6, v7, [(x, .inr (0, [.ref b, .ref lp, .ref lk, .ref lr, .ref lt, .ref ls, .ref lm, .ref so, .int (nI (zBn C))]))], v4] 9 54 from ?_)
  obtain ⟨wc_1, ewc_1⟩ : ∃ w : va_W, w = ([[(x, .inr (0, [.ref b, .ref lp, .ref lk, .ref lr, .ref lt, .ref ls, .ref lm, .ref so, .int (nI (zBn C))]))], v0, v1, v2, v3, v4, v5, v6, v7] : List va_W).flatten := ⟨_, rfl⟩
  have hwc_1 : KgP g x C wc_1 := by
    rw [ewc_1]
    exact ⟨b, lp, lk, lr, lt, ls, lm, so, pcap, kcap, rcap, tcap, scap, mcap, socap, ps, pks, pmd, _, _, _, _, _, _, _, _, hcap, hv0, hv1, hv2, hv3, hv4, hv5, hv6, hv7, rfl⟩
  refine g_close (w := wc_1) [7, 0, 0, 0, 0, 3, 0, 0, 0] rfl ewc_1 rfl ?_
  refine (show Go g κ 13 [some (.ref x), some (.int (nI i2))] [.int (nI (if T.2.1 i2 = none then 1 else 0))] [wc_1] 9 54 from ?_)
  exact g_zret B E dX1_isBlank_13 (by split <;> decide) (⟨i2, _, rfl, rfl, hwc_1, rfl, hi_2, hne_2⟩)
theorem ct_X1_late (g : Gv) (J : Jd g) {x : Nat} {C : KsS} {T : TrS} {v : Int32} {w0 : va_W} (hw0 : KgP g x C w0) (hC : KsB C) (hT : zTs C ≠ [] → (zTs C)[(zTs C).length - 1]? = some T) : Ct g yX1_late (ws_ yX1_late cX1_late 2 (some .int)) 10 10 60 [.ref x, .int v] [w0] (fun (rv_ : Option Value) (rL_ : List va_W) => ∃ (i : Nat) (u0 : va_W), rv_ = some (.int (nI (T.2.2.1 i))) ∧ rL_ = [u0] ∧ KgP g x C u0 ∧ (v = nI i) ∧ (i < 2 * 2 ^ T.1 - 1) ∧ (zTs C ≠ [])) (fun (rE_ : String) (rL_ : List va_W) => rL_ = [w0] ∧ ((rE_ = "java/lang/IndexOutOfBoundsException" ∧ (¬ (zTs C ≠ [] ∧ inR v (2 * 2 ^ T.1 - 1) = true))))) := by
  refine Ct.of "Keygrove" [some (.ref x), some (.int v)] rfl (by decide) rfl (Nat.le_of_ble_eq_true rfl) rfl ?_
  intro κ B E tb
  have hC0 := hC
  obtain ⟨hc1, hc2, hc3, hc4, hc5, hc6, hc7, hc8, hc9, hc10, hc11⟩ := hC0
  obtain ⟨b, lp, lk, lr, lt, ls, lm, so, pcap, kcap, rcap, tcap, scap, mcap, socap, ps, pks, pmd, v0, v1, v2, v3, v4, v5, v6, v7, hcap, hv0, hv1, hv2, hv3, hv4, hv5, hv6, hv7, rfl⟩ := hw0
  refine g_open 0 rfl rfl rfl ?_
  refine (show Go g κ 0 [some (.ref x), some (.int v)] [] [[(x, .inr (0, [.ref b, .ref lp, .ref lk, .ref lr, .ref lt, .ref ls, .ref lm, .ref so, .int (nI (zBn C))]))], v0, v1, v2, v3, v4, v5, v6, v7] 10 60 from ?_)
  refine g_aload_n (q := 1) B dX1_late_0 rfl rfl (rv_r _) ?_
  refine g_iload_n (q := 2) B dX1_late_1 rfl rfl ?_
  refine g_callV (q := 5) (is := [0, 4]) (kc2 := 9) (ks2 := 54) B [.int v] (ct_X1_hasNode g J (x := x) (lk := lk) (b := b) (lp := lp) (lr := lr) (lt := lt) (ls := ls) (lm := lm) (so := so) (bxs := zBn C) (Ts := (zTs C)) (tcap := tcap) (T := T) (v := v) hv4 (by first | assumption | omega | rfl) (hT)) dX1_late_2 rfl (rc_at B (ci := 0) rfl (k := 0) rfl) rfl q2807 q2809 qs45 q77 q2810 rfl rfl moX1_hasNode rfl rfl (by decide) (by decide) (Nat.le_of_ble_eq_true rfl) (Nat.le_of_ble_eq_true rfl) (Nat.le_of_ble_eq_true rfl) (fun E2 L1 hx2 => ?_) (fun v2 L1 hp2 => ?_)
  · skip
    obtain ⟨rfl, hx2⟩ := hx2
    obtain ⟨rfl, hx2⟩ := hx2
    refine gx_cl [7, 0, 0, 0, 0, 3, 0, 0, 0] rfl ?_
    exact g_out B E tb (by first | exact ⟨rfl, ⟨rfl, hx2⟩⟩ | exact ⟨rfl, ⟨rfl, by simp_all⟩⟩)
  obtain ⟨i2, rfl, rfl, hv_2, hne_2, hi_2⟩ := hp2
  refine (show Go g κ 5 [some (.ref x), some (.int v)] [] [v0, v1, v2, v3, v5, v6, v7, [(x, .inr (0, [.ref b, .ref lp, .ref lk, .ref lr, .ref lt, .ref ls, .ref lm, .ref so, .int (nI (zBn C))]))], v4] 9 54 from ?_)
  subst hv_2
  refine (show Go g κ 5 [some (.ref x), some (.int (nI i2))] [] [v0, v1, v2, v3, v5, v6, v7, [(x, .inr (0, [.ref b, .ref lp, .ref lk, .ref lr, .ref lt, .ref ls, .ref lm, .ref so, .int (nI (zBn C))]))], v4] 9 54 from ?_)
  refine g_aload_n (q := 6) B dX1_late_5 rfl rfl (rv_r _) ?_
  refine g_callV (q := 9) (is := [7, 7]) (kc2 := 9) (ks2 := 54) B [] (ct_X1_tree g J (x := x) (lk := lk) (b := b) (lp := lp) (lr := lr) (lt := lt) (ls := ls) (lm := lm) (so := so) (bxs := (zBn C)) (Ts := (zTs C)) (tcap := tcap) (T := T) hv4 (hT hne_2)) dX1_late_6 rfl (rc_at B (ci := 0) rfl (k := 7) rfl) rfl q1133 q1135 qs9 q77 q1136 rfl rfl moX1_tree rfl rfl (by decide) (by decide) (Nat.le_of_ble_eq_true rfl) (Nat.le_of_ble_eq_true rfl) (Nat.le_of_ble_eq_true rfl) (fun _ _ hx => noX_x hx) (fun v6 L1 hp6 => ?_)
  obtain ⟨t6, rfl, rfl, hE_6⟩ := hp6
  refine (show Go g κ 9 [some (.ref x), some (.int (nI i2))] [.ref t6] [v0, v1, v2, v3, v5, v6, v7, [(x, .inr (0, [.ref b, .ref lp, .ref lk, .ref lr, .ref lt, .ref ls, .ref lm, .ref so, .int (nI (zBn C))]))], v4] 9 54 from ?_)
  have hTB6 := TreeP.b2 hE_6
  have hp26 := p2_4 hTB6.1
  obtain ⟨as_1, al_1, ap_1, fs_1, fl_1, fp_1, hB_1, hfs_1, hfl_1, hfp_1, hc_1_0, hc_1_1, hc_1_2, hc_1_3⟩ := TreeP.at (hE_6)
  refine g_getNM (q := 12) B (ci := 5) (k := 8) (j := 2) in_X10 rfl dX1_late_9 rfl rfl (hc_1_0) (Nat.le_of_ble_eq_true rfl) q2042 rfl rfl ?_
  refine g_iload_n (q := 13) B dX1_late_12 rfl rfl ?_
  refine g_ialdM (v := nI (T.2.2.1 i2)) (q := 14) B (k := 8) dX1_late_13 rfl rfl (hc_1_2) (vp_in_nI (by omega) (by omega)) (by rw [nI_clamp (by omega)]; exact hfl_1 _ (by omega)) ?_
  obtain ⟨wc_2, ewc_2⟩ : ∃ w : va_W, w = ([[(x, .inr (0, [.ref b, .ref lp, .ref lk, .ref lr, .ref lt, .ref ls, .ref lm, .ref so, .int (nI (zBn C))]))], v0, v1, v2, v3, v4, v5, v6, v7] : List va_W).flatten := ⟨_, rfl⟩
  have hwc_2 : KgP g x C wc_2 := by
    rw [ewc_2]
    exact ⟨b, lp, lk, lr, lt, ls, lm, so, pcap, kcap, rcap, tcap, scap, mcap, socap, ps, pks, pmd, _, _, _, _, _, _, _, _, hcap, hv0, hv1, hv2, hv3, hv4, hv5, hv6, hv7, rfl⟩
  refine g_close (w := wc_2) [7, 0, 0, 0, 0, 3, 0, 0, 0] rfl ewc_2 rfl ?_
  refine (show Go g κ 14 [some (.ref x), some (.int (nI i2))] [.int (nI (T.2.2.1 i2))] [wc_2] 9 54 from ?_)
  exact g_iret B E dX1_late_14 (⟨i2, _, rfl, rfl, hwc_2, rfl, hi_2, hne_2⟩)
theorem moX10_cover : Mo yX10_cover 1 := by
  refine ⟨by decide, by decide, by decide +kernel⟩
theorem ct_X1_cover (g : Gv) (J : Jd g) {x : Nat} {C : KsS} {T : TrS} {v : Int32} {w0 : va_W} (hw0 : KgP g x C w0) (hC : KsB C) (hT : zTs C ≠ [] → (zTs C)[(zTs C).length - 1]? = some T) : Ct g yX1_cover (ws_ yX1_cover cX1_cover 2 (some .int)) 14 (10 + 272) (60 + 4 * 1000) [.ref x, .int v] [w0] (fun (rv_ : Option Value) (rL_ : List va_W) => ∃ (i : Nat) (u0 : va_W), rv_ = some (.int (nI ((cov T i).length))) ∧ rL_ = [u0] ∧ KgP g x C u0 ∧ (v = nI i) ∧ (i < 2 * 2 ^ T.1 - 1) ∧ (zTs C ≠ [])) (fun (rE_ : String) (rL_ : List va_W) => rL_ = [w0] ∧ ((rE_ = "java/lang/IndexOutOfBoundsException" ∧ (¬ (zTs C ≠ [] ∧ inR v (2 * 2 ^ T.1 - 1) = true))))) := by
  refine Ct.of "Keygrove" [some (.ref x), some (.int v)] rfl (by decide) rfl (Nat.le_of_ble_eq_true rfl) rfl ?_
  intro κ B E tb
  have hC0 := hC
  obtain ⟨hc1, hc2, hc3, hc4, hc5, hc6, hc7, hc8, hc9, hc10, hc11⟩ := hC0
  obtain ⟨b, lp, lk, lr, lt, ls, lm, so, pcap, kcap, rcap, tcap, scap, mcap, socap, ps, pks, pmd, v0, v1, v2, v3, v4, v5, v6, v7, hcap, hv0, hv1, hv2, hv3, hv4, hv5, hv6, hv7, rfl⟩ := hw0
  refine g_open 0 rfl rfl rfl ?_
  refine (show Go g κ 0 [some (.ref x), some (.int v)] [] [[(x, .inr (0, [.ref b, .ref lp, .ref lk, .ref lr, .ref lt, .ref ls, .ref lm, .ref so, .int (nI (zBn C))]))], v0, v1, v2, v3, v4, v5, v6, v7] (10 + 272) (60 + 4 * 1000) from ?_)
  refine g_aload_n (q := 1) B dX1_cover_0 rfl rfl (rv_r _) ?_
  refine g_iload_n (q := 2) B dX1_cover_1 rfl rfl ?_
  refine g_callV (q := 5) (is := [0, 4]) (kc2 := (10 + 272) - 1) (ks2 := (60 + 4 * 1000) - 6) B [.int v] (ct_X1_hasNode g J (x := x) (lk := lk) (b := b) (lp := lp) (lr := lr) (lt := lt) (ls := ls) (lm := lm) (so := so) (bxs := zBn C) (Ts := (zTs C)) (tcap := tcap) (T := T) (v := v) hv4 (by first | assumption | omega | rfl) (hT)) dX1_cover_2 rfl (rc_at B (ci := 0) rfl (k := 0) rfl) rfl q2807 q2809 qs45 q77 q2810 rfl rfl moX1_hasNode rfl rfl (by decide) (by decide) (Nat.le_of_ble_eq_true rfl) (by omega) (by omega) (fun E2 L1 hx2 => ?_) (fun v2 L1 hp2 => ?_)
  · skip
    obtain ⟨rfl, hx2⟩ := hx2
    obtain ⟨rfl, hx2⟩ := hx2
    refine gx_cl [7, 0, 0, 0, 0, 3, 0, 0, 0] rfl ?_
    exact g_out B E tb (by first | exact ⟨rfl, ⟨rfl, hx2⟩⟩ | exact ⟨rfl, ⟨rfl, by simp_all⟩⟩)
  obtain ⟨i2, rfl, rfl, hv_2, hne_2, hi_2⟩ := hp2
  refine (show Go g κ 5 [some (.ref x), some (.int v)] [] [v0, v1, v2, v3, v5, v6, v7, [(x, .inr (0, [.ref b, .ref lp, .ref lk, .ref lr, .ref lt, .ref ls, .ref lm, .ref so, .int (nI (zBn C))]))], v4] ((10 + 272) - 1) ((60 + 4 * 1000) - 6) from ?_)
  subst hv_2
  refine (show Go g κ 5 [some (.ref x), some (.int (nI i2))] [] [v0, v1, v2, v3, v5, v6, v7, [(x, .inr (0, [.ref b, .ref lp, .ref lk, .ref lr, .ref lt, .ref ls, .ref lm, .ref so, .int (nI (zBn C))]))], v4] ((10 + 272) - 1) ((60 + 4 * 1000) - 6) from ?_)
  refine g_aload_n (q := 6) B dX1_cover_5 rfl rfl (rv_r _) ?_
  refine g_callV (q := 9) (is := [7, 7]) (kc2 := (10 + 272) - 1) (ks2 := (60 + 4 * 1000) - 6) B [] (ct_X1_tree g J (x := x) (lk := lk) (b := b) (lp := lp) (lr := lr) (lt := lt) (ls := ls) (lm := lm) (so := so) (bxs := (zBn C)) (Ts := (zTs C)) (tcap := tcap) (T := T) hv4 (hT hne_2)) dX1_cover_6 rfl (rc_at B (ci := 0) rfl (k := 7) rfl) rfl q1133 q1135 qs9 q77 q1136 rfl rfl moX1_tree rfl rfl (by decide) (by decide) (Nat.le_of_ble_eq_true rfl) (by omega) (by omega) (fun _ _ hx => noX_x hx) (fun v6 L1 hp6 => ?_)
  obtain ⟨t6, rfl, rfl, hE_6⟩ := hp6
  refine (show Go g κ 9 [some (.ref x), some (.int (nI i2))] [.ref t6] [v0, v1, v2, v3, v5, v6, v7, [(x, .inr (0, [.ref b, .ref lp, .ref lk, .ref lr, .ref lt, .ref ls, .ref lm, .ref so, .int (nI (zBn C))]))], v4] ((10 + 272) - 1) ((60 + 4 * 1000) - 6) from ?_)
  have hTB6 := TreeP.b2 hE_6
  have hp26 := p2_4 hTB6.1
  refine g_iload_n (q := 10) B dX1_cover_9 rfl rfl ?_
  have hl4 := lev_4 i2 (by omega)
  have hcl := cov_len hTB6 (n := i2) rfl
  have hpl := p2_4 hl4
  have hcl2 : (cov T i2).length ≤ 272 := by omega
  have hcf := capF_le (cov T i2).length
  refine g_callV (q := 13) (is := [8]) (kc2 := 0) (ks2 := 0) B [.int (nI i2)] (ct_X10_cover_s g J (t := t6) (T := T) (n := i2) (W0 := v4)  (hE_6) (by first | assumption | omega | rfl)) dX1_cover_10 rfl (rc_in B (ci := 5) rfl (k := 8) rfl (Sub.hm (hE_6) fun _ z => TreeP.hm z)) rfl q2567 q2568 q2569 q123 q2570 rfl rfl moX10_cover rfl rfl (by decide) (by decide) (Nat.le_of_ble_eq_true rfl) (by omega) (by omega) (fun _ _ hx => noX_x hx) (fun v10 L1 hp10 => ?_)
  obtain ⟨p10, u1_10, rfl, rfl, hu1_10⟩ := hp10
  refine (show Go g κ 13 [some (.ref x), some (.int (nI i2))] [.ref p10] [v0, v1, v2, v3, v5, v6, v7, [(x, .inr (0, [.ref b, .ref lp, .ref lk, .ref lr, .ref lt, .ref ls, .ref lm, .ref so, .int (nI (zBn C))]))], v4, u1_10] 0 0 from ?_)
  obtain ⟨ps_1, md_1, hli_1, hln_1, hel_1⟩ := LhP.at (Sub.self hu1_10)
  refine g_callF (q := 18) (is := [9]) (kc2 := 0) (ks2 := 0) B [] (ct_J2_size_s g J (p := p10) (xs := ps_1) (md := md_1) (cap := (capF (cov T i2).length)) (W0 := u1_10)  (hli_1)) dX1_cover_13 rfl (ci := 21) rfl (rc_in B (ci := 21) rfl (k := 9) rfl (LhP.hm hu1_10)) q315 q319 q321 q81 q323 q317 q316 q322 q320 q318 rfl rfl mojava_util_List_size___I rfl rfl (by decide) (by decide) (Nat.le_of_ble_eq_true rfl) (Nat.le_of_ble_eq_true rfl) (Nat.le_of_ble_eq_true rfl) (fun _ _ hx => noX_x hx) (fun v13 L1 hp13 => ?_)
  obtain ⟨rfl, rfl⟩ := hp13
  refine (show Go g κ 18 [some (.ref x), some (.int (nI i2))] [.int (nI ps_1.length)] [v0, v1, v2, v3, v5, v6, v7, [(x, .inr (0, [.ref b, .ref lp, .ref lk, .ref lr, .ref lt, .ref ls, .ref lm, .ref so, .int (nI (zBn C))]))], v4, u1_10] 0 0 from ?_)
  rw [hln_1.1]
  refine (show Go g κ 18 [some (.ref x), some (.int (nI i2))] [.int (nI ((cov T i2).length))] [v0, v1, v2, v3, v5, v6, v7, [(x, .inr (0, [.ref b, .ref lp, .ref lk, .ref lr, .ref lt, .ref ls, .ref lm, .ref so, .int (nI (zBn C))]))], v4, u1_10] 0 0 from ?_)
  obtain ⟨wc_2, ewc_2⟩ : ∃ w : va_W, w = ([[(x, .inr (0, [.ref b, .ref lp, .ref lk, .ref lr, .ref lt, .ref ls, .ref lm, .ref so, .int (nI (zBn C))]))], v0, v1, v2, v3, v4, v5, v6, v7] : List va_W).flatten := ⟨_, rfl⟩
  have hwc_2 : KgP g x C wc_2 := by
    rw [ewc_2]
    exact ⟨b, lp, lk, lr, lt, ls, lm, so, pcap, kcap, rcap, tcap, scap, mcap, socap, ps, pks, pmd, _, _, _, _, _, _, _, _, hcap, hv0, hv1, hv2, hv3, hv4, hv5, hv6, hv7, rfl⟩
  refine g_close (w := wc_2) [7, 0, 0, 0, 0, 3, 0, 0, 0] rfl ewc_2 rfl ?_
  refine (show Go g κ 18 [some (.ref x), some (.int (nI i2))] [.int (nI ((cov T i2).length))] [u1_10, wc_2] 0 0 from ?_)
  refine g_pk [1] rfl rfl ?_
  refine (show Go g κ 18 [some (.ref x), some (.int (nI i2))] [.int (nI ((cov T i2).length))] [wc_2] 0 0 from ?_)
  exact g_iret B E dX1_cover_18 (⟨i2, _, rfl, rfl, hwc_2, rfl, hi_2, hne_2⟩)
