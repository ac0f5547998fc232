set_option maxRecDepth 100000
def NdV (a v0 : Nat) (w : va_W) : Prop := (∃ (q1 : Int32) (q2 : Nat) (q3 : Value), (a, .inr (24, [.int q1, .ref q2, .ref v0, q3])) ∈ w) ∨ ∃ (q1 : Int32) (q2 : Nat) (q3 q4 q5 q6 q7 q8 : Value), (a, .inr (25, [.null, .null, .int q1, .ref q2, .ref v0, q3, q4, q5, q6, q7, q8])) ∈ w
theorem tp_inj {xs : List Tp} (h : (xs.map (·.1)).Nodup) {s t : Tp} (hs : s ∈ xs) (ht : t ∈ xs) (e : s.1 = t.1) : s = t := by
  obtain ⟨i, hi⟩ := List.getElem?_of_mem hs
  obtain ⟨k, hk⟩ := List.getElem?_of_mem ht
  obtain ⟨h1, h1'⟩ := List.getElem?_eq_some_iff.mp hi
  obtain ⟨h2, h2'⟩ := List.getElem?_eq_some_iff.mp hk
  have z : (xs.map (·.1))[i]'(by simpa using h1) = (xs.map (·.1))[k]'(by simpa using h2) := by simp [h1', h2', e]
  have := (List.getElem_inj h).mp z
  subst this
  exact h1'.symm.trans h2'
theorem tfX_nd {xs : List Tp} {cap b : Nat} (h : (xs.map (·.1)).Nodup) : ((tfX xs cap b).map (·.1)).Nodup := h.sublist ((List.filter_sublist (l := xs)).map _)
theorem ct_J4_getNode_s (g : Gv) (J : Jd g) {h : Nat} {xs : List Tp} {cap : Nat} {s : Nat} {c : List Nat} {hh : Int32} {k0 : Nat} {v0 : Nat} {w0 : va_W} {w1 : va_W} {wk : va_W} (hw0 : HmT g h xs cap w0) (hw1 : StrP g s c w1) (hwk : StrP g k0 c wk) (hc2 : 2 ≤ c.length) (hhe : hh = spr (nI (hN c))) (hin : (hh, k0, v0) ∈ xs) : Ct g yJ4_getNode (ws_ yJ4_getNode cJ4_getNode 8 (some (.object "java/util/HashMap$Node"))) 5 0 0 [.ref h, .ref s] [w0, w1, wk] (fun (rv_ : Option Value) (rL_ : List va_W) => ∃ (a : Nat) (u0 : va_W) (u1 : va_W) (u2 : va_W), rv_ = some (.ref a) ∧ rL_ = [u0, u1, u2] ∧ HmT g h xs cap u0 ∧ StrP g s c u1 ∧ StrP g k0 c u2 ∧ (NdV a v0 u0)) noX := by
  refine Ct.of "java/util/HashMap" [some (.ref h), some (.ref s), none, none, none, none, none, none] rfl (by decide) rfl (Nat.le_of_ble_eq_true rfl) rfl ?_
  intro κ B E tb
  obtain ⟨hnd, hxl, hcase⟩ := hw0
  rcases hcase with ⟨rfl, rfl, md, lfac, rfl⟩ | ⟨kk, tl, md, thr, lfac, tab, wb, hcap, hk4, hk, hthr, hwb, rfl⟩
  · skip
    refine g_open 0 rfl rfl rfl ?_
    refine (show Go g κ 0 [some (.ref h), some (.ref s), none, none, none, none, none, none] [] [w1, wk, [(h, .inr (23, [.null, .null, .null, .null, .int (nI 0), .int (nI md), .int (nI 0), .float lfac]))]] 0 0 from ?_)
    simp at hin
  · skip
    refine g_open 0 rfl rfl rfl ?_
    have hc0 : 16 ≤ cap ∧ cap ≤ 262144 := by
      rw [hcap]
      exact ⟨Nat.le_trans (Nat.le_of_ble_eq_true rfl) (Nat.pow_le_pow_right (n := 2) (by decide) hk4), Nat.le_trans (Nat.pow_le_pow_right (by decide) hk) (Nat.le_of_ble_eq_true rfl)⟩
    refine (show Go g κ 0 [some (.ref h), some (.ref s), none, none, none, none, none, none] [] [w1, wk, [(h, .inr (23, [.null, .null, .ref tl, .null, .int (nI xs.length), .int (nI md), .int (nI thr), .float lfac]))], [(tl, .inl (g.2.1 6, cap, .inr (.inr (.inr (.inr tab)))))], wb] 0 0 from ?_)
    refine g_aload_n (q := 1) B dJ4_getNode_0 rfl rfl (rv_r _) ?_
    refine g_get (q := 4) B (ci := 23) (k := 2) (j := 2) in_J4 rfl dJ4_getNode_1 rfl rfl (Nat.le_of_ble_eq_true rfl) q205 rfl rfl ?_
    refine g_dup (q := 5) B dJ4_getNode_4 rfl rfl ?_
    refine g_astore_n (q := 6) (lv2 := [some (.ref h), some (.ref s), some (.ref tl), none, none, none, none, none]) B dJ4_getNode_5 rfl (Nat.le_of_ble_eq_true rfl) (rv_r _) rfl ?_
    refine g_ifnull_r (q := 9) B dJ4_getNode_6 rfl ?_
    refine g_aload_n (q := 10) B dJ4_getNode_9 rfl rfl (rv_r _) ?_
    refine g_alen (v := nI cap) (q := 11) B (k := 3) (t := 6) dJ4_getNode_10 rfl rfl rfl rfl ?_
    refine g_dup (q := 12) B dJ4_getNode_11 rfl rfl ?_
    refine g_istore (q := 14) (lv2 := [some (.ref h), some (.ref s), some (.ref tl), none, none, some (.int (nI cap)), none, none]) B dJ4_getNode_12 rfl (Nat.le_of_ble_eq_true rfl) rfl ?_
    refine g_if_le (tgt := 148) (q := 17) B dJ4_getNode_14 rfl (by decide) (iff_false_intro (fun h => absurd ((nI_le0 (by omega)).mp h) (by omega))) (fun z => z.elim) (fun _ => ?_)
    refine g_aload_n (q := 18) B dJ4_getNode_17 rfl rfl (rv_r _) ?_
    refine g_iload (q := 20) B dJ4_getNode_18 rfl rfl ?_
    refine g_iconst (v := nI 1) (q := 21) B dJ4_getNode_20 rfl (by decide) ?_
    refine g_isub (v := nI (cap - 1)) (q := 22) B dJ4_getNode_21 rfl (pk_sub (by omega)) ?_
    refine g_aload_n (q := 23) B dJ4_getNode_22 rfl rfl (rv_r _) ?_
    refine g_callS (q := 26) (is := [0]) (kc2 := 0) (ks2 := 0) B [.ref s] (ct_J4_hash g J (s := s) (c := c) hw1 (by first | assumption | omega | rfl)) dJ4_getNode_23 rfl q1258 q1259 q83 q1260 rfl rfl moJ4_hash rfl rfl (by decide) (by decide) (Nat.le_of_ble_eq_true rfl) (Nat.le_of_ble_eq_true rfl) (Nat.le_of_ble_eq_true rfl) (fun _ _ hx => noX_x hx) (fun v23 L1 hp23 => ?_)
    obtain ⟨u0_23, rfl, rfl, hu0_23⟩ := hp23
    refine (show Go g κ 26 [some (.ref h), some (.ref s), some (.ref tl), none, none, some (.int (nI cap)), none, none] [.int (spr (nI (hN c))), .int (nI (cap - 1)), .ref tl] [wk, [(h, .inr (23, [.null, .null, .ref tl, .null, .int (nI xs.length), .int (nI md), .int (nI thr), .float lfac]))], [(tl, .inl (g.2.1 6, cap, .inr (.inr (.inr (.inr tab)))))], wb, u0_23] 0 0 from ?_)
    rw [← hhe]
    refine (show Go g κ 26 [some (.ref h), some (.ref s), some (.ref tl), none, none, some (.int (nI cap)), none, none] [.int hh, .int (nI (cap - 1)), .ref tl] [wk, [(h, .inr (23, [.null, .null, .ref tl, .null, .int (nI xs.length), .int (nI md), .int (nI thr), .float lfac]))], [(tl, .inl (g.2.1 6, cap, .inr (.inr (.inr (.inr tab)))))], wb, u0_23] 0 0 from ?_)
    obtain ⟨ix, hix⟩ : ∃ ix, ix = hU hh % cap := ⟨_, rfl⟩
    have hixl : ix < cap := by rw [hix]; exact Nat.mod_lt _ (by omega)
    have hixa : nI (cap - 1) &&& hh = nI ix := by rw [hix, hcap]; exact ix_hu (by omega) _
    obtain ⟨w1, wj, w2, hbj, hcl, rfl⟩ := tf_op hwb hixl
    refine g_open 3 rfl rfl rfl ?_
    refine (show Go g κ 26 [some (.ref h), some (.ref s), some (.ref tl), none, none, some (.int (nI cap)), none, none] [.int hh, .int (nI (cap - 1)), .ref tl] [wk, [(h, .inr (23, [.null, .null, .ref tl, .null, .int (nI xs.length), .int (nI md), .int (nI thr), .float lfac]))], [(tl, .inl (g.2.1 6, cap, .inr (.inr (.inr (.inr tab)))))], u0_23, w1, wj, w2] 0 0 from ?_)
    have hbj0 := hbj
    rcases hbj with ⟨ns, cs, hs, ky, vl, nx, hwj, hC, hN, hM, hpm, hlb0⟩ | ⟨ns, cs, hs, ky, vl, nx, pp, lf, rg, pv, rd, lo, hi, root, hwj, hC, hN, hM, hpm, hP, hT, hb10⟩
    · skip
      have hmt : ∀ a ∈ ns, (hs a, ky a, vl a) ∈ xs ∧ hU (hs a) % cap = ix := fun a ha => tfX_mem.mp (hpm.mem_iff.mpr (List.mem_map.mpr ⟨a, (hM a).mpr ha, rfl⟩))
      refine (show Go g κ 26 [some (.ref h), some (.ref s), some (.ref tl), none, none, some (.int (nI cap)), none, none] [.int hh, .int (nI (cap - 1)), .ref tl] [wk, [(h, .inr (23, [.null, .null, .ref tl, .null, .int (nI xs.length), .int (nI md), .int (nI thr), .float lfac]))], [(tl, .inl (g.2.1 6, cap, .inr (.inr (.inr (.inr tab)))))], u0_23, w1, wj, w2] 0 0 from ?_)
      rcases hti : tab ix with _ | f0
      · skip
        have hcs0 : cs = [] := List.head?_eq_none_iff.mp (by rw [← ch_head hC, hti])
        obtain ⟨a0, ha0, hs0, hk0, hv0⟩ : ∃ a0, a0 ∈ ns ∧ hs a0 = hh ∧ ky a0 = k0 ∧ vl a0 = v0 := by
          have z := hpm.mem_iff.mp (tfX_mem.mpr ⟨hin, hix.symm⟩)
          obtain ⟨q, hq, e⟩ := List.mem_map.mp z
          have e1 := congrArg Prod.fst e
          have e2 := congrArg (fun z => z.2.1) e
          have e3 := congrArg (fun z => z.2.2) e
          exact ⟨q, (hM q).mp hq, e1, e2, e3⟩
        have huq : ∀ a ∈ ns, hs a = hh → a = a0 := fun a ha e => by
          have z : ((cs.map fun a => (hs a, ky a, vl a)).map (·.1)).Nodup := ((hpm.map (·.1)).nodup_iff).mp (tfX_nd hnd)
          rw [List.map_map] at z
          exact nd_inj z ((hM a).mpr ha) ((hM a0).mpr ha0) (e.trans hs0.symm)
        exact absurd ((hM a0).mpr ha0) (by rw [hcs0]; simp)
      · skip
        rw [hti] at hC
        obtain ⟨ct, hcs⟩ : ∃ ct, cs = f0 :: ct := by
          cases cs with
          | nil => exact absurd hC (by simp [Ch])
          | cons z t => obtain ⟨q, -⟩ := hC; cases q; exact ⟨t, rfl⟩
        have hfm : f0 ∈ ns := (hM _).mp (by rw [hcs]; simp)
        have hCt : Ch nx (nx f0) ct := by rw [hcs] at hC; exact hC.2
        obtain ⟨a0, ha0, hs0, hk0, hv0⟩ : ∃ a0, a0 ∈ ns ∧ hs a0 = hh ∧ ky a0 = k0 ∧ vl a0 = v0 := by
          have z := hpm.mem_iff.mp (tfX_mem.mpr ⟨hin, hix.symm⟩)
          obtain ⟨q, hq, e⟩ := List.mem_map.mp z
          have e1 := congrArg Prod.fst e
          have e2 := congrArg (fun z => z.2.1) e
          have e3 := congrArg (fun z => z.2.2) e
          exact ⟨q, (hM q).mp hq, e1, e2, e3⟩
        have huq : ∀ a ∈ ns, hs a = hh → a = a0 := fun a ha e => by
          have z : ((cs.map fun a => (hs a, ky a, vl a)).map (·.1)).Nodup := ((hpm.map (·.1)).nodup_iff).mp (tfX_nd hnd)
          rw [List.map_map] at z
          exact nd_inj z ((hM a).mpr ha) ((hM a0).mpr ha0) (e.trans hs0.symm)
        refine g_dup (q := 27) B dJ4_getNode_26 rfl rfl ?_
        refine g_istore (q := 29) (lv2 := [some (.ref h), some (.ref s), some (.ref tl), none, none, some (.int (nI cap)), some (.int hh), none]) B dJ4_getNode_27 rfl (Nat.le_of_ble_eq_true rfl) rfl ?_
        refine g_iand (v := nI ix) (q := 30) B dJ4_getNode_29 rfl hixa ?_
        refine g_ald (r := some f0) (q := 31) B (k := 2) (t := 6) dJ4_getNode_30 rfl rfl rfl (vp_in_nI (by omega) (by omega)) (by rw [nI_clamp (by omega)]; exact hti) ?_
        refine g_dup (q := 32) B dJ4_getNode_31 rfl rfl ?_
        refine g_astore_n (q := 33) (lv2 := [some (.ref h), some (.ref s), some (.ref tl), some (.ref f0), none, some (.int (nI cap)), some (.int hh), none]) B dJ4_getNode_32 rfl (Nat.le_of_ble_eq_true rfl) (rv_r _) rfl ?_
        refine g_ifnull_r (q := 36) B dJ4_getNode_33 rfl ?_
        refine g_aload_n (q := 37) B dJ4_getNode_36 rfl rfl (rv_r _) ?_
        refine g_getM (v := .int (hs f0)) (q := 40) B (ci := 24) (k := 5) (j := 0) in_J38 rfl dJ4_getNode_37 rfl rfl (NodG.mem hwj hfm) (Nat.le_of_ble_eq_true rfl) q1680 rfl rfl ?_
        refine g_iload (q := 42) B dJ4_getNode_40 rfl rfl ?_
        refine g_icmp_ne (tgt := 71) (q := 45) B dJ4_getNode_42 rfl (by decide) (Iff.rfl) (fun c42 => ?_) (fun c42 => ?_)
        · skip
          refine g_aload_n (q := 72) B dJ4_getNode_71 rfl rfl (rv_r _) ?_
          refine g_getM (v := va_rf (nx f0)) (q := 75) B (ci := 24) (k := 5) (j := 3) in_J38 rfl dJ4_getNode_72 rfl rfl (NodG.mem hwj hfm) (Nat.le_of_ble_eq_true rfl) q1693 rfl rfl ?_
          refine g_dup (q := 76) B dJ4_getNode_75 rfl (rv_c (rv_o _)) ?_
          refine g_astore (q := 78) (lv2 := [some (.ref h), some (.ref s), some (.ref tl), some (.ref f0), some (va_rf (nx f0)), some (.int (nI cap)), some (.int hh), none]) B dJ4_getNode_76 rfl (Nat.le_of_ble_eq_true rfl) (rv_o _) rfl ?_
          refine g_ifnull_o (tgt := 148) (q := 81) B dJ4_getNode_78 rfl (by decide) (fun c78 => ?_) (fun nxf0_a78 c78 => ?_)
          · skip
            rw [c78]
            refine (show Go g κ 148 [some (.ref h), some (.ref s), some (.ref tl), some (.ref f0), some (.null), some (.int (nI cap)), some (.int hh), none] [] [wk, [(h, .inr (23, [.null, .null, .ref tl, .null, .int (nI xs.length), .int (nI md), .int (nI thr), .float lfac]))], [(tl, .inl (g.2.1 6, cap, .inr (.inr (.inr (.inr tab)))))], u0_23, w1, wj, w2] 0 0 from ?_)
            have hct : ct = [] := by
              have zz := ch_head hCt
              rw [c78] at zz
              exact List.head?_eq_none_iff.mp zz.symm
            have z := (hM a0).mpr ha0
            rw [hcs, hct] at z
            have e2 := List.mem_singleton.mp z
            exact absurd (by rw [← e2]; exact hs0) c42
          · skip
            rw [c78]
            refine (show Go g κ 81 [some (.ref h), some (.ref s), some (.ref tl), some (.ref f0), some (.ref nxf0_a78), some (.int (nI cap)), some (.int hh), none] [] [wk, [(h, .inr (23, [.null, .null, .ref tl, .null, .int (nI xs.length), .int (nI md), .int (nI thr), .float lfac]))], [(tl, .inl (g.2.1 6, cap, .inr (.inr (.inr (.inr tab)))))], u0_23, w1, wj, w2] 0 0 from ?_)
            refine g_aload_n (q := 82) B dJ4_getNode_81 rfl rfl (rv_r _) ?_
            refine g_instRNo (q := 85) B (rc_in B (ci := 24) rfl (k := 5) rfl ⟨_, NodG.mem hwj hfm⟩) dJ4_getNode_82 rfl q1408 nc_177 ?_
            refine g_if_eq (tgt := 99) (q := 88) B dJ4_getNode_85 rfl (by decide) (iff_true_intro (by decide)) (fun _ => ?_) (fun z => absurd trivial z)
            have lp99 : ∀ (n99 : Nat) (x : Nat) (us : List Nat) (vt : List Nat) , (cs = us ++ x :: vt) → (Ch nx (nx x) vt) → (a0 ∉ us) → vt.length = n99 → Go g κ 99 [some (.ref h), some (.ref s), some (.ref tl), some (.ref f0), some (.ref x), some (.int (nI cap)), some (.int hh), none] [] [wk, [(h, .inr (23, [.null, .null, .ref tl, .null, .int (nI xs.length), .int (nI md), .int (nI thr), .float lfac]))], [(tl, .inl (g.2.1 6, cap, .inr (.inr (.inr (.inr tab)))))], u0_23, w1, wj, w2] 0 0 := by
              intro n99
              induction n99 using Nat.strongRecOn with
              | _ n99 ih99 =>
              intro x us vt  hcs2 hV hau hmu99
              have hxm : x ∈ ns := (hM x).mp (by rw [hcs2]; simp)
              refine g_aload (q := 101) B dJ4_getNode_99 rfl rfl (rv_r _) ?_
              refine g_getM (v := .int (hs x)) (q := 104) B (ci := 24) (k := 5) (j := 0) in_J38 rfl dJ4_getNode_101 rfl rfl (NodG.mem hwj hxm) (Nat.le_of_ble_eq_true rfl) q1680 rfl rfl ?_
              refine g_iload (q := 106) B dJ4_getNode_104 rfl rfl ?_
              refine g_icmp_ne (tgt := 137) (q := 109) B dJ4_getNode_106 rfl (by decide) (Iff.rfl) (fun c106 => ?_) (fun c106 => ?_)
              · skip
                refine g_aload (q := 139) B dJ4_getNode_137 rfl rfl (rv_r _) ?_
                refine g_getM (v := va_rf (nx x)) (q := 142) B (ci := 24) (k := 5) (j := 3) in_J38 rfl dJ4_getNode_139 rfl rfl (NodG.mem hwj hxm) (Nat.le_of_ble_eq_true rfl) q1693 rfl rfl ?_
                refine g_dup (q := 143) B dJ4_getNode_142 rfl (rv_c (rv_o _)) ?_
                refine g_astore (q := 145) (lv2 := [some (.ref h), some (.ref s), some (.ref tl), some (.ref f0), some (va_rf (nx x)), some (.int (nI cap)), some (.int hh), none]) B dJ4_getNode_143 rfl (Nat.le_of_ble_eq_true rfl) (rv_o _) rfl ?_
                refine g_ifnonnull_o (tgt := 99) (q := 148) B dJ4_getNode_145 rfl (by decide) (fun nxx_a145 c145 => ?_) (fun c145 => ?_)
                · skip
                  rw [c145]
                  refine (show Go g κ 99 [some (.ref h), some (.ref s), some (.ref tl), some (.ref f0), some (.ref nxx_a145), some (.int (nI cap)), some (.int hh), none] [] [wk, [(h, .inr (23, [.null, .null, .ref tl, .null, .int (nI xs.length), .int (nI md), .int (nI thr), .float lfac]))], [(tl, .inl (g.2.1 6, cap, .inr (.inr (.inr (.inr tab)))))], u0_23, w1, wj, w2] 0 0 from ?_)
                  obtain ⟨v2, hv2⟩ : ∃ v2, vt = nxx_a145 :: v2 := by
                    have zz := hV
                    rw [c145] at zz
                    cases vt with
                    | nil => exact absurd zz (by simp [Ch])
                    | cons q t => obtain ⟨e, -⟩ := zz; cases e; exact ⟨t, rfl⟩
                  subst hv2
                  exact ih99 _ (by rw [← hmu99]; simp) nxx_a145 (us ++ [x]) v2 (by rw [hcs2]; simp) (by have zz := hV; rw [c145] at zz; exact zz.2) (fun e => by
                      rcases List.mem_append.mp e with e | e
                      · exact hau e
                      · have z := List.mem_singleton.mp e; exact c106 (by rw [← z]; exact hs0)) rfl
                · skip
                  rw [c145]
                  refine (show Go g κ 148 [some (.ref h), some (.ref s), some (.ref tl), some (.ref f0), some (.null), some (.int (nI cap)), some (.int hh), none] [] [wk, [(h, .inr (23, [.null, .null, .ref tl, .null, .int (nI xs.length), .int (nI md), .int (nI thr), .float lfac]))], [(tl, .inl (g.2.1 6, cap, .inr (.inr (.inr (.inr tab)))))], u0_23, w1, wj, w2] 0 0 from ?_)
                  have hve : vt = [] := by
                    have zz := ch_head hV
                    rw [c145] at zz
                    exact List.head?_eq_none_iff.mp zz.symm
                  have z := (hM a0).mpr ha0
                  rw [hcs2, hve] at z
                  rcases List.mem_append.mp z with e | e
                  · exact absurd e hau
                  · have e2 := List.mem_singleton.mp e; exact absurd (by rw [← e2]; exact hs0) c106
              · skip
                have hxa : x = a0 := huq _ hxm (Classical.not_not.mp c106)
                rw [hxa]
                refine (show Go g κ 109 [some (.ref h), some (.ref s), some (.ref tl), some (.ref f0), some (.ref a0), some (.int (nI cap)), some (.int hh), none] [] [wk, [(h, .inr (23, [.null, .null, .ref tl, .null, .int (nI xs.length), .int (nI md), .int (nI thr), .float lfac]))], [(tl, .inl (g.2.1 6, cap, .inr (.inr (.inr (.inr tab)))))], u0_23, w1, wj, w2] 0 0 from ?_)
                refine g_aload (q := 111) B dJ4_getNode_109 rfl rfl (rv_r _) ?_
                refine g_getM (v := .ref k0) (q := 114) B (ci := 24) (k := 5) (j := 1) in_J38 rfl dJ4_getNode_111 rfl rfl (NodG.mem hwj ha0) (Nat.le_of_ble_eq_true rfl) q1685 rfl (congrArg some (congrArg (fun z => Value.ref z) hk0)) ?_
                refine g_dup (q := 115) B dJ4_getNode_114 rfl rfl ?_
                refine g_astore (q := 117) (lv2 := [some (.ref h), some (.ref s), some (.ref tl), some (.ref f0), some (.ref a0), some (.int (nI cap)), some (.int hh), some (.ref k0)]) B dJ4_getNode_115 rfl (Nat.le_of_ble_eq_true rfl) (rv_r _) rfl ?_
                refine g_aload_n (q := 118) B dJ4_getNode_117 rfl rfl (rv_r _) ?_
                refine g_acmp_eq (rx := some k0) (ry := some s) (tgt := 134) (q := 121) B dJ4_getNode_118 rfl (by decide) rfl rfl (Iff.rfl) (fun c118 => ?_) (fun c118 => ?_)
                · skip
                  refine g_aload (q := 136) B dJ4_getNode_134 rfl rfl (rv_r _) ?_
                  obtain ⟨wtb_1, ewtb_1⟩ : ∃ w : va_W, w = ([w1, wj, w2] : List va_W).flatten := ⟨_, rfl⟩
                  have hwtb_1 : TbP g (bmx kk) cap tab (tfX xs cap) wtb_1 := by
                    rw [ewtb_1]
                    exact hcl _ _ _ _ (Nat.le_refl _) (fun b _ _ => ⟨rfl, List.Perm.refl _⟩) hbj0
                  refine g_close (w := wtb_1) [4, 4, 4] rfl ewtb_1 rfl ?_
                  refine (show Go g κ 136 [some (.ref h), some (.ref s), some (.ref tl), some (.ref f0), some (.ref a0), some (.int (nI cap)), some (.int hh), some (.ref k0)] [.ref a0] [wk, [(h, .inr (23, [.null, .null, .ref tl, .null, .int (nI xs.length), .int (nI md), .int (nI thr), .float lfac]))], [(tl, .inl (g.2.1 6, cap, .inr (.inr (.inr (.inr tab)))))], u0_23, wtb_1] 0 0 from ?_)
                  obtain ⟨wc_2, ewc_2⟩ : ∃ w : va_W, w = ([[(h, .inr (23, [.null, .null, .ref tl, .null, .int (nI xs.length), .int (nI md), .int (nI thr), .float lfac]))], [(tl, .inl (g.2.1 6, cap, .inr (.inr (.inr (.inr tab)))))], wtb_1] : List va_W).flatten := ⟨_, rfl⟩
                  have hwc_2 : HmT g h xs cap wc_2 := by
                    rw [ewc_2]
                    exact ⟨hnd, hxl, Or.inr ⟨kk, tl, md, thr, lfac, tab, _, hcap, hk4, hk, hthr, hwtb_1, rfl⟩⟩
                  refine g_close (w := wc_2) [1, 1, 2] rfl ewc_2 rfl ?_
                  refine (show Go g κ 136 [some (.ref h), some (.ref s), some (.ref tl), some (.ref f0), some (.ref a0), some (.int (nI cap)), some (.int hh), some (.ref k0)] [.ref a0] [wk, u0_23, wc_2] 0 0 from ?_)
                  have hmj := NodG.mem hwj ha0
                  rw [hv0] at hmj
                  have hmw := List.mem_flatten.mpr ⟨wj, (show wj ∈ ([w1, wj, w2] : List va_W) by simp), hmj⟩
                  rw [← ewtb_1] at hmw
                  have hmz := List.mem_flatten.mpr ⟨wtb_1, (show wtb_1 ∈ ([[(h, .inr (23, [.null, .null, .ref tl, .null, .int (nI xs.length), .int (nI md), .int (nI thr), .float lfac]))], [(tl, .inl (g.2.1 6, cap, .inr (.inr (.inr (.inr tab)))))], wtb_1] : List va_W) by simp), hmw⟩
                  rw [← ewc_2] at hmz
                  have hnv : NdV a0 v0 wc_2 := Or.inl ⟨_, _, _, hmz⟩
                  refine g_pk [2, 1, 0] rfl rfl ?_
                  refine (show Go g κ 136 [some (.ref h), some (.ref s), some (.ref tl), some (.ref f0), some (.ref a0), some (.int (nI cap)), some (.int hh), some (.ref k0)] [.ref a0] [wc_2, u0_23, wk] 0 0 from ?_)
                  exact g_aret B E dJ4_getNode_136 (by first | exact Or.inl ⟨_, rfl⟩ | exact Or.inr ⟨_, rfl⟩) (rv_r _) (⟨a0, wc_2, u0_23, wk, rfl, rfl, hwc_2, hu0_23, hwk, hnv⟩)
                · skip
                  refine g_aload_n (q := 122) B dJ4_getNode_121 rfl rfl (rv_r _) ?_
                  refine g_ifnull_r (q := 125) B dJ4_getNode_122 rfl ?_
                  refine g_aload_n (q := 126) B dJ4_getNode_125 rfl rfl (rv_r _) ?_
                  refine g_aload (q := 128) B dJ4_getNode_126 rfl rfl (rv_r _) ?_
                  refine g_callO (q := 131) (is := [3, 0]) (kc2 := 0) (ks2 := 0) B [.ref k0] (ct_J16_equals g J (s := s) (t := k0) (c := c) hu0_23 hwk ) dJ4_getNode_128 rfl (rc_in B (ci := 36) rfl (k := 3) rfl (StrP.hm hu0_23)) q1407 (by decide) (lw_app (fun w hw => by simp only [List.mem_cons, List.not_mem_nil, or_false] at hw; rcases hw with e | e | e | e | e | e <;> rw [e]; exact q1363; exact q1365; exact q1364; exact q1396; exact q1397; exact q99) (lw_meth q1398)) rfl rfl moJ49_equals rfl rfl (by decide) (by decide) (Nat.le_of_ble_eq_true rfl) (Nat.le_of_ble_eq_true rfl) (Nat.le_of_ble_eq_true rfl) (fun _ _ hx => noX_x hx) (fun v128 L1 hp128 => ?_)
                  obtain ⟨u0_128, u1_128, rfl, rfl, hu0_128, hu1_128⟩ := hp128
                  refine (show Go g κ 131 [some (.ref h), some (.ref s), some (.ref tl), some (.ref f0), some (.ref a0), some (.int (nI cap)), some (.int hh), some (.ref k0)] [.int (nI 1)] [[(h, .inr (23, [.null, .null, .ref tl, .null, .int (nI xs.length), .int (nI md), .int (nI thr), .float lfac]))], [(tl, .inl (g.2.1 6, cap, .inr (.inr (.inr (.inr tab)))))], w1, wj, w2, u0_128, u1_128] 0 0 from ?_)
                  refine g_if_eq (tgt := 137) (q := 134) B dJ4_getNode_131 rfl (by decide) (iff_false_intro (by decide)) (fun z => z.elim) (fun _ => ?_)
                  refine g_aload (q := 136) B dJ4_getNode_134 rfl rfl (rv_r _) ?_
                  obtain ⟨wtb_3, ewtb_3⟩ : ∃ w : va_W, w = ([w1, wj, w2] : List va_W).flatten := ⟨_, rfl⟩
                  have hwtb_3 : TbP g (bmx kk) cap tab (tfX xs cap) wtb_3 := by
                    rw [ewtb_3]
                    exact hcl _ _ _ _ (Nat.le_refl _) (fun b _ _ => ⟨rfl, List.Perm.refl _⟩) hbj0
                  refine g_close (w := wtb_3) [2, 2, 2] rfl ewtb_3 rfl ?_
                  refine (show Go g κ 136 [some (.ref h), some (.ref s), some (.ref tl), some (.ref f0), some (.ref a0), some (.int (nI cap)), some (.int hh), some (.ref k0)] [.ref a0] [[(h, .inr (23, [.null, .null, .ref tl, .null, .int (nI xs.length), .int (nI md), .int (nI thr), .float lfac]))], [(tl, .inl (g.2.1 6, cap, .inr (.inr (.inr (.inr tab)))))], u0_128, u1_128, wtb_3] 0 0 from ?_)
                  obtain ⟨wc_4, ewc_4⟩ : ∃ w : va_W, w = ([[(h, .inr (23, [.null, .null, .ref tl, .null, .int (nI xs.length), .int (nI md), .int (nI thr), .float lfac]))], [(tl, .inl (g.2.1 6, cap, .inr (.inr (.inr (.inr tab)))))], wtb_3] : List va_W).flatten := ⟨_, rfl⟩
                  have hwc_4 : HmT g h xs cap wc_4 := by
                    rw [ewc_4]
                    exact ⟨hnd, hxl, Or.inr ⟨kk, tl, md, thr, lfac, tab, _, hcap, hk4, hk, hthr, hwtb_3, rfl⟩⟩
                  refine g_close (w := wc_4) [0, 0, 2] rfl ewc_4 rfl ?_
                  refine (show Go g κ 136 [some (.ref h), some (.ref s), some (.ref tl), some (.ref f0), some (.ref a0), some (.int (nI cap)), some (.int hh), some (.ref k0)] [.ref a0] [u0_128, u1_128, wc_4] 0 0 from ?_)
                  have hmj := NodG.mem hwj ha0
                  rw [hv0] at hmj
                  have hmw := List.mem_flatten.mpr ⟨wj, (show wj ∈ ([w1, wj, w2] : List va_W) by simp), hmj⟩
                  rw [← ewtb_3] at hmw
                  have hmz := List.mem_flatten.mpr ⟨wtb_3, (show wtb_3 ∈ ([[(h, .inr (23, [.null, .null, .ref tl, .null, .int (nI xs.length), .int (nI md), .int (nI thr), .float lfac]))], [(tl, .inl (g.2.1 6, cap, .inr (.inr (.inr (.inr tab)))))], wtb_3] : List va_W) by simp), hmw⟩
                  rw [← ewc_4] at hmz
                  have hnv : NdV a0 v0 wc_4 := Or.inl ⟨_, _, _, hmz⟩
                  refine g_pk [2, 0, 0] rfl rfl ?_
                  refine (show Go g κ 136 [some (.ref h), some (.ref s), some (.ref tl), some (.ref f0), some (.ref a0), some (.int (nI cap)), some (.int hh), some (.ref k0)] [.ref a0] [wc_4, u0_128, u1_128] 0 0 from ?_)
                  exact g_aret B E dJ4_getNode_136 (by first | exact Or.inl ⟨_, rfl⟩ | exact Or.inr ⟨_, rfl⟩) (rv_r _) (⟨a0, wc_4, u0_128, u1_128, rfl, rfl, hwc_4, hu0_128, hu1_128, hnv⟩)
            obtain ⟨v2, hv2⟩ : ∃ v2, ct = nxf0_a78 :: v2 := by
              have zz := hCt
              rw [c78] at zz
              cases ct with
              | nil => exact absurd zz (by simp [Ch])
              | cons q t => obtain ⟨e, -⟩ := zz; cases e; exact ⟨t, rfl⟩
            exact lp99 _ nxf0_a78 ([f0]) v2 (by rw [hcs, hv2]; rfl) (by have zz := hCt; rw [c78, hv2] at zz; exact zz.2) (fun e => by have z := List.mem_singleton.mp e; exact c42 (by rw [← z]; exact hs0)) rfl
        · skip
          have hxa : f0 = a0 := huq _ hfm (Classical.not_not.mp c42)
          rw [hxa]
          refine (show Go g κ 45 [some (.ref h), some (.ref s), some (.ref tl), some (.ref a0), none, some (.int (nI cap)), some (.int hh), none] [] [wk, [(h, .inr (23, [.null, .null, .ref tl, .null, .int (nI xs.length), .int (nI md), .int (nI thr), .float lfac]))], [(tl, .inl (g.2.1 6, cap, .inr (.inr (.inr (.inr tab)))))], u0_23, w1, wj, w2] 0 0 from ?_)
          refine g_aload_n (q := 46) B dJ4_getNode_45 rfl rfl (rv_r _) ?_
          refine g_getM (v := .ref k0) (q := 49) B (ci := 24) (k := 5) (j := 1) in_J38 rfl dJ4_getNode_46 rfl rfl (NodG.mem hwj ha0) (Nat.le_of_ble_eq_true rfl) q1685 rfl (congrArg some (congrArg (fun z => Value.ref z) hk0)) ?_
          refine g_dup (q := 50) B dJ4_getNode_49 rfl rfl ?_
          refine g_astore (q := 52) (lv2 := [some (.ref h), some (.ref s), some (.ref tl), some (.ref a0), none, some (.int (nI cap)), some (.int hh), some (.ref k0)]) B dJ4_getNode_50 rfl (Nat.le_of_ble_eq_true rfl) (rv_r _) rfl ?_
          refine g_aload_n (q := 53) B dJ4_getNode_52 rfl rfl (rv_r _) ?_
          refine g_acmp_eq (rx := some k0) (ry := some s) (tgt := 69) (q := 56) B dJ4_getNode_53 rfl (by decide) rfl rfl (Iff.rfl) (fun c53 => ?_) (fun c53 => ?_)
          · skip
            refine g_aload_n (q := 70) B dJ4_getNode_69 rfl rfl (rv_r _) ?_
            obtain ⟨wtb_5, ewtb_5⟩ : ∃ w : va_W, w = ([w1, wj, w2] : List va_W).flatten := ⟨_, rfl⟩
            have hwtb_5 : TbP g (bmx kk) cap tab (tfX xs cap) wtb_5 := by
              rw [ewtb_5]
              exact hcl _ _ _ _ (Nat.le_refl _) (fun b _ _ => ⟨rfl, List.Perm.refl _⟩) hbj0
            refine g_close (w := wtb_5) [4, 4, 4] rfl ewtb_5 rfl ?_
            refine (show Go g κ 70 [some (.ref h), some (.ref s), some (.ref tl), some (.ref a0), none, some (.int (nI cap)), some (.int hh), some (.ref k0)] [.ref a0] [wk, [(h, .inr (23, [.null, .null, .ref tl, .null, .int (nI xs.length), .int (nI md), .int (nI thr), .float lfac]))], [(tl, .inl (g.2.1 6, cap, .inr (.inr (.inr (.inr tab)))))], u0_23, wtb_5] 0 0 from ?_)
            obtain ⟨wc_6, ewc_6⟩ : ∃ w : va_W, w = ([[(h, .inr (23, [.null, .null, .ref tl, .null, .int (nI xs.length), .int (nI md), .int (nI thr), .float lfac]))], [(tl, .inl (g.2.1 6, cap, .inr (.inr (.inr (.inr tab)))))], wtb_5] : List va_W).flatten := ⟨_, rfl⟩
            have hwc_6 : HmT g h xs cap wc_6 := by
              rw [ewc_6]
              exact ⟨hnd, hxl, Or.inr ⟨kk, tl, md, thr, lfac, tab, _, hcap, hk4, hk, hthr, hwtb_5, rfl⟩⟩
            refine g_close (w := wc_6) [1, 1, 2] rfl ewc_6 rfl ?_
            refine (show Go g κ 70 [some (.ref h), some (.ref s), some (.ref tl), some (.ref a0), none, some (.int (nI cap)), some (.int hh), some (.ref k0)] [.ref a0] [wk, u0_23, wc_6] 0 0 from ?_)
            have hmj := NodG.mem hwj ha0
            rw [hv0] at hmj
            have hmw := List.mem_flatten.mpr ⟨wj, (show wj ∈ ([w1, wj, w2] : List va_W) by simp), hmj⟩
            rw [← ewtb_5] at hmw
            have hmz := List.mem_flatten.mpr ⟨wtb_5, (show wtb_5 ∈ ([[(h, .inr (23, [.null, .null, .ref tl, .null, .int (nI xs.length), .int (nI md), .int (nI thr), .float lfac]))], [(tl, .inl (g.2.1 6, cap, .inr (.inr (.inr (.inr tab)))))], wtb_5] : List va_W) by simp), hmw⟩
            rw [← ewc_6] at hmz
            have hnv : NdV a0 v0 wc_6 := Or.inl ⟨_, _, _, hmz⟩
            refine g_pk [2, 1, 0] rfl rfl ?_
            refine (show Go g κ 70 [some (.ref h), some (.ref s), some (.ref tl), some (.ref a0), none, some (.int (nI cap)), some (.int hh), some (.ref k0)] [.ref a0] [wc_6, u0_23, wk] 0 0 from ?_)
            exact g_aret B E dJ4_getNode_70 (by first | exact Or.inl ⟨_, rfl⟩ | exact Or.inr ⟨_, rfl⟩) (rv_r _) (⟨a0, wc_6, u0_23, wk, rfl, rfl, hwc_6, hu0_23, hwk, hnv⟩)
          · skip
            refine g_aload_n (q := 57) B dJ4_getNode_56 rfl rfl (rv_r _) ?_
            refine g_ifnull_r (q := 60) B dJ4_getNode_57 rfl ?_
            refine g_aload_n (q := 61) B dJ4_getNode_60 rfl rfl (rv_r _) ?_
            refine g_aload (q := 63) B dJ4_getNode_61 rfl rfl (rv_r _) ?_
            refine g_callO (q := 66) (is := [3, 0]) (kc2 := 0) (ks2 := 0) B [.ref k0] (ct_J16_equals g J (s := s) (t := k0) (c := c) hu0_23 hwk ) dJ4_getNode_63 rfl (rc_in B (ci := 36) rfl (k := 3) rfl (StrP.hm hu0_23)) q1407 (by decide) (lw_app (fun w hw => by simp only [List.mem_cons, List.not_mem_nil, or_false] at hw; rcases hw with e | e | e | e | e | e <;> rw [e]; exact q1363; exact q1365; exact q1364; exact q1396; exact q1397; exact q99) (lw_meth q1398)) rfl rfl moJ49_equals rfl rfl (by decide) (by decide) (Nat.le_of_ble_eq_true rfl) (Nat.le_of_ble_eq_true rfl) (Nat.le_of_ble_eq_true rfl) (fun _ _ hx => noX_x hx) (fun v63 L1 hp63 => ?_)
            obtain ⟨u0_63, u1_63, rfl, rfl, hu0_63, hu1_63⟩ := hp63
            refine (show Go g κ 66 [some (.ref h), some (.ref s), some (.ref tl), some (.ref a0), none, some (.int (nI cap)), some (.int hh), some (.ref k0)] [.int (nI 1)] [[(h, .inr (23, [.null, .null, .ref tl, .null, .int (nI xs.length), .int (nI md), .int (nI thr), .float lfac]))], [(tl, .inl (g.2.1 6, cap, .inr (.inr (.inr (.inr tab)))))], w1, wj, w2, u0_63, u1_63] 0 0 from ?_)
            refine g_if_eq (tgt := 71) (q := 69) B dJ4_getNode_66 rfl (by decide) (iff_false_intro (by decide)) (fun z => z.elim) (fun _ => ?_)
            refine g_aload_n (q := 70) B dJ4_getNode_69 rfl rfl (rv_r _) ?_
            obtain ⟨wtb_7, ewtb_7⟩ : ∃ w : va_W, w = ([w1, wj, w2] : List va_W).flatten := ⟨_, rfl⟩
            have hwtb_7 : TbP g (bmx kk) cap tab (tfX xs cap) wtb_7 := by
              rw [ewtb_7]
              exact hcl _ _ _ _ (Nat.le_refl _) (fun b _ _ => ⟨rfl, List.Perm.refl _⟩) hbj0
            refine g_close (w := wtb_7) [2, 2, 2] rfl ewtb_7 rfl ?_
            refine (show Go g κ 70 [some (.ref h), some (.ref s), some (.ref tl), some (.ref a0), none, some (.int (nI cap)), some (.int hh), some (.ref k0)] [.ref a0] [[(h, .inr (23, [.null, .null, .ref tl, .null, .int (nI xs.length), .int (nI md), .int (nI thr), .float lfac]))], [(tl, .inl (g.2.1 6, cap, .inr (.inr (.inr (.inr tab)))))], u0_63, u1_63, wtb_7] 0 0 from ?_)
            obtain ⟨wc_8, ewc_8⟩ : ∃ w : va_W, w = ([[(h, .inr (23, [.null, .null, .ref tl, .null, .int (nI xs.length), .int (nI md), .int (nI thr), .float lfac]))], [(tl, .inl (g.2.1 6, cap, .inr (.inr (.inr (.inr tab)))))], wtb_7] : List va_W).flatten := ⟨_, rfl⟩
            have hwc_8 : HmT g h xs cap wc_8 := by
              rw [ewc_8]
              exact ⟨hnd, hxl, Or.inr ⟨kk, tl, md, thr, lfac, tab, _, hcap, hk4, hk, hthr, hwtb_7, rfl⟩⟩
            refine g_close (w := wc_8) [0, 0, 2] rfl ewc_8 rfl ?_
            refine (show Go g κ 70 [some (.ref h), some (.ref s), some (.ref tl), some (.ref a0), none, some (.int (nI cap)), some (.int hh), some (.ref k0)] [.ref a0] [u0_63, u1_63, wc_8] 0 0 from ?_)
            have hmj := NodG.mem hwj ha0
            rw [hv0] at hmj
            have hmw := List.mem_flatten.mpr ⟨wj, (show wj ∈ ([w1, wj, w2] : List va_W) by simp), hmj⟩
            rw [← ewtb_7] at hmw
            have hmz := List.mem_flatten.mpr ⟨wtb_7, (show wtb_7 ∈ ([[(h, .inr (23, [.null, .null, .ref tl, .null, .int (nI xs.length), .int (nI md), .int (nI thr), .float lfac]))], [(tl, .inl (g.2.1 6, cap, .inr (.inr (.inr (.inr tab)))))], wtb_7] : List va_W) by simp), hmw⟩
            rw [← ewc_8] at hmz
            have hnv : NdV a0 v0 wc_8 := Or.inl ⟨_, _, _, hmz⟩
            refine g_pk [2, 0, 0] rfl rfl ?_
            refine (show Go g κ 70 [some (.ref h), some (.ref s), some (.ref tl), some (.ref a0), none, some (.int (nI cap)), some (.int hh), some (.ref k0)] [.ref a0] [wc_8, u0_63, u1_63] 0 0 from ?_)
            exact g_aret B E dJ4_getNode_70 (by first | exact Or.inl ⟨_, rfl⟩ | exact Or.inr ⟨_, rfl⟩) (rv_r _) (⟨a0, wc_8, u0_63, u1_63, rfl, rfl, hwc_8, hu0_63, hu1_63, hnv⟩)
    · skip
      have hmt : ∀ a ∈ ns, (hs a, ky a, vl a) ∈ xs ∧ hU (hs a) % cap = ix := fun a ha => tfX_mem.mp (hpm.mem_iff.mpr (List.mem_map.mpr ⟨a, (hM a).mpr ha, rfl⟩))
      refine (show Go g κ 26 [some (.ref h), some (.ref s), some (.ref tl), none, none, some (.int (nI cap)), none, none] [.int hh, .int (nI (cap - 1)), .ref tl] [wk, [(h, .inr (23, [.null, .null, .ref tl, .null, .int (nI xs.length), .int (nI md), .int (nI thr), .float lfac]))], [(tl, .inl (g.2.1 6, cap, .inr (.inr (.inr (.inr tab)))))], u0_23, w1, wj, w2] 0 0 from ?_)
      rcases hti : tab ix with _ | f0
      · skip
        have hcs0 : cs = [] := List.head?_eq_none_iff.mp (by rw [← ch_head hC, hti])
        obtain ⟨a0, ha0, hs0, hk0, hv0⟩ : ∃ a0, a0 ∈ ns ∧ hs a0 = hh ∧ ky a0 = k0 ∧ vl a0 = v0 := by
          have z := hpm.mem_iff.mp (tfX_mem.mpr ⟨hin, hix.symm⟩)
          obtain ⟨q, hq, e⟩ := List.mem_map.mp z
          have e1 := congrArg Prod.fst e
          have e2 := congrArg (fun z => z.2.1) e
          have e3 := congrArg (fun z => z.2.2) e
          exact ⟨q, (hM q).mp hq, e1, e2, e3⟩
        have huq : ∀ a ∈ ns, hs a = hh → a = a0 := fun a ha e => by
          have z : ((cs.map fun a => (hs a, ky a, vl a)).map (·.1)).Nodup := ((hpm.map (·.1)).nodup_iff).mp (tfX_nd hnd)
          rw [List.map_map] at z
          exact nd_inj z ((hM a).mpr ha) ((hM a0).mpr ha0) (e.trans hs0.symm)
        exact absurd ((hM a0).mpr ha0) (by rw [hcs0]; simp)
      · skip
        rw [hti] at hC
        obtain ⟨ct, hcs⟩ : ∃ ct, cs = f0 :: ct := by
          cases cs with
          | nil => exact absurd hC (by simp [Ch])
          | cons z t => obtain ⟨q, -⟩ := hC; cases q; exact ⟨t, rfl⟩
        have hfm : f0 ∈ ns := (hM _).mp (by rw [hcs]; simp)
        have hCt : Ch nx (nx f0) ct := by rw [hcs] at hC; exact hC.2
        obtain ⟨a0, ha0, hs0, hk0, hv0⟩ : ∃ a0, a0 ∈ ns ∧ hs a0 = hh ∧ ky a0 = k0 ∧ vl a0 = v0 := by
          have z := hpm.mem_iff.mp (tfX_mem.mpr ⟨hin, hix.symm⟩)
          obtain ⟨q, hq, e⟩ := List.mem_map.mp z
          have e1 := congrArg Prod.fst e
          have e2 := congrArg (fun z => z.2.1) e
          have e3 := congrArg (fun z => z.2.2) e
          exact ⟨q, (hM q).mp hq, e1, e2, e3⟩
        have huq : ∀ a ∈ ns, hs a = hh → a = a0 := fun a ha e => by
          have z : ((cs.map fun a => (hs a, ky a, vl a)).map (·.1)).Nodup := ((hpm.map (·.1)).nodup_iff).mp (tfX_nd hnd)
          rw [List.map_map] at z
          exact nd_inj z ((hM a).mpr ha) ((hM a0).mpr ha0) (e.trans hs0.symm)
        refine g_dup (q := 27) B dJ4_getNode_26 rfl rfl ?_
        refine g_istore (q := 29) (lv2 := [some (.ref h), some (.ref s), some (.ref tl), none, none, some (.int (nI cap)), some (.int hh), none]) B dJ4_getNode_27 rfl (Nat.le_of_ble_eq_true rfl) rfl ?_
        refine g_iand (v := nI ix) (q := 30) B dJ4_getNode_29 rfl hixa ?_
        refine g_ald (r := some f0) (q := 31) B (k := 2) (t := 6) dJ4_getNode_30 rfl rfl rfl (vp_in_nI (by omega) (by omega)) (by rw [nI_clamp (by omega)]; exact hti) ?_
        refine g_dup (q := 32) B dJ4_getNode_31 rfl rfl ?_
        refine g_astore_n (q := 33) (lv2 := [some (.ref h), some (.ref s), some (.ref tl), some (.ref f0), none, some (.int (nI cap)), some (.int hh), none]) B dJ4_getNode_32 rfl (Nat.le_of_ble_eq_true rfl) (rv_r _) rfl ?_
        refine g_ifnull_r (q := 36) B dJ4_getNode_33 rfl ?_
        refine g_aload_n (q := 37) B dJ4_getNode_36 rfl rfl (rv_r _) ?_
        refine g_getM (v := .int (hs f0)) (q := 40) B (ci := 25) (k := 5) (j := 2) in_J40 rfl dJ4_getNode_37 rfl rfl (TNG.mem hwj hfm) (Nat.le_of_ble_eq_true rfl) q1680 rfl rfl ?_
        refine g_iload (q := 42) B dJ4_getNode_40 rfl rfl ?_
        refine g_icmp_ne (tgt := 71) (q := 45) B dJ4_getNode_42 rfl (by decide) (Iff.rfl) (fun c42 => ?_) (fun c42 => ?_)
        · skip
          refine g_aload_n (q := 72) B dJ4_getNode_71 rfl rfl (rv_r _) ?_
          refine g_getM (v := va_rf (nx f0)) (q := 75) B (ci := 25) (k := 5) (j := 5) in_J40 rfl dJ4_getNode_72 rfl rfl (TNG.mem hwj hfm) (Nat.le_of_ble_eq_true rfl) q1693 rfl rfl ?_
          refine g_dup (q := 76) B dJ4_getNode_75 rfl (rv_c (rv_o _)) ?_
          refine g_astore (q := 78) (lv2 := [some (.ref h), some (.ref s), some (.ref tl), some (.ref f0), some (va_rf (nx f0)), some (.int (nI cap)), some (.int hh), none]) B dJ4_getNode_76 rfl (Nat.le_of_ble_eq_true rfl) (rv_o _) rfl ?_
          refine g_ifnull_o (tgt := 148) (q := 81) B dJ4_getNode_78 rfl (by decide) (fun c78 => ?_) (fun nxf0_a78 c78 => ?_)
          · skip
            rw [c78]
            refine (show Go g κ 148 [some (.ref h), some (.ref s), some (.ref tl), some (.ref f0), some (.null), some (.int (nI cap)), some (.int hh), none] [] [wk, [(h, .inr (23, [.null, .null, .ref tl, .null, .int (nI xs.length), .int (nI md), .int (nI thr), .float lfac]))], [(tl, .inl (g.2.1 6, cap, .inr (.inr (.inr (.inr tab)))))], u0_23, w1, wj, w2] 0 0 from ?_)
            have hct : ct = [] := by
              have zz := ch_head hCt
              rw [c78] at zz
              exact List.head?_eq_none_iff.mp zz.symm
            have z := (hM a0).mpr ha0
            rw [hcs, hct] at z
            have e2 := List.mem_singleton.mp z
            exact absurd (by rw [← e2]; exact hs0) c42
          · skip
            rw [c78]
            refine (show Go g κ 81 [some (.ref h), some (.ref s), some (.ref tl), some (.ref f0), some (.ref nxf0_a78), some (.int (nI cap)), some (.int hh), none] [] [wk, [(h, .inr (23, [.null, .null, .ref tl, .null, .int (nI xs.length), .int (nI md), .int (nI thr), .float lfac]))], [(tl, .inl (g.2.1 6, cap, .inr (.inr (.inr (.inr tab)))))], u0_23, w1, wj, w2] 0 0 from ?_)
            refine g_aload_n (q := 82) B dJ4_getNode_81 rfl rfl (rv_r _) ?_
            refine g_instRS (ci := 25) (q := 85) B rfl (rc_in B (ci := 25) rfl (k := 5) rfl ⟨_, TNG.mem hwj hfm⟩) dJ4_getNode_82 rfl q1408 ?_
            refine g_if_eq (tgt := 99) (q := 88) B dJ4_getNode_85 rfl (by decide) (iff_false_intro (by decide)) (fun z => z.elim) (fun _ => ?_)
            refine g_aload_n (q := 89) B dJ4_getNode_88 rfl rfl (rv_r _) ?_
            refine g_castRS (ci := 25) (q := 92) B rfl (rc_in B (ci := 25) rfl (k := 5) rfl ⟨_, TNG.mem hwj hfm⟩) dJ4_getNode_89 rfl q1408 ?_
            refine g_iload (q := 94) B dJ4_getNode_92 rfl rfl ?_
            refine g_aload_n (q := 95) B dJ4_getNode_94 rfl rfl (rv_r _) ?_
            have hkk : StrP g (ky a0) c wk := by rw [hk0]; exact hwk
            refine g_callV (q := 98) (is := [5, 3, 0]) (kc2 := 0) (ks2 := 0) B [.int hh, .ref s] (ct_J40_getTreeNode_s g J (ns := ns) (hs := hs) (ky := ky) (vl := vl) (nx := nx) (pp := pp) (lf := lf) (rg := rg) (pv := pv) (rd := rd) (lo := lo) (hi := hi) (root := root) (s := s) (c := c) (hh := hh) (a := f0) (a0 := a0) hwj hu0_23 hkk (hT) (hfm) (ha0) (hs0)) dJ4_getNode_95 rfl (rc_in B (ci := 25) rfl (k := 5) rfl ⟨_, TNG.mem hwj hfm⟩) rfl q1409 q1410 q1411 q131 q1412 rfl rfl moJ40_getTreeNode rfl rfl (by decide) (by decide) (Nat.le_of_ble_eq_true rfl) (Nat.le_of_ble_eq_true rfl) (Nat.le_of_ble_eq_true rfl) (fun _ _ hx => noX_x hx) (fun v95 L1 hp95 => ?_)
            obtain ⟨u1_95, u2_95, rfl, rfl, hu1_95, hu2_95⟩ := hp95
            refine (show Go g κ 98 [some (.ref h), some (.ref s), some (.ref tl), some (.ref f0), some (.ref nxf0_a78), some (.int (nI cap)), some (.int hh), none] [.ref a0] [[(h, .inr (23, [.null, .null, .ref tl, .null, .int (nI xs.length), .int (nI md), .int (nI thr), .float lfac]))], [(tl, .inl (g.2.1 6, cap, .inr (.inr (.inr (.inr tab)))))], w1, w2, wj, u1_95, u2_95] 0 0 from ?_)
            have hkq : StrP g k0 c u2_95 := by rw [← hk0]; exact hu2_95
            obtain ⟨wtb_9, ewtb_9⟩ : ∃ w : va_W, w = ([w1, wj, w2] : List va_W).flatten := ⟨_, rfl⟩
            have hwtb_9 : TbP g (bmx kk) cap tab (tfX xs cap) wtb_9 := by
              rw [ewtb_9]
              exact hcl _ _ _ _ (Nat.le_refl _) (fun b _ _ => ⟨rfl, List.Perm.refl _⟩) hbj0
            refine g_close (w := wtb_9) [2, 3, 2] rfl ewtb_9 rfl ?_
            refine (show Go g κ 98 [some (.ref h), some (.ref s), some (.ref tl), some (.ref f0), some (.ref nxf0_a78), some (.int (nI cap)), some (.int hh), none] [.ref a0] [[(h, .inr (23, [.null, .null, .ref tl, .null, .int (nI xs.length), .int (nI md), .int (nI thr), .float lfac]))], [(tl, .inl (g.2.1 6, cap, .inr (.inr (.inr (.inr tab)))))], u1_95, u2_95, wtb_9] 0 0 from ?_)
            obtain ⟨wc_10, ewc_10⟩ : ∃ w : va_W, w = ([[(h, .inr (23, [.null, .null, .ref tl, .null, .int (nI xs.length), .int (nI md), .int (nI thr), .float lfac]))], [(tl, .inl (g.2.1 6, cap, .inr (.inr (.inr (.inr tab)))))], wtb_9] : List va_W).flatten := ⟨_, rfl⟩
            have hwc_10 : HmT g h xs cap wc_10 := by
              rw [ewc_10]
              exact ⟨hnd, hxl, Or.inr ⟨kk, tl, md, thr, lfac, tab, _, hcap, hk4, hk, hthr, hwtb_9, rfl⟩⟩
            refine g_close (w := wc_10) [0, 0, 2] rfl ewc_10 rfl ?_
            refine (show Go g κ 98 [some (.ref h), some (.ref s), some (.ref tl), some (.ref f0), some (.ref nxf0_a78), some (.int (nI cap)), some (.int hh), none] [.ref a0] [u1_95, u2_95, wc_10] 0 0 from ?_)
            have hmj := TNG.mem hwj ha0
            rw [hv0] at hmj
            have hmw := List.mem_flatten.mpr ⟨wj, (show wj ∈ ([w1, wj, w2] : List va_W) by simp), hmj⟩
            rw [← ewtb_9] at hmw
            have hmz := List.mem_flatten.mpr ⟨wtb_9, (show wtb_9 ∈ ([[(h, .inr (23, [.null, .null, .ref tl, .null, .int (nI xs.length), .int (nI md), .int (nI thr), .float lfac]))], [(tl, .inl (g.2.1 6, cap, .inr (.inr (.inr (.inr tab)))))], wtb_9] : List va_W) by simp), hmw⟩
            rw [← ewc_10] at hmz
            have hnv : NdV a0 v0 wc_10 := Or.inr ⟨_, _, _, _, _, _, _, _, hmz⟩
            refine g_pk [2, 0, 0] rfl rfl ?_
            refine (show Go g κ 98 [some (.ref h), some (.ref s), some (.ref tl), some (.ref f0), some (.ref nxf0_a78), some (.int (nI cap)), some (.int hh), none] [.ref a0] [wc_10, u1_95, u2_95] 0 0 from ?_)
            exact g_aret B E dJ4_getNode_98 (by first | exact Or.inl ⟨_, rfl⟩ | exact Or.inr ⟨_, rfl⟩) (rv_r _) (⟨a0, wc_10, u1_95, u2_95, rfl, rfl, hwc_10, hu1_95, hkq, hnv⟩)
        · skip
          have hxa : f0 = a0 := huq _ hfm (Classical.not_not.mp c42)
          rw [hxa]
          refine (show Go g κ 45 [some (.ref h), some (.ref s), some (.ref tl), some (.ref a0), none, some (.int (nI cap)), some (.int hh), none] [] [wk, [(h, .inr (23, [.null, .null, .ref tl, .null, .int (nI xs.length), .int (nI md), .int (nI thr), .float lfac]))], [(tl, .inl (g.2.1 6, cap, .inr (.inr (.inr (.inr tab)))))], u0_23, w1, wj, w2] 0 0 from ?_)
          refine g_aload_n (q := 46) B dJ4_getNode_45 rfl rfl (rv_r _) ?_
          refine g_getM (v := .ref k0) (q := 49) B (ci := 25) (k := 5) (j := 3) in_J40 rfl dJ4_getNode_46 rfl rfl (TNG.mem hwj ha0) (Nat.le_of_ble_eq_true rfl) q1685 rfl (congrArg some (congrArg (fun z => Value.ref z) hk0)) ?_
          refine g_dup (q := 50) B dJ4_getNode_49 rfl rfl ?_
          refine g_astore (q := 52) (lv2 := [some (.ref h), some (.ref s), some (.ref tl), some (.ref a0), none, some (.int (nI cap)), some (.int hh), some (.ref k0)]) B dJ4_getNode_50 rfl (Nat.le_of_ble_eq_true rfl) (rv_r _) rfl ?_
          refine g_aload_n (q := 53) B dJ4_getNode_52 rfl rfl (rv_r _) ?_
          refine g_acmp_eq (rx := some k0) (ry := some s) (tgt := 69) (q := 56) B dJ4_getNode_53 rfl (by decide) rfl rfl (Iff.rfl) (fun c53 => ?_) (fun c53 => ?_)
          · skip
            refine g_aload_n (q := 70) B dJ4_getNode_69 rfl rfl (rv_r _) ?_
            obtain ⟨wtb_11, ewtb_11⟩ : ∃ w : va_W, w = ([w1, wj, w2] : List va_W).flatten := ⟨_, rfl⟩
            have hwtb_11 : TbP g (bmx kk) cap tab (tfX xs cap) wtb_11 := by
              rw [ewtb_11]
              exact hcl _ _ _ _ (Nat.le_refl _) (fun b _ _ => ⟨rfl, List.Perm.refl _⟩) hbj0
            refine g_close (w := wtb_11) [4, 4, 4] rfl ewtb_11 rfl ?_
            refine (show Go g κ 70 [some (.ref h), some (.ref s), some (.ref tl), some (.ref a0), none, some (.int (nI cap)), some (.int hh), some (.ref k0)] [.ref a0] [wk, [(h, .inr (23, [.null, .null, .ref tl, .null, .int (nI xs.length), .int (nI md), .int (nI thr), .float lfac]))], [(tl, .inl (g.2.1 6, cap, .inr (.inr (.inr (.inr tab)))))], u0_23, wtb_11] 0 0 from ?_)
            obtain ⟨wc_12, ewc_12⟩ : ∃ w : va_W, w = ([[(h, .inr (23, [.null, .null, .ref tl, .null, .int (nI xs.length), .int (nI md), .int (nI thr), .float lfac]))], [(tl, .inl (g.2.1 6, cap, .inr (.inr (.inr (.inr tab)))))], wtb_11] : List va_W).flatten := ⟨_, rfl⟩
            have hwc_12 : HmT g h xs cap wc_12 := by
              rw [ewc_12]
              exact ⟨hnd, hxl, Or.inr ⟨kk, tl, md, thr, lfac, tab, _, hcap, hk4, hk, hthr, hwtb_11, rfl⟩⟩
            refine g_close (w := wc_12) [1, 1, 2] rfl ewc_12 rfl ?_
            refine (show Go g κ 70 [some (.ref h), some (.ref s), some (.ref tl), some (.ref a0), none, some (.int (nI cap)), some (.int hh), some (.ref k0)] [.ref a0] [wk, u0_23, wc_12] 0 0 from ?_)
            have hmj := TNG.mem hwj ha0
            rw [hv0] at hmj
            have hmw := List.mem_flatten.mpr ⟨wj, (show wj ∈ ([w1, wj, w2] : List va_W) by simp), hmj⟩
            rw [← ewtb_11] at hmw
            have hmz := List.mem_flatten.mpr ⟨wtb_11, (show wtb_11 ∈ ([[(h, .inr (23, [.null, .null, .ref tl, .null, .int (nI xs.length), .int (nI md), .int (nI thr), .float lfac]))], [(tl, .inl (g.2.1 6, cap, .inr (.inr (.inr (.inr tab)))))], wtb_11] : List va_W) by simp), hmw⟩
            rw [← ewc_12] at hmz
            have hnv : NdV a0 v0 wc_12 := Or.inr ⟨_, _, _, _, _, _, _, _, hmz⟩
            refine g_pk [2, 1, 0] rfl rfl ?_
            refine (show Go g κ 70 [some (.ref h), some (.ref s), some (.ref tl), some (.ref a0), none, some (.int (nI cap)), some (.int hh), some (.ref k0)] [.ref a0] [wc_12, u0_23, wk] 0 0 from ?_)
            exact g_aret B E dJ4_getNode_70 (by first | exact Or.inl ⟨_, rfl⟩ | exact Or.inr ⟨_, rfl⟩) (rv_r _) (⟨a0, wc_12, u0_23, wk, rfl, rfl, hwc_12, hu0_23, hwk, hnv⟩)
          · skip
            refine g_aload_n (q := 57) B dJ4_getNode_56 rfl rfl (rv_r _) ?_
            refine g_ifnull_r (q := 60) B dJ4_getNode_57 rfl ?_
            refine g_aload_n (q := 61) B dJ4_getNode_60 rfl rfl (rv_r _) ?_
            refine g_aload (q := 63) B dJ4_getNode_61 rfl rfl (rv_r _) ?_
            refine g_callO (q := 66) (is := [3, 0]) (kc2 := 0) (ks2 := 0) B [.ref k0] (ct_J16_equals g J (s := s) (t := k0) (c := c) hu0_23 hwk ) dJ4_getNode_63 rfl (rc_in B (ci := 36) rfl (k := 3) rfl (StrP.hm hu0_23)) q1407 (by decide) (lw_app (fun w hw => by simp only [List.mem_cons, List.not_mem_nil, or_false] at hw; rcases hw with e | e | e | e | e | e <;> rw [e]; exact q1363; exact q1365; exact q1364; exact q1396; exact q1397; exact q99) (lw_meth q1398)) rfl rfl moJ49_equals rfl rfl (by decide) (by decide) (Nat.le_of_ble_eq_true rfl) (Nat.le_of_ble_eq_true rfl) (Nat.le_of_ble_eq_true rfl) (fun _ _ hx => noX_x hx) (fun v63 L1 hp63 => ?_)
            obtain ⟨u0_63, u1_63, rfl, rfl, hu0_63, hu1_63⟩ := hp63
            refine (show Go g κ 66 [some (.ref h), some (.ref s), some (.ref tl), some (.ref a0), none, some (.int (nI cap)), some (.int hh), some (.ref k0)] [.int (nI 1)] [[(h, .inr (23, [.null, .null, .ref tl, .null, .int (nI xs.length), .int (nI md), .int (nI thr), .float lfac]))], [(tl, .inl (g.2.1 6, cap, .inr (.inr (.inr (.inr tab)))))], w1, wj, w2, u0_63, u1_63] 0 0 from ?_)
            refine g_if_eq (tgt := 71) (q := 69) B dJ4_getNode_66 rfl (by decide) (iff_false_intro (by decide)) (fun z => z.elim) (fun _ => ?_)
            refine g_aload_n (q := 70) B dJ4_getNode_69 rfl rfl (rv_r _) ?_
            obtain ⟨wtb_13, ewtb_13⟩ : ∃ w : va_W, w = ([w1, wj, w2] : List va_W).flatten := ⟨_, rfl⟩
            have hwtb_13 : TbP g (bmx kk) cap tab (tfX xs cap) wtb_13 := by
              rw [ewtb_13]
              exact hcl _ _ _ _ (Nat.le_refl _) (fun b _ _ => ⟨rfl, List.Perm.refl _⟩) hbj0
            refine g_close (w := wtb_13) [2, 2, 2] rfl ewtb_13 rfl ?_
            refine (show Go g κ 70 [some (.ref h), some (.ref s), some (.ref tl), some (.ref a0), none, some (.int (nI cap)), some (.int hh), some (.ref k0)] [.ref a0] [[(h, .inr (23, [.null, .null, .ref tl, .null, .int (nI xs.length), .int (nI md), .int (nI thr), .float lfac]))], [(tl, .inl (g.2.1 6, cap, .inr (.inr (.inr (.inr tab)))))], u0_63, u1_63, wtb_13] 0 0 from ?_)
            obtain ⟨wc_14, ewc_14⟩ : ∃ w : va_W, w = ([[(h, .inr (23, [.null, .null, .ref tl, .null, .int (nI xs.length), .int (nI md), .int (nI thr), .float lfac]))], [(tl, .inl (g.2.1 6, cap, .inr (.inr (.inr (.inr tab)))))], wtb_13] : List va_W).flatten := ⟨_, rfl⟩
            have hwc_14 : HmT g h xs cap wc_14 := by
              rw [ewc_14]
              exact ⟨hnd, hxl, Or.inr ⟨kk, tl, md, thr, lfac, tab, _, hcap, hk4, hk, hthr, hwtb_13, rfl⟩⟩
            refine g_close (w := wc_14) [0, 0, 2] rfl ewc_14 rfl ?_
            refine (show Go g κ 70 [some (.ref h), some (.ref s), some (.ref tl), some (.ref a0), none, some (.int (nI cap)), some (.int hh), some (.ref k0)] [.ref a0] [u0_63, u1_63, wc_14] 0 0 from ?_)
            have hmj := TNG.mem hwj ha0
            rw [hv0] at hmj
            have hmw := List.mem_flatten.mpr ⟨wj, (show wj ∈ ([w1, wj, w2] : List va_W) by simp), hmj⟩
            rw [← ewtb_13] at hmw
            have hmz := List.mem_flatten.mpr ⟨wtb_13, (show wtb_13 ∈ ([[(h, .inr (23, [.null, .null, .ref tl, .null, .int (nI xs.length), .int (nI md), .int (nI thr), .float lfac]))], [(tl, .inl (g.2.1 6, cap, .inr (.inr (.inr (.inr tab)))))], wtb_13] : List va_W) by simp), hmw⟩
            rw [← ewc_14] at hmz
            have hnv : NdV a0 v0 wc_14 := Or.inr ⟨_, _, _, _, _, _, _, _, hmz⟩
            refine g_pk [2, 0, 0] rfl rfl ?_
            refine (show Go g κ 70 [some (.ref h), some (.ref s), some (.ref tl), some (.ref a0), none, some (.int (nI cap)), some (.int hh), some (.ref k0)] [.ref a0] [wc_14, u0_63, u1_63] 0 0 from ?_)
            exact g_aret B E dJ4_getNode_70 (by first | exact Or.inl ⟨_, rfl⟩ | exact Or.inr ⟨_, rfl⟩) (rv_r _) (⟨a0, wc_14, u0_63, u1_63, rfl, rfl, hwc_14, hu0_63, hu1_63, hnv⟩)
theorem moJ4_getNode : Mo yJ4_getNode 1 := by
  refine ⟨by decide, by decide, by decide +kernel⟩
theorem ct_J4_get_n (g : Gv) (J : Jd g) {h : Nat} {xs : List Tp} {cap : Nat} {s : Nat} {c : List Nat} {hh : Int32} {w0 : va_W} {w1 : va_W} (hw0 : HmT g h xs cap w0) (hw1 : StrP g s c w1) (hc2 : 2 ≤ c.length) (hhe : hh = spr (nI (hN c))) (hno : ∀ t ∈ xs, t.1 ≠ hh) : Ct g yJ4_get (ws_ yJ4_get cJ4_get 3 (some (.object "java/lang/Object"))) 6 0 0 [.ref h, .ref s] [w0, w1] (fun (rv_ : Option Value) (rL_ : List va_W) => ∃ (u0 : va_W) (u1 : va_W), rv_ = some (.null) ∧ rL_ = [u0, u1] ∧ HmT g h xs cap u0 ∧ StrP g s c u1) noX := by
  refine Ct.of "java/util/HashMap" [some (.ref h), some (.ref s), none] rfl (by decide) rfl (Nat.le_of_ble_eq_true rfl) rfl ?_
  intro κ B E tb
  refine g_aload_n (q := 1) B dJ4_get_0 rfl rfl (rv_r _) ?_
  refine g_aload_n (q := 2) B dJ4_get_1 rfl rfl (rv_r _) ?_
  refine g_callV (q := 5) (is := [0, 0]) (kc2 := 0) (ks2 := 0) B [.ref s] (ct_J4_getNode_n g J (h := h) (xs := xs) (cap := cap) (s := s) (c := c) (hh := hh) hw0 hw1 (by first | assumption | omega | rfl) (by first | assumption | omega | rfl) (by first | assumption | omega | rfl)) dJ4_get_2 rfl (rc_in B (ci := 23) rfl (k := 0) rfl (HmT.hm hw0)) rfl q1254 q1255 q1256 q83 q1257 rfl rfl moJ4_getNode rfl rfl (by decide) (by decide) (Nat.le_of_ble_eq_true rfl) (Nat.le_of_ble_eq_true rfl) (Nat.le_of_ble_eq_true rfl) (fun _ _ hx => noX_x hx) (fun v2 L1 hp2 => ?_)
  obtain ⟨u0_2, u1_2, rfl, rfl, hu0_2, hu1_2⟩ := hp2
  refine (show Go g κ 5 [some (.ref h), some (.ref s), none] [.null] [u0_2, u1_2] 0 0 from ?_)
  refine g_dup (q := 6) B dJ4_get_5 rfl rfl ?_
  refine g_astore_n (q := 7) (lv2 := [some (.ref h), some (.ref s), some (.null)]) B dJ4_get_6 rfl (Nat.le_of_ble_eq_true rfl) rv_n rfl ?_
  refine g_ifnonnull_n (q := 10) B dJ4_get_7 rfl ?_
  refine g_aconst_null (q := 11) B dJ4_get_10 rfl ?_
  refine g_goto (tgt := 18) B dJ4_get_11 (by decide) ?_
  exact g_aret B E dJ4_get_18 (by first | exact Or.inl ⟨_, rfl⟩ | exact Or.inr ⟨_, rfl⟩) rv_n (⟨u0_2, u1_2, rfl, rfl, hu0_2, hu1_2⟩)
theorem ct_J4_get_s (g : Gv) (J : Jd g) {h : Nat} {xs : List Tp} {cap : Nat} {s : Nat} {c : List Nat} {hh : Int32} {k0 : Nat} {v0 : Nat} {w0 : va_W} {w1 : va_W} {wk : va_W} (hw0 : HmT g h xs cap w0) (hw1 : StrP g s c w1) (hwk : StrP g k0 c wk) (hc2 : 2 ≤ c.length) (hhe : hh = spr (nI (hN c))) (hin : (hh, k0, v0) ∈ xs) : Ct g yJ4_get (ws_ yJ4_get cJ4_get 3 (some (.object "java/lang/Object"))) 6 0 0 [.ref h, .ref s] [w0, w1, wk] (fun (rv_ : Option Value) (rL_ : List va_W) => ∃ (u0 : va_W) (u1 : va_W) (u2 : va_W), rv_ = some (.ref v0) ∧ rL_ = [u0, u1, u2] ∧ HmT g h xs cap u0 ∧ StrP g s c u1 ∧ StrP g k0 c u2) noX := by
  refine Ct.of "java/util/HashMap" [some (.ref h), some (.ref s), none] rfl (by decide) rfl (Nat.le_of_ble_eq_true rfl) rfl ?_
  intro κ B E tb
  refine g_aload_n (q := 1) B dJ4_get_0 rfl rfl (rv_r _) ?_
  refine g_aload_n (q := 2) B dJ4_get_1 rfl rfl (rv_r _) ?_
  refine g_callV (q := 5) (is := [0, 0, 0]) (kc2 := 0) (ks2 := 0) B [.ref s] (ct_J4_getNode_s g J (h := h) (xs := xs) (cap := cap) (s := s) (c := c) (hh := hh) (k0 := k0) (v0 := v0) hw0 hw1 hwk (by first | assumption | omega | rfl) (by first | assumption | omega | rfl) (by first | assumption | omega | rfl)) dJ4_get_2 rfl (rc_in B (ci := 23) rfl (k := 0) rfl (HmT.hm hw0)) rfl q1254 q1255 q1256 q83 q1257 rfl rfl moJ4_getNode rfl rfl (by decide) (by decide) (Nat.le_of_ble_eq_true rfl) (Nat.le_of_ble_eq_true rfl) (Nat.le_of_ble_eq_true rfl) (fun _ _ hx => noX_x hx) (fun v2 L1 hp2 => ?_)
  obtain ⟨a2, u0_2, u1_2, u2_2, rfl, rfl, hu0_2, hu1_2, hu2_2, hnv_2⟩ := hp2
  refine (show Go g κ 5 [some (.ref h), some (.ref s), none] [.ref a2] [u0_2, u1_2, u2_2] 0 0 from ?_)
  refine g_dup (q := 6) B dJ4_get_5 rfl rfl ?_
  refine g_astore_n (q := 7) (lv2 := [some (.ref h), some (.ref s), some (.ref a2)]) B dJ4_get_6 rfl (Nat.le_of_ble_eq_true rfl) (rv_r _) rfl ?_
  refine g_ifnonnull_r (tgt := 14) B dJ4_get_7 (by decide) ?_
  rcases hnv_2 with ⟨q1, q2, q3, hq⟩ | ⟨q1, q2, q3, q4, q5, q6, q7, q8, hq⟩
  · skip
    refine g_aload_n (q := 15) B dJ4_get_14 rfl rfl (rv_r _) ?_
    refine g_getM (v := .ref v0) (q := 18) B (ci := 24) (k := 0) (j := 2) in_J38 rfl dJ4_get_15 rfl rfl hq (Nat.le_of_ble_eq_true rfl) q1687 rfl rfl ?_
    refine (show Go g κ 18 [some (.ref h), some (.ref s), some (.ref a2)] [.ref v0] [u0_2, u1_2, u2_2] 0 0 from ?_)
    exact g_aret B E dJ4_get_18 (by first | exact Or.inl ⟨_, rfl⟩ | exact Or.inr ⟨_, rfl⟩) (rv_r _) (⟨u0_2, u1_2, u2_2, rfl, rfl, hu0_2, hu1_2, hu2_2⟩)
  · skip
    refine g_aload_n (q := 15) B dJ4_get_14 rfl rfl (rv_r _) ?_
    refine g_getM (v := .ref v0) (q := 18) B (ci := 25) (k := 0) (j := 4) in_J40 rfl dJ4_get_15 rfl rfl hq (Nat.le_of_ble_eq_true rfl) q1687 rfl rfl ?_
    refine (show Go g κ 18 [some (.ref h), some (.ref s), some (.ref a2)] [.ref v0] [u0_2, u1_2, u2_2] 0 0 from ?_)
    exact g_aret B E dJ4_get_18 (by first | exact Or.inl ⟨_, rfl⟩ | exact Or.inr ⟨_, rfl⟩) (rv_r _) (⟨u0_2, u1_2, u2_2, rfl, rfl, hu0_2, hu1_2, hu2_2⟩)
