set_option maxRecDepth 100000
theorem fup_id {α : Type} {f : Nat → α} {a : Nat} : fup f a (f a) = f := by
  funext b; unfold fup; split
  · rename_i e; rw [e]
  · rfl
theorem g_spl {g : Gv} {κ : Kx} {pc : Nat} {lv : List (Option Value)} {st : List Value} {L : List va_W} {kc ks : Nat} (k : Nat) {w w2 w3 : va_W} {L2 : List va_W} (hL : L[k]? = some w) (hp : w.Perm (w2 ++ w3)) (h2 : L.set k w2 ++ [w3] = L2) (kk : Go g κ pc lv st L2 kc ks) : Go g κ pc lv st L kc ks := by
  obtain ⟨p, l, e, R0, s, m, args, below, meth, c, A, mc, ms, Q⟩ := κ
  intro H locs cells slots ls h1 hh2 h3 h4 h5
  refine kk H locs cells slots ls h1 hh2 h3 (h4.to (R := []) ?_) h5
  subst h2
  rw [List.append_nil, List.flatten_append]
  clear h4 kk h5
  induction L generalizing k with
  | nil => simp at hL
  | cons c t ih =>
    cases k with
    | zero =>
      rw [List.getElem?_cons_zero] at hL
      cases hL
      rw [List.set_cons_zero, List.flatten_cons, List.flatten_cons]
      refine (hp.append_right _).trans ?_
      rw [List.append_assoc, List.append_assoc]
      refine List.Perm.append_left _ ?_
      simpa using List.perm_append_comm
    | succ k =>
      rw [List.getElem?_cons_succ] at hL
      rw [List.set_cons_succ, List.flatten_cons, List.flatten_cons, List.append_assoc]
      exact (ih k hL).append_left _
theorem tr_1 {x : Nat} {key : Nat → Nat} {l r p : Nat → Option Nat} {M : Nat} (hk : key x < M) (h1 : l x = none) (h2 : r x = none) (h3 : p x = none) : Tr [x] key l r p (fun _ => 0) (fun _ => M) (some x) M := by
  refine ⟨?_, ?_, ?_, ?_, ?_, ?_, ?_, ?_, ?_, ?_⟩ <;> grind
theorem er_mem {ns2 : List Nat} {x : Nat} {vt : List Nat} (h0 : ns2.Nodup) (h : ∀ a, a ∈ ns2 ↔ a ∈ x :: vt) (hn : (x :: vt).Nodup) : ∀ a, a ∈ ns2.erase x ↔ a ∈ vt := by
  intro a
  rw [h0.mem_erase_iff, h a, List.mem_cons]
  have := (List.nodup_cons.mp hn).1
  constructor
  · rintro ⟨h1, h2 | h2⟩
    · exact absurd h2 h1
    · exact h2
  · intro h1
    exact ⟨fun e => this (e ▸ h1), Or.inr h1⟩
theorem ct_J40_treeify (g : Gv) (J : Jd g) {tl : Nat} {cap : Nat} {tab : Nat → Option Nat} {ix : Nat} {cs : List Nat} {ns : List Nat} {hs : Nat → Int32} {ky : Nat → Nat} {vl : Nat → Nat} {nx : Nat → Option Nat} {pp0 : Nat → Option Nat} {lf0 : Nat → Option Nat} {rg0 : Nat → Option Nat} {pv : Nat → Option Nat} {rd0 : Nat → Bool} {a : Nat} {w1 : va_W} (hw1 : TNG g ns hs ky vl nx pp0 lf0 rg0 pv rd0 w1) (hcap : 0 < cap) (hcap2 : cap < 1073741824) (hix : ∀ b ∈ ns, nI (cap - 1) &&& hs b = nI ix) (hix2 : ix < cap) (hta : tab ix = some a) (hij : ∀ b ∈ ns, ∀ c ∈ ns, hs b = hs c → b = c) (hC : Ch nx (tab ix) cs) (hP : Pc pv none cs) (hN : cs.Nodup) (hM : ∀ a, a ∈ cs ↔ a ∈ ns) : Ct g yJ40_treeify (ws_ yJ40_treeify cJ40_treeify 13 none) 4 0 0 [.ref a, .ref tl] [[(tl, .inl (g.2.1 6, cap, .inr (.inr (.inr (.inr tab)))))], w1] (fun (rv_ : Option Value) (rL_ : List va_W) => ∃ (n1 : List Nat) (nx2 : Nat → Option Nat) (pv2 : Nat → Option Nat) (lf2 : Nat → Option Nat) (rg2 : Nat → Option Nat) (pp2 : Nat → Option Nat) (rd2 : Nat → Bool) (lo2 : Nat → Nat) (hi2 : Nat → Nat) (root2 : Nat) (cs2 : List Nat) (u1 : va_W), rv_ = none ∧ rL_ = [[(tl, .inl (g.2.1 6, cap, .inr (.inr (.inr (.inr (va_up tab ix (some root2)))))))], u1] ∧ TNG g n1 hs ky vl nx2 pp2 lf2 rg2 pv2 rd2 u1 ∧ (∀ b, b ∈ n1 ↔ b ∈ ns) ∧ (Tr n1 (fun a => hrk (hs a)) lf2 rg2 pp2 lo2 hi2 (some root2) 4294967296) ∧ (Ch nx2 (some root2) cs2 ∧ Pc pv2 none cs2 ∧ cs2.Nodup ∧ ∀ a, a ∈ cs2 ↔ a ∈ n1)) noX := by
  refine Ct.of "java/util/HashMap$TreeNode" [some (.ref a), some (.ref tl), none, none, none, none, none, none, none, none, none, none, none] rfl (by decide) rfl (Nat.le_of_ble_eq_true rfl) rfl ?_
  intro κ B E tb
  obtain ⟨wt0, ewt0⟩ : ∃ w : va_W, w = ([] : List va_W).flatten := ⟨_, rfl⟩
  have hwt0 : TNG g ([]) hs ky vl nx (fun _ => none) (fun _ => none) (fun _ => none) pv (fun _ => false) wt0 := by
    rw [ewt0]
    exact TNG.nil
  refine g_close (w := wt0) [] rfl ewt0 rfl ?_
  refine (show Go g κ 0 [some (.ref a), some (.ref tl), none, none, none, none, none, none, none, none, none, none, none] [] [[(tl, .inl (g.2.1 6, cap, .inr (.inr (.inr (.inr tab)))))], w1, wt0] 0 0 from ?_)
  refine g_aconst_null (q := 1) B dJ40_treeify_0 rfl ?_
  refine g_astore_n (q := 2) (lv2 := [some (.ref a), some (.ref tl), some (.null), none, none, none, none, none, none, none, none, none, none]) B dJ40_treeify_1 rfl (Nat.le_of_ble_eq_true rfl) rv_n rfl ?_
  refine g_aload_n (q := 3) B dJ40_treeify_2 rfl rfl (rv_r _) ?_
  refine g_astore_n (q := 4) (lv2 := [some (.ref a), some (.ref tl), some (.null), some (.ref a), none, none, none, none, none, none, none, none, none]) B dJ40_treeify_3 rfl (Nat.le_of_ble_eq_true rfl) (rv_r _) rfl ?_
  have lp4 : ∀ (n4 : Nat) (n1 : List Nat) (vs : List Nat) (y : Option Nat) (n2 : List Nat) (pp : Nat → Option Nat) (lf : Nat → Option Nat) (rg : Nat → Option Nat) (rd : Nat → Bool) (lo : Nat → Nat) (hi : Nat → Nat) (ro : Option Nat) (l4_1 : va_W) (l4_2 : va_W), TNG g n2 hs ky vl nx pp0 lf0 rg0 pv rd0 l4_1 → TNG g n1 hs ky vl nx pp lf rg pv rd l4_2 → (Tr n1 (fun a => hrk (hs a)) lf rg pp lo hi ro 4294967296) → (Ch nx y vs) → (vs.Nodup) → (∀ a, a ∈ n1 ↔ a ∈ cs ∧ a ∉ vs) → (∀ a, a ∈ n2 ↔ a ∈ vs) → (∀ a ∈ vs, a ∈ cs) → vs.length = n4 → Go g κ 4 [some (.ref a), some (.ref tl), some (va_rf ro), some (va_rf y), none, none, none, none, none, none, none, none, none] [] [[(tl, .inl (g.2.1 6, cap, .inr (.inr (.inr (.inr tab)))))], l4_1, l4_2] 0 0 := by
    intro n4
    induction n4 using Nat.strongRecOn with
    | _ n4 ih4 =>
    intro n1 vs y n2 pp lf rg rd lo hi ro l4_1 l4_2 hl4_1 hl4_2 hT hCv hNv h1m h2m hvc hmu4
    refine g_aload_n (q := 5) B dJ40_treeify_4 rfl rfl (rv_o _) ?_
    refine g_ifnull_o (tgt := 215) (q := 8) B dJ40_treeify_5 rfl (by decide) (fun c5 => ?_) (fun y_a5 c5 => ?_)
    · skip
      subst c5
      have hve : vs = [] := by
        cases vs with
        | nil => rfl
        | cons z t => obtain ⟨e, -⟩ := hCv; cases e
      subst hve
      have h1c : ∀ b, b ∈ n1 ↔ b ∈ cs := fun b => by rw [h1m b]; simp
      obtain ⟨rt, hrt, hrm⟩ := tr_root hT (x := a) ((h1c a).mpr (by have := ch_head hC; rw [hta] at this; exact List.mem_of_mem_head? (by rw [← this]; rfl)))
      subst hrt
      refine (show Go g κ 215 [some (.ref a), some (.ref tl), some (.ref rt), some (.null), none, none, none, none, none, none, none, none, none] [] [[(tl, .inl (g.2.1 6, cap, .inr (.inr (.inr (.inr tab)))))], l4_1, l4_2] 0 0 from ?_)
      refine g_pk [0, 1] rfl rfl ?_
      refine (show Go g κ 215 [some (.ref a), some (.ref tl), some (.ref rt), some (.null), none, none, none, none, none, none, none, none, none] [] [[(tl, .inl (g.2.1 6, cap, .inr (.inr (.inr (.inr tab)))))], l4_2] 0 0 from ?_)
      refine g_aload_n (q := 216) B dJ40_treeify_215 rfl rfl (rv_r _) ?_
      refine g_aload_n (q := 217) B dJ40_treeify_216 rfl rfl (rv_r _) ?_
      refine g_callS (q := 220) (is := [0, 0]) (kc2 := 0) (ks2 := 0) B [.ref tl, .ref rt] (ct_J40_moveRootToFront g J (tl := tl) (cap := cap) (tab := tab) (ix := ix) (cs := cs) (ns := n1) (hs := hs) (ky := ky) (vl := vl) (nx := nx) (pp := pp) (lf := lf) (rg := rg) (pv := pv) (rd := rd) (root := rt) hl4_2 (by first | assumption | omega | rfl) (by first | assumption | omega | rfl) (hix _ ((hM _).mp ((h1c _).mp hrm))) (by first | assumption | omega | rfl) (hrm) (by first | assumption | omega | rfl) (by first | assumption | omega | rfl) (by first | assumption | omega | rfl) (fun b => (h1c b).symm)) dJ40_treeify_217 rfl q1717 q1718 q131 q1719 rfl rfl moJ40_moveRootToFront rfl rfl (by decide) (by decide) (Nat.le_of_ble_eq_true rfl) (Nat.le_of_ble_eq_true rfl) (Nat.le_of_ble_eq_true rfl) (fun _ _ hx => noX_x hx) (fun v217 L1 hp217 => ?_)
      obtain ⟨nx2217, pv2217, u1_217, rfl, rfl, hu1_217, hC2_217⟩ := hp217
      refine (show Go g κ 220 [some (.ref a), some (.ref tl), some (.ref rt), some (.null), none, none, none, none, none, none, none, none, none] [] [[(tl, .inl (g.2.1 6, cap, .inr (.inr (.inr (.inr (va_up tab ix (some rt)))))))], u1_217] 0 0 from ?_)
      exact g_vret B E dJ40_treeify_220 (⟨n1, nx2217, pv2217, lf, rg, pp, rd, lo, hi, rt, rt :: cs.erase rt, _, rfl, rfl, hu1_217, fun b => (h1c b).trans (hM b), hT, hC2_217.1, hC2_217.2, (nd_front hN ((h1c _).mp hrm)).1, fun b => ((nd_front hN ((h1c _).mp hrm)).2 b).trans (h1c b).symm⟩)
    · skip
      subst c5
      obtain ⟨vt, hvs⟩ : ∃ vt, vs = y_a5 :: vt := by
        cases vs with
        | nil => exact absurd hCv (by simp [Ch])
        | cons z t => obtain ⟨e, -⟩ := hCv; cases e; exact ⟨t, rfl⟩
      subst hvs
      have hxm : y_a5 ∈ n2 := (h2m _).mpr List.mem_cons_self
      have hxc := hvc _ List.mem_cons_self
      have hxn : y_a5 ∉ n1 := fun e => ((h1m _).mp e).2 List.mem_cons_self
      have hCt := hCv.2
      obtain ⟨wu, hpu, hwu⟩ := TNG.drop hl4_1 hxm
      refine g_spl 1 rfl hpu rfl ?_
      refine (show Go g κ 8 [some (.ref a), some (.ref tl), some (va_rf ro), some (.ref y_a5), none, none, none, none, none, none, none, none, none] [] [[(tl, .inl (g.2.1 6, cap, .inr (.inr (.inr (.inr tab)))))], wu, l4_2, [(y_a5, .inr (25, [.null, .null, .int (hs y_a5), .ref (ky y_a5), .ref (vl y_a5), va_rf (nx y_a5), va_rf (pp0 y_a5), va_rf (lf0 y_a5), va_rf (rg0 y_a5), va_rf (pv y_a5), .int (nI (if rd0 y_a5 = true then 1 else 0))]))]] 0 0 from ?_)
      refine g_aload_n (q := 9) B dJ40_treeify_8 rfl rfl (rv_r _) ?_
      refine g_getS (q := 12) B (ci := 25) (k := 3) (j := 5) in_J40 rfl dJ40_treeify_9 rfl rfl (Nat.le_of_ble_eq_true rfl) q1690 q1691 rfl ?_
      have hcn := ch_head hCt
      rcases hnx : nx y_a5 with _ | z
      · skip
        refine (show Go g κ 12 [some (.ref a), some (.ref tl), some (va_rf ro), some (.ref y_a5), none, none, none, none, none, none, none, none, none] [.null] [[(tl, .inl (g.2.1 6, cap, .inr (.inr (.inr (.inr tab)))))], wu, l4_2, [(y_a5, .inr (25, [.null, .null, .int (hs y_a5), .ref (ky y_a5), .ref (vl y_a5), .null, va_rf (pp0 y_a5), va_rf (lf0 y_a5), va_rf (rg0 y_a5), va_rf (pv y_a5), .int (nI (if rd0 y_a5 = true then 1 else 0))]))]] 0 0 from ?_)
        refine g_castN (q := 15) B dJ40_treeify_12 rfl ?_
        refine g_astore (q := 17) (lv2 := [some (.ref a), some (.ref tl), some (va_rf ro), some (.ref y_a5), some (.null), none, none, none, none, none, none, none, none]) B dJ40_treeify_15 rfl (Nat.le_of_ble_eq_true rfl) rv_n rfl ?_
        refine g_aload_n (q := 18) B dJ40_treeify_17 rfl rfl (rv_r _) ?_
        refine g_aload_n (q := 19) B dJ40_treeify_18 rfl rfl (rv_r _) ?_
        refine g_aconst_null (q := 20) B dJ40_treeify_19 rfl ?_
        refine g_dup_x1 (q := 21) B dJ40_treeify_20 rfl rfl rfl ?_
        refine g_put (q := 24) (L2 := [[(tl, .inl (g.2.1 6, cap, .inr (.inr (.inr (.inr tab)))))], wu, l4_2, [(y_a5, .inr (25, [.null, .null, .int (hs y_a5), .ref (ky y_a5), .ref (vl y_a5), .null, va_rf (pp0 y_a5), va_rf (lf0 y_a5), .null, va_rf (pv y_a5), .int (nI (if rd0 y_a5 = true then 1 else 0))]))]]) B (ci := 25) (k := 3) (j := 8) in_J40 tyJ40 tyJ40_ok nmJ40 rfl dJ40_treeify_21 rfl rfl (Nat.le_of_ble_eq_true rfl) q1744 rfl rfl rfl rfl (Nat.le_of_ble_eq_true rfl) rfl ?_
        refine g_put (q := 27) (L2 := [[(tl, .inl (g.2.1 6, cap, .inr (.inr (.inr (.inr tab)))))], wu, l4_2, [(y_a5, .inr (25, [.null, .null, .int (hs y_a5), .ref (ky y_a5), .ref (vl y_a5), .null, va_rf (pp0 y_a5), .null, .null, va_rf (pv y_a5), .int (nI (if rd0 y_a5 = true then 1 else 0))]))]]) B (ci := 25) (k := 3) (j := 7) in_J40 tyJ40 tyJ40_ok nmJ40 rfl dJ40_treeify_24 rfl rfl (Nat.le_of_ble_eq_true rfl) q1743 rfl rfl rfl rfl (Nat.le_of_ble_eq_true rfl) rfl ?_
        refine g_aload_n (q := 28) B dJ40_treeify_27 rfl rfl (rv_o _) ?_
        refine g_ifnonnull_o (tgt := 46) (q := 31) B dJ40_treeify_28 rfl (by decide) (fun ro_a28 c28 => ?_) (fun c28 => ?_)
        · skip
          subst c28
          refine g_aload_n (q := 47) B dJ40_treeify_46 rfl rfl (rv_r _) ?_
          refine g_getS (q := 50) B (ci := 25) (k := 3) (j := 3) in_J40 rfl dJ40_treeify_47 rfl rfl (Nat.le_of_ble_eq_true rfl) q1682 q1683 rfl ?_
          refine g_astore (q := 52) (lv2 := [some (.ref a), some (.ref tl), some (.ref ro_a28), some (.ref y_a5), some (.null), some (.ref (ky y_a5)), none, none, none, none, none, none, none]) B dJ40_treeify_50 rfl (Nat.le_of_ble_eq_true rfl) (rv_r _) rfl ?_
          refine g_aload_n (q := 53) B dJ40_treeify_52 rfl rfl (rv_r _) ?_
          refine g_getS (q := 56) B (ci := 25) (k := 3) (j := 2) in_J40 rfl dJ40_treeify_53 rfl rfl (Nat.le_of_ble_eq_true rfl) q1677 q1678 rfl ?_
          refine g_istore (q := 58) (lv2 := [some (.ref a), some (.ref tl), some (.ref ro_a28), some (.ref y_a5), some (.null), some (.ref (ky y_a5)), some (.int (hs y_a5)), none, none, none, none, none, none]) B dJ40_treeify_56 rfl (Nat.le_of_ble_eq_true rfl) rfl ?_
          refine g_aconst_null (q := 59) B dJ40_treeify_58 rfl ?_
          refine g_astore (q := 61) (lv2 := [some (.ref a), some (.ref tl), some (.ref ro_a28), some (.ref y_a5), some (.null), some (.ref (ky y_a5)), some (.int (hs y_a5)), some (.null), none, none, none, none, none]) B dJ40_treeify_59 rfl (Nat.le_of_ble_eq_true rfl) rv_n rfl ?_
          refine g_aload_n (q := 62) B dJ40_treeify_61 rfl rfl (rv_r _) ?_
          refine g_astore (q := 64) (lv2 := [some (.ref a), some (.ref tl), some (.ref ro_a28), some (.ref y_a5), some (.null), some (.ref (ky y_a5)), some (.int (hs y_a5)), some (.null), some (.ref ro_a28), none, none, none, none]) B dJ40_treeify_62 rfl (Nat.le_of_ble_eq_true rfl) (rv_r _) rfl ?_
          have lp64 : ∀ (n64 : Nat) (p : Nat) , (p ∈ n1) → (Pk n1 lo hi (hrk (hs y_a5)) p) → wid lo hi (some p) = n64 → Go g κ 64 [some (.ref a), some (.ref tl), some (.ref ro_a28), some (.ref y_a5), some (.null), some (.ref (ky y_a5)), some (.int (hs y_a5)), some (.null), some (.ref p), none, none, none, none] [] [[(tl, .inl (g.2.1 6, cap, .inr (.inr (.inr (.inr tab)))))], wu, l4_2, [(y_a5, .inr (25, [.null, .null, .int (hs y_a5), .ref (ky y_a5), .ref (vl y_a5), .null, va_rf (pp0 y_a5), .null, .null, va_rf (pv y_a5), .int (nI (if rd0 y_a5 = true then 1 else 0))]))]] 0 0 := by
            intro n64
            induction n64 using Nat.strongRecOn with
            | _ n64 ih64 =>
            intro p  hp0 hp hmu64
            refine g_aload (q := 66) B dJ40_treeify_64 rfl rfl (rv_r _) ?_
            refine g_getSM (v := .ref (ky p)) (q := 69) B (ci := 25) (k := 2) (j := 3) in_J40 rfl dJ40_treeify_66 rfl rfl (TNG.mem hl4_2 hp0) (Nat.le_of_ble_eq_true rfl) q1682 q1683 rfl ?_
            refine g_astore (q := 71) (lv2 := [some (.ref a), some (.ref tl), some (.ref ro_a28), some (.ref y_a5), some (.null), some (.ref (ky y_a5)), some (.int (hs y_a5)), some (.null), some (.ref p), none, none, some (.ref (ky p)), none]) B dJ40_treeify_69 rfl (Nat.le_of_ble_eq_true rfl) (rv_r _) rfl ?_
            refine g_aload (q := 73) B dJ40_treeify_71 rfl rfl (rv_r _) ?_
            refine g_getSM (v := .int (hs p)) (q := 76) B (ci := 25) (k := 2) (j := 2) in_J40 rfl dJ40_treeify_73 rfl rfl (TNG.mem hl4_2 hp0) (Nat.le_of_ble_eq_true rfl) q1677 q1678 rfl ?_
            refine g_dup (q := 77) B dJ40_treeify_76 rfl rfl ?_
            refine g_istore (q := 79) (lv2 := [some (.ref a), some (.ref tl), some (.ref ro_a28), some (.ref y_a5), some (.null), some (.ref (ky y_a5)), some (.int (hs y_a5)), some (.null), some (.ref p), none, some (.int (hs p)), some (.ref (ky p)), none]) B dJ40_treeify_77 rfl (Nat.le_of_ble_eq_true rfl) rfl ?_
            refine g_iload (q := 81) B dJ40_treeify_79 rfl rfl ?_
            refine g_icmp_le (tgt := 90) (q := 84) B dJ40_treeify_81 rfl (by decide) (Iff.rfl) (fun c81 => ?_) (fun c81 => ?_)
            · skip
              refine g_iload (q := 92) B dJ40_treeify_90 rfl rfl ?_
              refine g_iload (q := 94) B dJ40_treeify_92 rfl rfl ?_
              refine g_icmp_ge (tgt := 103) (q := 97) B dJ40_treeify_94 rfl (by decide) (Iff.rfl) (fun c94 => ?_) (fun c94 => ?_)
              · skip
                exact absurd (hij p ((hM p).mp ((h1m p).mp hp0).1) y_a5 ((hM _).mp hxc) (Int32.le_antisymm c81 (by simpa using c94))) (fun e => hxn (e ▸ hp0))
              · skip
                refine g_iconst (v := nI 1) (q := 98) B dJ40_treeify_97 rfl (by decide) ?_
                refine g_istore (q := 100) (lv2 := [some (.ref a), some (.ref tl), some (.ref ro_a28), some (.ref y_a5), some (.null), some (.ref (ky y_a5)), some (.int (hs y_a5)), some (.null), some (.ref p), some (.int (nI 1)), some (.int (hs p)), some (.ref (ky p)), none]) B dJ40_treeify_98 rfl (Nat.le_of_ble_eq_true rfl) rfl ?_
                refine g_goto (tgt := 143) B dJ40_treeify_100 (by decide) ?_
                refine g_aload (q := 145) B dJ40_treeify_143 rfl rfl (rv_r _) ?_
                refine g_astore (q := 147) (lv2 := [some (.ref a), some (.ref tl), some (.ref ro_a28), some (.ref y_a5), some (.null), some (.ref (ky y_a5)), some (.int (hs y_a5)), some (.null), some (.ref p), some (.int (nI 1)), some (.int (hs p)), some (.ref (ky p)), some (.ref p)]) B dJ40_treeify_145 rfl (Nat.le_of_ble_eq_true rfl) (rv_r _) rfl ?_
                refine g_iload (q := 149) B dJ40_treeify_147 rfl rfl ?_
                refine g_if_gt (tgt := 160) (q := 152) B dJ40_treeify_149 rfl (by decide) (iff_true_intro (by decide)) (fun _ => ?_) (fun z => absurd trivial z)
                refine g_aload (q := 162) B dJ40_treeify_160 rfl rfl (rv_r _) ?_
                refine g_getM (v := va_rf (rg p)) (q := 165) B (ci := 25) (k := 2) (j := 8) in_J40 rfl dJ40_treeify_162 rfl rfl (TNG.mem hl4_2 hp0) (Nat.le_of_ble_eq_true rfl) q1744 rfl rfl ?_
                refine g_dup (q := 166) B dJ40_treeify_165 rfl (rv_c (rv_o _)) ?_
                refine g_astore (q := 168) (lv2 := [some (.ref a), some (.ref tl), some (.ref ro_a28), some (.ref y_a5), some (.null), some (.ref (ky y_a5)), some (.int (hs y_a5)), some (.null), some (va_rf (rg p)), some (.int (nI 1)), some (.int (hs p)), some (.ref (ky p)), some (.ref p)]) B dJ40_treeify_166 rfl (Nat.le_of_ble_eq_true rfl) (rv_o _) rfl ?_
                refine g_ifnonnull_o (tgt := 206) (q := 171) B dJ40_treeify_168 rfl (by decide) (fun rgp_a168 c168 => ?_) (fun c168 => ?_)
                · skip
                  rw [c168]
                  refine (show Go g κ 206 [some (.ref a), some (.ref tl), some (.ref ro_a28), some (.ref y_a5), some (.null), some (.ref (ky y_a5)), some (.int (hs y_a5)), some (.null), some (.ref rgp_a168), some (.int (nI 1)), some (.int (hs p)), some (.ref (ky p)), some (.ref p)] [] [[(tl, .inl (g.2.1 6, cap, .inr (.inr (.inr (.inr tab)))))], wu, l4_2, [(y_a5, .inr (25, [.null, .null, .int (hs y_a5), .ref (ky y_a5), .ref (vl y_a5), .null, va_rf (pp0 y_a5), .null, .null, va_rf (pv y_a5), .int (nI (if rd0 y_a5 = true then 1 else 0))]))]] 0 0 from ?_)
                  refine g_goto (tgt := 64) B dJ40_treeify_206 (by decide) ?_
                  refine g_fg 9 rfl ?_
                  refine g_fg 10 rfl ?_
                  refine g_fg 11 rfl ?_
                  refine g_fg 12 rfl ?_
                  exact ih64 _ (by rw [← hmu64, ← c168]; first | exact wid_l hT hp0 | exact wid_r hT hp0) rgp_a168 (tr_rm hT hp0 c168) (by have z := hT.2.2.2.2.2.1 p hp0 _ c168; have z2 := (not_congr hrk_le).mp c94; exact ⟨z.1, by rw [z.2.2.1]; show hrk (hs p) + 1 ≤ hrk (hs y_a5); omega, by rw [z.2.2.2]; exact hp.2.2⟩) rfl
                · skip
                  rw [c168]
                  refine (show Go g κ 171 [some (.ref a), some (.ref tl), some (.ref ro_a28), some (.ref y_a5), some (.null), some (.ref (ky y_a5)), some (.int (hs y_a5)), some (.null), some (.null), some (.int (nI 1)), some (.int (hs p)), some (.ref (ky p)), some (.ref p)] [] [[(tl, .inl (g.2.1 6, cap, .inr (.inr (.inr (.inr tab)))))], wu, l4_2, [(y_a5, .inr (25, [.null, .null, .int (hs y_a5), .ref (ky y_a5), .ref (vl y_a5), .null, va_rf (pp0 y_a5), .null, .null, va_rf (pv y_a5), .int (nI (if rd0 y_a5 = true then 1 else 0))]))]] 0 0 from ?_)
                  have hrm : ro_a28 ∈ n1 := tr_tm hT rfl
                  have hjn := TNG.cons (x5 := nx y_a5) (x9 := pv y_a5) (x10 := (rd0 y_a5)) (x6 := (pp0 y_a5)) (x7 := none) (x8 := none) (x2 := hs y_a5) (x3 := ky y_a5) (x4 := vl y_a5) hl4_2 hxn
                  simp only [fup_id] at hjn
                  obtain ⟨wj_1, ewj_1⟩ : ∃ w : va_W, w = ([[(y_a5, .inr (25, [.null, .null, .int (hs y_a5), .ref (ky y_a5), .ref (vl y_a5), .null, va_rf (pp0 y_a5), .null, .null, va_rf (pv y_a5), .int (nI (if rd0 y_a5 = true then 1 else 0))]))], l4_2] : List va_W).flatten := ⟨_, rfl⟩
                  have hwj_1 : TNG g (y_a5 :: n1) hs ky vl nx (fup pp y_a5 (pp0 y_a5)) (fup lf y_a5 none) (fup rg y_a5 none) pv (fup rd y_a5 (rd0 y_a5)) wj_1 := by
                    rw [ewj_1]
                    have hjn := hjn
                    rw [hnx] at hjn
                    exact hjn
                  refine g_close (w := wj_1) [3, 2] rfl ewj_1 rfl ?_
                  refine (show Go g κ 171 [some (.ref a), some (.ref tl), some (.ref ro_a28), some (.ref y_a5), some (.null), some (.ref (ky y_a5)), some (.int (hs y_a5)), some (.null), some (.null), some (.int (nI 1)), some (.int (hs p)), some (.ref (ky p)), some (.ref p)] [] [[(tl, .inl (g.2.1 6, cap, .inr (.inr (.inr (.inr tab)))))], wu, wj_1] 0 0 from ?_)
                  refine g_aload_n (q := 172) B dJ40_treeify_171 rfl rfl (rv_r _) ?_
                  refine g_aload (q := 174) B dJ40_treeify_172 rfl rfl (rv_r _) ?_
                  refine g_putTNG6 (q := 177) (k := 2) (x := some p) B hwj_1 List.mem_cons_self dJ40_treeify_174 rfl rfl q1742 (Or.inl rfl) (fun wa_2_174 hwa_2_174 => ?_)
                  refine (show Go g κ 177 [some (.ref a), some (.ref tl), some (.ref ro_a28), some (.ref y_a5), some (.null), some (.ref (ky y_a5)), some (.int (hs y_a5)), some (.null), some (.null), some (.int (nI 1)), some (.int (hs p)), some (.ref (ky p)), some (.ref p)] [] [[(tl, .inl (g.2.1 6, cap, .inr (.inr (.inr (.inr tab)))))], wu, wa_2_174] 0 0 from ?_)
                  refine g_iload (q := 179) B dJ40_treeify_177 rfl rfl ?_
                  refine g_if_gt (tgt := 191) (q := 182) B dJ40_treeify_179 rfl (by decide) (iff_true_intro (by decide)) (fun _ => ?_) (fun z => absurd trivial z)
                  refine g_aload (q := 193) B dJ40_treeify_191 rfl rfl (rv_r _) ?_
                  refine g_aload_n (q := 194) B dJ40_treeify_193 rfl rfl (rv_r _) ?_
                  refine g_putTNG8 (q := 197) (k := 2) (x := some y_a5) B hwa_2_174 (List.mem_cons_of_mem _ hp0) dJ40_treeify_194 rfl rfl q1744 (Or.inl rfl) (fun wa_3_194 hwa_3_194 => ?_)
                  refine (show Go g κ 197 [some (.ref a), some (.ref tl), some (.ref ro_a28), some (.ref y_a5), some (.null), some (.ref (ky y_a5)), some (.int (hs y_a5)), some (.null), some (.null), some (.int (nI 1)), some (.int (hs p)), some (.ref (ky p)), some (.ref p)] [] [[(tl, .inl (g.2.1 6, cap, .inr (.inr (.inr (.inr tab)))))], wu, wa_3_194] 0 0 from ?_)
                  have hTn := tr_insR hT hxn hp0 c168 (by show hrk (hs p) < hrk (hs y_a5); have := (not_congr hrk_le).mp c94; omega) hp.2.2
                  rw [hk_fup, fup_id] at hTn
                  have hfi : TNG g (y_a5 :: n1) hs ky vl nx (fup pp y_a5 (some p)) (fup lf y_a5 none) (fup (fup rg y_a5 none) p (some y_a5)) pv (fup rd y_a5 (rd0 y_a5)) wa_3_194 := TNG.congr hwa_3_194 (fun e he => ⟨rfl, rfl, rfl, rfl, by rw [fup_fup], rfl, rfl, rfl, rfl⟩)
                  refine g_aload_n (q := 198) B dJ40_treeify_197 rfl rfl (rv_r _) ?_
                  refine g_aload_n (q := 199) B dJ40_treeify_198 rfl rfl (rv_r _) ?_
                  refine g_callS (q := 202) (is := [2]) (kc2 := 0) (ks2 := 0) B [.ref ro_a28, .ref y_a5] (ct_J40_balanceInsertion g J (ns := (y_a5 :: n1)) (hs := hs) (ky := ky) (vl := vl) (nx := nx) (pp := (fup pp y_a5 (some p))) (lf := (fup lf y_a5 none)) (rg := (fup (fup rg y_a5 none) p (some y_a5))) (pv := pv) (rd := (fup rd y_a5 (rd0 y_a5))) (key := (fun a => hrk (hs a))) (lo := _) (hi := _) (root := ro_a28) (x := y_a5) hfi (hTn) (List.mem_cons_self)) dJ40_treeify_199 rfl q1708 q1709 q131 q1710 rfl rfl moJ40_balanceInsertion rfl rfl (by decide) (by decide) (Nat.le_of_ble_eq_true rfl) (Nat.le_of_ble_eq_true rfl) (Nat.le_of_ble_eq_true rfl) (fun _ _ hx => noX_x hx) (fun v199 L1 hp199 => ?_)
                  obtain ⟨root2199, lf2199, rg2199, pp2199, rd2199, lo2199, hi2199, u0_199, rfl, rfl, hu0_199, hT2_199⟩ := hp199
                  refine (show Go g κ 202 [some (.ref a), some (.ref tl), some (.ref ro_a28), some (.ref y_a5), some (.null), some (.ref (ky y_a5)), some (.int (hs y_a5)), some (.null), some (.null), some (.int (nI 1)), some (.int (hs p)), some (.ref (ky p)), some (.ref p)] [.ref root2199] [[(tl, .inl (g.2.1 6, cap, .inr (.inr (.inr (.inr tab)))))], wu, u0_199] 0 0 from ?_)
                  refine g_astore_n (q := 203) (lv2 := [some (.ref a), some (.ref tl), some (.ref root2199), some (.ref y_a5), some (.null), some (.ref (ky y_a5)), some (.int (hs y_a5)), some (.null), some (.null), some (.int (nI 1)), some (.int (hs p)), some (.ref (ky p)), some (.ref p)]) B dJ40_treeify_202 rfl (Nat.le_of_ble_eq_true rfl) (rv_r _) rfl ?_
                  refine g_goto (tgt := 209) B dJ40_treeify_203 (by decide) ?_
                  refine g_aload (q := 211) B dJ40_treeify_209 rfl rfl rv_n ?_
                  refine g_astore_n (q := 212) (lv2 := [some (.ref a), some (.ref tl), some (.ref root2199), some (.null), some (.null), some (.ref (ky y_a5)), some (.int (hs y_a5)), some (.null), some (.null), some (.int (nI 1)), some (.int (hs p)), some (.ref (ky p)), some (.ref p)]) B dJ40_treeify_211 rfl (Nat.le_of_ble_eq_true rfl) rv_n rfl ?_
                  refine g_goto (tgt := 4) B dJ40_treeify_212 (by decide) ?_
                  refine g_fg 4 rfl ?_
                  refine g_fg 5 rfl ?_
                  refine g_fg 6 rfl ?_
                  refine g_fg 7 rfl ?_
                  refine g_fg 8 rfl ?_
                  refine g_fg 9 rfl ?_
                  refine g_fg 10 rfl ?_
                  refine g_fg 11 rfl ?_
                  refine g_fg 12 rfl ?_
                  exact ih4 _ (by rw [← hmu4]; simp) (y_a5 :: n1) vt none (n2.erase y_a5) pp2199 lf2199 rg2199 rd2199 _ _ (some root2199) wu u0_199 hwu hu0_199 (hT2_199) (by rw [← hnx]; exact hCt) ((List.nodup_cons.mp hNv).2) (fun a => by
                      rw [List.mem_cons, h1m a]
                      have hz := (List.nodup_cons.mp hNv).1
                      constructor
                      · rintro (rfl | ⟨h1, h2⟩)
                        · exact ⟨hxc, hz⟩
                        · exact ⟨h1, fun e => h2 (List.mem_cons_of_mem _ e)⟩
                      · rintro ⟨h1, h2⟩
                        by_cases e : a = y_a5
                        · exact Or.inl e
                        · exact Or.inr ⟨h1, fun q => (List.mem_cons.mp q).elim e h2⟩) (er_mem hl4_1.1 h2m hNv) (fun a ha => hvc a (List.mem_cons_of_mem _ ha)) rfl
            · skip
              refine g_iconst (v := -1) (q := 85) B dJ40_treeify_84 rfl (by decide) ?_
              refine g_istore (q := 87) (lv2 := [some (.ref a), some (.ref tl), some (.ref ro_a28), some (.ref y_a5), some (.null), some (.ref (ky y_a5)), some (.int (hs y_a5)), some (.null), some (.ref p), some (.int (-1)), some (.int (hs p)), some (.ref (ky p)), none]) B dJ40_treeify_85 rfl (Nat.le_of_ble_eq_true rfl) rfl ?_
              refine g_goto (tgt := 143) B dJ40_treeify_87 (by decide) ?_
              refine g_aload (q := 145) B dJ40_treeify_143 rfl rfl (rv_r _) ?_
              refine g_astore (q := 147) (lv2 := [some (.ref a), some (.ref tl), some (.ref ro_a28), some (.ref y_a5), some (.null), some (.ref (ky y_a5)), some (.int (hs y_a5)), some (.null), some (.ref p), some (.int (-1)), some (.int (hs p)), some (.ref (ky p)), some (.ref p)]) B dJ40_treeify_145 rfl (Nat.le_of_ble_eq_true rfl) (rv_r _) rfl ?_
              refine g_iload (q := 149) B dJ40_treeify_147 rfl rfl ?_
              refine g_if_gt (tgt := 160) (q := 152) B dJ40_treeify_149 rfl (by decide) (iff_false_intro (by decide)) (fun z => z.elim) (fun _ => ?_)
              refine g_aload (q := 154) B dJ40_treeify_152 rfl rfl (rv_r _) ?_
              refine g_getM (v := va_rf (lf p)) (q := 157) B (ci := 25) (k := 2) (j := 7) in_J40 rfl dJ40_treeify_154 rfl rfl (TNG.mem hl4_2 hp0) (Nat.le_of_ble_eq_true rfl) q1743 rfl rfl ?_
              refine g_goto (tgt := 165) B dJ40_treeify_157 (by decide) ?_
              refine g_dup (q := 166) B dJ40_treeify_165 rfl (rv_c (rv_o _)) ?_
              refine g_astore (q := 168) (lv2 := [some (.ref a), some (.ref tl), some (.ref ro_a28), some (.ref y_a5), some (.null), some (.ref (ky y_a5)), some (.int (hs y_a5)), some (.null), some (va_rf (lf p)), some (.int (-1)), some (.int (hs p)), some (.ref (ky p)), some (.ref p)]) B dJ40_treeify_166 rfl (Nat.le_of_ble_eq_true rfl) (rv_o _) rfl ?_
              refine g_ifnonnull_o (tgt := 206) (q := 171) B dJ40_treeify_168 rfl (by decide) (fun lfp_a168 c168 => ?_) (fun c168 => ?_)
              · skip
                rw [c168]
                refine (show Go g κ 206 [some (.ref a), some (.ref tl), some (.ref ro_a28), some (.ref y_a5), some (.null), some (.ref (ky y_a5)), some (.int (hs y_a5)), some (.null), some (.ref lfp_a168), some (.int (-1)), some (.int (hs p)), some (.ref (ky p)), some (.ref p)] [] [[(tl, .inl (g.2.1 6, cap, .inr (.inr (.inr (.inr tab)))))], wu, l4_2, [(y_a5, .inr (25, [.null, .null, .int (hs y_a5), .ref (ky y_a5), .ref (vl y_a5), .null, va_rf (pp0 y_a5), .null, .null, va_rf (pv y_a5), .int (nI (if rd0 y_a5 = true then 1 else 0))]))]] 0 0 from ?_)
                refine g_goto (tgt := 64) B dJ40_treeify_206 (by decide) ?_
                refine g_fg 9 rfl ?_
                refine g_fg 10 rfl ?_
                refine g_fg 11 rfl ?_
                refine g_fg 12 rfl ?_
                exact ih64 _ (by rw [← hmu64, ← c168]; first | exact wid_l hT hp0 | exact wid_r hT hp0) lfp_a168 (tr_lm hT hp0 c168) (by have z := hT.2.2.2.1 p hp0 _ c168; have z2 := (not_congr hrk_le).mp c81; exact ⟨z.1, by rw [z.2.2.1]; exact hp.2.1, by rw [z.2.2.2]; show hrk (hs y_a5) < hrk (hs p); omega⟩) rfl
              · skip
                rw [c168]
                refine (show Go g κ 171 [some (.ref a), some (.ref tl), some (.ref ro_a28), some (.ref y_a5), some (.null), some (.ref (ky y_a5)), some (.int (hs y_a5)), some (.null), some (.null), some (.int (-1)), some (.int (hs p)), some (.ref (ky p)), some (.ref p)] [] [[(tl, .inl (g.2.1 6, cap, .inr (.inr (.inr (.inr tab)))))], wu, l4_2, [(y_a5, .inr (25, [.null, .null, .int (hs y_a5), .ref (ky y_a5), .ref (vl y_a5), .null, va_rf (pp0 y_a5), .null, .null, va_rf (pv y_a5), .int (nI (if rd0 y_a5 = true then 1 else 0))]))]] 0 0 from ?_)
                have hrm : ro_a28 ∈ n1 := tr_tm hT rfl
                have hjn := TNG.cons (x5 := nx y_a5) (x9 := pv y_a5) (x10 := (rd0 y_a5)) (x6 := (pp0 y_a5)) (x7 := none) (x8 := none) (x2 := hs y_a5) (x3 := ky y_a5) (x4 := vl y_a5) hl4_2 hxn
                simp only [fup_id] at hjn
                obtain ⟨wj_4, ewj_4⟩ : ∃ w : va_W, w = ([[(y_a5, .inr (25, [.null, .null, .int (hs y_a5), .ref (ky y_a5), .ref (vl y_a5), .null, va_rf (pp0 y_a5), .null, .null, va_rf (pv y_a5), .int (nI (if rd0 y_a5 = true then 1 else 0))]))], l4_2] : List va_W).flatten := ⟨_, rfl⟩
                have hwj_4 : TNG g (y_a5 :: n1) hs ky vl nx (fup pp y_a5 (pp0 y_a5)) (fup lf y_a5 none) (fup rg y_a5 none) pv (fup rd y_a5 (rd0 y_a5)) wj_4 := by
                  rw [ewj_4]
                  have hjn := hjn
                  rw [hnx] at hjn
                  exact hjn
                refine g_close (w := wj_4) [3, 2] rfl ewj_4 rfl ?_
                refine (show Go g κ 171 [some (.ref a), some (.ref tl), some (.ref ro_a28), some (.ref y_a5), some (.null), some (.ref (ky y_a5)), some (.int (hs y_a5)), some (.null), some (.null), some (.int (-1)), some (.int (hs p)), some (.ref (ky p)), some (.ref p)] [] [[(tl, .inl (g.2.1 6, cap, .inr (.inr (.inr (.inr tab)))))], wu, wj_4] 0 0 from ?_)
                refine g_aload_n (q := 172) B dJ40_treeify_171 rfl rfl (rv_r _) ?_
                refine g_aload (q := 174) B dJ40_treeify_172 rfl rfl (rv_r _) ?_
                refine g_putTNG6 (q := 177) (k := 2) (x := some p) B hwj_4 List.mem_cons_self dJ40_treeify_174 rfl rfl q1742 (Or.inl rfl) (fun wa_5_174 hwa_5_174 => ?_)
                refine (show Go g κ 177 [some (.ref a), some (.ref tl), some (.ref ro_a28), some (.ref y_a5), some (.null), some (.ref (ky y_a5)), some (.int (hs y_a5)), some (.null), some (.null), some (.int (-1)), some (.int (hs p)), some (.ref (ky p)), some (.ref p)] [] [[(tl, .inl (g.2.1 6, cap, .inr (.inr (.inr (.inr tab)))))], wu, wa_5_174] 0 0 from ?_)
                refine g_iload (q := 179) B dJ40_treeify_177 rfl rfl ?_
                refine g_if_gt (tgt := 191) (q := 182) B dJ40_treeify_179 rfl (by decide) (iff_false_intro (by decide)) (fun z => z.elim) (fun _ => ?_)
                refine g_aload (q := 184) B dJ40_treeify_182 rfl rfl (rv_r _) ?_
                refine g_aload_n (q := 185) B dJ40_treeify_184 rfl rfl (rv_r _) ?_
                refine g_putTNG7 (q := 188) (k := 2) (x := some y_a5) B hwa_5_174 (List.mem_cons_of_mem _ hp0) dJ40_treeify_185 rfl rfl q1743 (Or.inl rfl) (fun wa_6_185 hwa_6_185 => ?_)
                refine (show Go g κ 188 [some (.ref a), some (.ref tl), some (.ref ro_a28), some (.ref y_a5), some (.null), some (.ref (ky y_a5)), some (.int (hs y_a5)), some (.null), some (.null), some (.int (-1)), some (.int (hs p)), some (.ref (ky p)), some (.ref p)] [] [[(tl, .inl (g.2.1 6, cap, .inr (.inr (.inr (.inr tab)))))], wu, wa_6_185] 0 0 from ?_)
                refine g_goto (tgt := 197) B dJ40_treeify_188 (by decide) ?_
                have hTn := tr_insL hT hxn hp0 c168 hp.2.1 (by show hrk (hs y_a5) < hrk (hs p); have := (not_congr hrk_le).mp c81; omega)
                rw [hk_fup, fup_id] at hTn
                have hfi : TNG g (y_a5 :: n1) hs ky vl nx (fup pp y_a5 (some p)) (fup (fup lf y_a5 none) p (some y_a5)) (fup rg y_a5 none) pv (fup rd y_a5 (rd0 y_a5)) wa_6_185 := TNG.congr hwa_6_185 (fun e he => ⟨rfl, rfl, rfl, rfl, by rw [fup_fup], rfl, rfl, rfl, rfl⟩)
                refine g_aload_n (q := 198) B dJ40_treeify_197 rfl rfl (rv_r _) ?_
                refine g_aload_n (q := 199) B dJ40_treeify_198 rfl rfl (rv_r _) ?_
                refine g_callS (q := 202) (is := [2]) (kc2 := 0) (ks2 := 0) B [.ref ro_a28, .ref y_a5] (ct_J40_balanceInsertion g J (ns := (y_a5 :: n1)) (hs := hs) (ky := ky) (vl := vl) (nx := nx) (pp := (fup pp y_a5 (some p))) (lf := (fup (fup lf y_a5 none) p (some y_a5))) (rg := (fup rg y_a5 none)) (pv := pv) (rd := (fup rd y_a5 (rd0 y_a5))) (key := (fun a => hrk (hs a))) (lo := _) (hi := _) (root := ro_a28) (x := y_a5) hfi (hTn) (List.mem_cons_self)) dJ40_treeify_199 rfl q1708 q1709 q131 q1710 rfl rfl moJ40_balanceInsertion rfl rfl (by decide) (by decide) (Nat.le_of_ble_eq_true rfl) (Nat.le_of_ble_eq_true rfl) (Nat.le_of_ble_eq_true rfl) (fun _ _ hx => noX_x hx) (fun v199 L1 hp199 => ?_)
                obtain ⟨root2199, lf2199, rg2199, pp2199, rd2199, lo2199, hi2199, u0_199, rfl, rfl, hu0_199, hT2_199⟩ := hp199
                refine (show Go g κ 202 [some (.ref a), some (.ref tl), some (.ref ro_a28), some (.ref y_a5), some (.null), some (.ref (ky y_a5)), some (.int (hs y_a5)), some (.null), some (.null), some (.int (-1)), some (.int (hs p)), some (.ref (ky p)), some (.ref p)] [.ref root2199] [[(tl, .inl (g.2.1 6, cap, .inr (.inr (.inr (.inr tab)))))], wu, u0_199] 0 0 from ?_)
                refine g_astore_n (q := 203) (lv2 := [some (.ref a), some (.ref tl), some (.ref root2199), some (.ref y_a5), some (.null), some (.ref (ky y_a5)), some (.int (hs y_a5)), some (.null), some (.null), some (.int (-1)), some (.int (hs p)), some (.ref (ky p)), some (.ref p)]) B dJ40_treeify_202 rfl (Nat.le_of_ble_eq_true rfl) (rv_r _) rfl ?_
                refine g_goto (tgt := 209) B dJ40_treeify_203 (by decide) ?_
                refine g_aload (q := 211) B dJ40_treeify_209 rfl rfl rv_n ?_
                refine g_astore_n (q := 212) (lv2 := [some (.ref a), some (.ref tl), some (.ref root2199), some (.null), some (.null), some (.ref (ky y_a5)), some (.int (hs y_a5)), some (.null), some (.null), some (.int (-1)), some (.int (hs p)), some (.ref (ky p)), some (.ref p)]) B dJ40_treeify_211 rfl (Nat.le_of_ble_eq_true rfl) rv_n rfl ?_
                refine g_goto (tgt := 4) B dJ40_treeify_212 (by decide) ?_
                refine g_fg 4 rfl ?_
                refine g_fg 5 rfl ?_
                refine g_fg 6 rfl ?_
                refine g_fg 7 rfl ?_
                refine g_fg 8 rfl ?_
                refine g_fg 9 rfl ?_
                refine g_fg 10 rfl ?_
                refine g_fg 11 rfl ?_
                refine g_fg 12 rfl ?_
                exact ih4 _ (by rw [← hmu4]; simp) (y_a5 :: n1) vt none (n2.erase y_a5) pp2199 lf2199 rg2199 rd2199 _ _ (some root2199) wu u0_199 hwu hu0_199 (hT2_199) (by rw [← hnx]; exact hCt) ((List.nodup_cons.mp hNv).2) (fun a => by
                    rw [List.mem_cons, h1m a]
                    have hz := (List.nodup_cons.mp hNv).1
                    constructor
                    · rintro (rfl | ⟨h1, h2⟩)
                      · exact ⟨hxc, hz⟩
                      · exact ⟨h1, fun e => h2 (List.mem_cons_of_mem _ e)⟩
                    · rintro ⟨h1, h2⟩
                      by_cases e : a = y_a5
                      · exact Or.inl e
                      · exact Or.inr ⟨h1, fun q => (List.mem_cons.mp q).elim e h2⟩) (er_mem hl4_1.1 h2m hNv) (fun a ha => hvc a (List.mem_cons_of_mem _ ha)) rfl
          exact lp64 _ ro_a28 (tr_tm hT rfl) (by have z := hT.2.2.2.2.2.2.2.2.2 _ rfl; exact ⟨z.1, by omega, by rw [z.2.2.2]; exact hrk_lt _⟩) rfl
        · skip
          subst c28
          refine g_aload_n (q := 32) B dJ40_treeify_31 rfl rfl (rv_r _) ?_
          refine g_aconst_null (q := 33) B dJ40_treeify_32 rfl ?_
          refine g_put (q := 36) (L2 := [[(tl, .inl (g.2.1 6, cap, .inr (.inr (.inr (.inr tab)))))], wu, l4_2, [(y_a5, .inr (25, [.null, .null, .int (hs y_a5), .ref (ky y_a5), .ref (vl y_a5), .null, .null, .null, .null, va_rf (pv y_a5), .int (nI (if rd0 y_a5 = true then 1 else 0))]))]]) B (ci := 25) (k := 3) (j := 6) in_J40 tyJ40 tyJ40_ok nmJ40 rfl dJ40_treeify_33 rfl rfl (Nat.le_of_ble_eq_true rfl) q1742 rfl rfl rfl rfl (Nat.le_of_ble_eq_true rfl) rfl ?_
          refine g_aload_n (q := 37) B dJ40_treeify_36 rfl rfl (rv_r _) ?_
          refine g_iconst (v := nI 0) (q := 38) B dJ40_treeify_37 rfl (by decide) ?_
          refine g_put (q := 41) (L2 := [[(tl, .inl (g.2.1 6, cap, .inr (.inr (.inr (.inr tab)))))], wu, l4_2, [(y_a5, .inr (25, [.null, .null, .int (hs y_a5), .ref (ky y_a5), .ref (vl y_a5), .null, .null, .null, .null, va_rf (pv y_a5), .int (nI 0)]))]]) B (ci := 25) (k := 3) (j := 10) in_J40 tyJ40 tyJ40_ok nmJ40 rfl dJ40_treeify_38 rfl rfl (Nat.le_of_ble_eq_true rfl) q1747 rfl rfl rfl rfl (Nat.le_of_ble_eq_true rfl) rfl ?_
          refine g_aload_n (q := 42) B dJ40_treeify_41 rfl rfl (rv_r _) ?_
          refine g_astore_n (q := 43) (lv2 := [some (.ref a), some (.ref tl), some (.ref y_a5), some (.ref y_a5), some (.null), none, none, none, none, none, none, none, none]) B dJ40_treeify_42 rfl (Nat.le_of_ble_eq_true rfl) (rv_r _) rfl ?_
          have hn1 : n1 = [] := hT.2.2.2.2.2.2.2.2.1 rfl
          have hTo : Tr (y_a5 :: n1) (fun a => hrk (hs a)) (fup lf y_a5 none) (fup rg y_a5 none) (fup pp y_a5 none) (fun _ => 0) (fun _ => 4294967296) (some y_a5) 4294967296 := by rw [hn1]; exact tr_1 (hrk_lt _) (fup_s _ _ _) (fup_s _ _ _) (fup_s _ _ _)
          have hjn := TNG.cons (x5 := nx y_a5) (x9 := pv y_a5) (x10 := false) (x6 := none) (x7 := none) (x8 := none) (x2 := hs y_a5) (x3 := ky y_a5) (x4 := vl y_a5) hl4_2 hxn
          simp only [fup_id] at hjn
          obtain ⟨wj_7, ewj_7⟩ : ∃ w : va_W, w = ([[(y_a5, .inr (25, [.null, .null, .int (hs y_a5), .ref (ky y_a5), .ref (vl y_a5), .null, .null, .null, .null, va_rf (pv y_a5), .int (nI 0)]))], l4_2] : List va_W).flatten := ⟨_, rfl⟩
          have hwj_7 : TNG g (y_a5 :: n1) hs ky vl nx (fup pp y_a5 none) (fup lf y_a5 none) (fup rg y_a5 none) pv (fup rd y_a5 false) wj_7 := by
            rw [ewj_7]
            have hjn := hjn
            rw [hnx] at hjn
            exact hjn
          refine g_close (w := wj_7) [3, 2] rfl ewj_7 rfl ?_
          refine (show Go g κ 43 [some (.ref a), some (.ref tl), some (.ref y_a5), some (.ref y_a5), some (.null), none, none, none, none, none, none, none, none] [] [[(tl, .inl (g.2.1 6, cap, .inr (.inr (.inr (.inr tab)))))], wu, wj_7] 0 0 from ?_)
          refine g_goto (tgt := 209) B dJ40_treeify_43 (by decide) ?_
          refine g_aload (q := 211) B dJ40_treeify_209 rfl rfl rv_n ?_
          refine g_astore_n (q := 212) (lv2 := [some (.ref a), some (.ref tl), some (.ref y_a5), some (.null), some (.null), none, none, none, none, none, none, none, none]) B dJ40_treeify_211 rfl (Nat.le_of_ble_eq_true rfl) rv_n rfl ?_
          refine g_goto (tgt := 4) B dJ40_treeify_212 (by decide) ?_
          refine g_fg 4 rfl ?_
          exact ih4 _ (by rw [← hmu4]; simp) (y_a5 :: n1) vt none (n2.erase y_a5) (fup pp y_a5 none) (fup lf y_a5 none) (fup rg y_a5 none) (fup rd y_a5 false) _ _ (some y_a5) wu wj_7 hwu hwj_7 (hTo) (by rw [← hnx]; exact hCt) ((List.nodup_cons.mp hNv).2) (fun a => by
              rw [List.mem_cons, h1m a]
              have hz := (List.nodup_cons.mp hNv).1
              constructor
              · rintro (rfl | ⟨h1, h2⟩)
                · exact ⟨hxc, hz⟩
                · exact ⟨h1, fun e => h2 (List.mem_cons_of_mem _ e)⟩
              · rintro ⟨h1, h2⟩
                by_cases e : a = y_a5
                · exact Or.inl e
                · exact Or.inr ⟨h1, fun q => (List.mem_cons.mp q).elim e h2⟩) (er_mem hl4_1.1 h2m hNv) (fun a ha => hvc a (List.mem_cons_of_mem _ ha)) rfl
      · skip
        refine (show Go g κ 12 [some (.ref a), some (.ref tl), some (va_rf ro), some (.ref y_a5), none, none, none, none, none, none, none, none, none] [.ref z] [[(tl, .inl (g.2.1 6, cap, .inr (.inr (.inr (.inr tab)))))], wu, l4_2, [(y_a5, .inr (25, [.null, .null, .int (hs y_a5), .ref (ky y_a5), .ref (vl y_a5), .ref z, va_rf (pp0 y_a5), va_rf (lf0 y_a5), va_rf (rg0 y_a5), va_rf (pv y_a5), .int (nI (if rd0 y_a5 = true then 1 else 0))]))]] 0 0 from ?_)
        have hzm : z ∈ n2.erase y_a5 := (er_mem hl4_1.1 h2m hNv z).mpr (List.mem_of_mem_head? (by rw [← hcn, hnx]; rfl))
        refine g_castRS (ci := 25) (q := 15) B rfl (rc_in B (ci := 25) rfl (k := 1) rfl ⟨_, TNG.mem hwu hzm⟩) dJ40_treeify_12 rfl q1662 ?_
        refine g_astore (q := 17) (lv2 := [some (.ref a), some (.ref tl), some (va_rf ro), some (.ref y_a5), some (.ref z), none, none, none, none, none, none, none, none]) B dJ40_treeify_15 rfl (Nat.le_of_ble_eq_true rfl) (rv_r _) rfl ?_
        refine g_aload_n (q := 18) B dJ40_treeify_17 rfl rfl (rv_r _) ?_
        refine g_aload_n (q := 19) B dJ40_treeify_18 rfl rfl (rv_r _) ?_
        refine g_aconst_null (q := 20) B dJ40_treeify_19 rfl ?_
        refine g_dup_x1 (q := 21) B dJ40_treeify_20 rfl rfl rfl ?_
        refine g_put (q := 24) (L2 := [[(tl, .inl (g.2.1 6, cap, .inr (.inr (.inr (.inr tab)))))], wu, l4_2, [(y_a5, .inr (25, [.null, .null, .int (hs y_a5), .ref (ky y_a5), .ref (vl y_a5), .ref z, va_rf (pp0 y_a5), va_rf (lf0 y_a5), .null, va_rf (pv y_a5), .int (nI (if rd0 y_a5 = true then 1 else 0))]))]]) B (ci := 25) (k := 3) (j := 8) in_J40 tyJ40 tyJ40_ok nmJ40 rfl dJ40_treeify_21 rfl rfl (Nat.le_of_ble_eq_true rfl) q1744 rfl rfl rfl rfl (Nat.le_of_ble_eq_true rfl) rfl ?_
        refine g_put (q := 27) (L2 := [[(tl, .inl (g.2.1 6, cap, .inr (.inr (.inr (.inr tab)))))], wu, l4_2, [(y_a5, .inr (25, [.null, .null, .int (hs y_a5), .ref (ky y_a5), .ref (vl y_a5), .ref z, va_rf (pp0 y_a5), .null, .null, va_rf (pv y_a5), .int (nI (if rd0 y_a5 = true then 1 else 0))]))]]) B (ci := 25) (k := 3) (j := 7) in_J40 tyJ40 tyJ40_ok nmJ40 rfl dJ40_treeify_24 rfl rfl (Nat.le_of_ble_eq_true rfl) q1743 rfl rfl rfl rfl (Nat.le_of_ble_eq_true rfl) rfl ?_
        refine g_aload_n (q := 28) B dJ40_treeify_27 rfl rfl (rv_o _) ?_
        refine g_ifnonnull_o (tgt := 46) (q := 31) B dJ40_treeify_28 rfl (by decide) (fun ro_a28 c28 => ?_) (fun c28 => ?_)
        · skip
          subst c28
          refine g_aload_n (q := 47) B dJ40_treeify_46 rfl rfl (rv_r _) ?_
          refine g_getS (q := 50) B (ci := 25) (k := 3) (j := 3) in_J40 rfl dJ40_treeify_47 rfl rfl (Nat.le_of_ble_eq_true rfl) q1682 q1683 rfl ?_
          refine g_astore (q := 52) (lv2 := [some (.ref a), some (.ref tl), some (.ref ro_a28), some (.ref y_a5), some (.ref z), some (.ref (ky y_a5)), none, none, none, none, none, none, none]) B dJ40_treeify_50 rfl (Nat.le_of_ble_eq_true rfl) (rv_r _) rfl ?_
          refine g_aload_n (q := 53) B dJ40_treeify_52 rfl rfl (rv_r _) ?_
          refine g_getS (q := 56) B (ci := 25) (k := 3) (j := 2) in_J40 rfl dJ40_treeify_53 rfl rfl (Nat.le_of_ble_eq_true rfl) q1677 q1678 rfl ?_
          refine g_istore (q := 58) (lv2 := [some (.ref a), some (.ref tl), some (.ref ro_a28), some (.ref y_a5), some (.ref z), some (.ref (ky y_a5)), some (.int (hs y_a5)), none, none, none, none, none, none]) B dJ40_treeify_56 rfl (Nat.le_of_ble_eq_true rfl) rfl ?_
          refine g_aconst_null (q := 59) B dJ40_treeify_58 rfl ?_
          refine g_astore (q := 61) (lv2 := [some (.ref a), some (.ref tl), some (.ref ro_a28), some (.ref y_a5), some (.ref z), some (.ref (ky y_a5)), some (.int (hs y_a5)), some (.null), none, none, none, none, none]) B dJ40_treeify_59 rfl (Nat.le_of_ble_eq_true rfl) rv_n rfl ?_
          refine g_aload_n (q := 62) B dJ40_treeify_61 rfl rfl (rv_r _) ?_
          refine g_astore (q := 64) (lv2 := [some (.ref a), some (.ref tl), some (.ref ro_a28), some (.ref y_a5), some (.ref z), some (.ref (ky y_a5)), some (.int (hs y_a5)), some (.null), some (.ref ro_a28), none, none, none, none]) B dJ40_treeify_62 rfl (Nat.le_of_ble_eq_true rfl) (rv_r _) rfl ?_
          have lp64 : ∀ (n64 : Nat) (p : Nat) , (p ∈ n1) → (Pk n1 lo hi (hrk (hs y_a5)) p) → wid lo hi (some p) = n64 → Go g κ 64 [some (.ref a), some (.ref tl), some (.ref ro_a28), some (.ref y_a5), some (.ref z), some (.ref (ky y_a5)), some (.int (hs y_a5)), some (.null), some (.ref p), none, none, none, none] [] [[(tl, .inl (g.2.1 6, cap, .inr (.inr (.inr (.inr tab)))))], wu, l4_2, [(y_a5, .inr (25, [.null, .null, .int (hs y_a5), .ref (ky y_a5), .ref (vl y_a5), .ref z, va_rf (pp0 y_a5), .null, .null, va_rf (pv y_a5), .int (nI (if rd0 y_a5 = true then 1 else 0))]))]] 0 0 := by
            intro n64
            induction n64 using Nat.strongRecOn with
            | _ n64 ih64 =>
            intro p  hp0 hp hmu64
            refine g_aload (q := 66) B dJ40_treeify_64 rfl rfl (rv_r _) ?_
            refine g_getSM (v := .ref (ky p)) (q := 69) B (ci := 25) (k := 2) (j := 3) in_J40 rfl dJ40_treeify_66 rfl rfl (TNG.mem hl4_2 hp0) (Nat.le_of_ble_eq_true rfl) q1682 q1683 rfl ?_
            refine g_astore (q := 71) (lv2 := [some (.ref a), some (.ref tl), some (.ref ro_a28), some (.ref y_a5), some (.ref z), some (.ref (ky y_a5)), some (.int (hs y_a5)), some (.null), some (.ref p), none, none, some (.ref (ky p)), none]) B dJ40_treeify_69 rfl (Nat.le_of_ble_eq_true rfl) (rv_r _) rfl ?_
            refine g_aload (q := 73) B dJ40_treeify_71 rfl rfl (rv_r _) ?_
            refine g_getSM (v := .int (hs p)) (q := 76) B (ci := 25) (k := 2) (j := 2) in_J40 rfl dJ40_treeify_73 rfl rfl (TNG.mem hl4_2 hp0) (Nat.le_of_ble_eq_true rfl) q1677 q1678 rfl ?_
            refine g_dup (q := 77) B dJ40_treeify_76 rfl rfl ?_
            refine g_istore (q := 79) (lv2 := [some (.ref a), some (.ref tl), some (.ref ro_a28), some (.ref y_a5), some (.ref z), some (.ref (ky y_a5)), some (.int (hs y_a5)), some (.null), some (.ref p), none, some (.int (hs p)), some (.ref (ky p)), none]) B dJ40_treeify_77 rfl (Nat.le_of_ble_eq_true rfl) rfl ?_
            refine g_iload (q := 81) B dJ40_treeify_79 rfl rfl ?_
            refine g_icmp_le (tgt := 90) (q := 84) B dJ40_treeify_81 rfl (by decide) (Iff.rfl) (fun c81 => ?_) (fun c81 => ?_)
            · skip
              refine g_iload (q := 92) B dJ40_treeify_90 rfl rfl ?_
              refine g_iload (q := 94) B dJ40_treeify_92 rfl rfl ?_
              refine g_icmp_ge (tgt := 103) (q := 97) B dJ40_treeify_94 rfl (by decide) (Iff.rfl) (fun c94 => ?_) (fun c94 => ?_)
              · skip
                exact absurd (hij p ((hM p).mp ((h1m p).mp hp0).1) y_a5 ((hM _).mp hxc) (Int32.le_antisymm c81 (by simpa using c94))) (fun e => hxn (e ▸ hp0))
              · skip
                refine g_iconst (v := nI 1) (q := 98) B dJ40_treeify_97 rfl (by decide) ?_
                refine g_istore (q := 100) (lv2 := [some (.ref a), some (.ref tl), some (.ref ro_a28), some (.ref y_a5), some (.ref z), some (.ref (ky y_a5)), some (.int (hs y_a5)), some (.null), some (.ref p), some (.int (nI 1)), some (.int (hs p)), some (.ref (ky p)), none]) B dJ40_treeify_98 rfl (Nat.le_of_ble_eq_true rfl) rfl ?_
                refine g_goto (tgt := 143) B dJ40_treeify_100 (by decide) ?_
                refine g_aload (q := 145) B dJ40_treeify_143 rfl rfl (rv_r _) ?_
                refine g_astore (q := 147) (lv2 := [some (.ref a), some (.ref tl), some (.ref ro_a28), some (.ref y_a5), some (.ref z), some (.ref (ky y_a5)), some (.int (hs y_a5)), some (.null), some (.ref p), some (.int (nI 1)), some (.int (hs p)), some (.ref (ky p)), some (.ref p)]) B dJ40_treeify_145 rfl (Nat.le_of_ble_eq_true rfl) (rv_r _) rfl ?_
                refine g_iload (q := 149) B dJ40_treeify_147 rfl rfl ?_
                refine g_if_gt (tgt := 160) (q := 152) B dJ40_treeify_149 rfl (by decide) (iff_true_intro (by decide)) (fun _ => ?_) (fun z => absurd trivial z)
                refine g_aload (q := 162) B dJ40_treeify_160 rfl rfl (rv_r _) ?_
                refine g_getM (v := va_rf (rg p)) (q := 165) B (ci := 25) (k := 2) (j := 8) in_J40 rfl dJ40_treeify_162 rfl rfl (TNG.mem hl4_2 hp0) (Nat.le_of_ble_eq_true rfl) q1744 rfl rfl ?_
                refine g_dup (q := 166) B dJ40_treeify_165 rfl (rv_c (rv_o _)) ?_
                refine g_astore (q := 168) (lv2 := [some (.ref a), some (.ref tl), some (.ref ro_a28), some (.ref y_a5), some (.ref z), some (.ref (ky y_a5)), some (.int (hs y_a5)), some (.null), some (va_rf (rg p)), some (.int (nI 1)), some (.int (hs p)), some (.ref (ky p)), some (.ref p)]) B dJ40_treeify_166 rfl (Nat.le_of_ble_eq_true rfl) (rv_o _) rfl ?_
                refine g_ifnonnull_o (tgt := 206) (q := 171) B dJ40_treeify_168 rfl (by decide) (fun rgp_a168 c168 => ?_) (fun c168 => ?_)
                · skip
                  rw [c168]
                  refine (show Go g κ 206 [some (.ref a), some (.ref tl), some (.ref ro_a28), some (.ref y_a5), some (.ref z), some (.ref (ky y_a5)), some (.int (hs y_a5)), some (.null), some (.ref rgp_a168), some (.int (nI 1)), some (.int (hs p)), some (.ref (ky p)), some (.ref p)] [] [[(tl, .inl (g.2.1 6, cap, .inr (.inr (.inr (.inr tab)))))], wu, l4_2, [(y_a5, .inr (25, [.null, .null, .int (hs y_a5), .ref (ky y_a5), .ref (vl y_a5), .ref z, va_rf (pp0 y_a5), .null, .null, va_rf (pv y_a5), .int (nI (if rd0 y_a5 = true then 1 else 0))]))]] 0 0 from ?_)
                  refine g_goto (tgt := 64) B dJ40_treeify_206 (by decide) ?_
                  refine g_fg 9 rfl ?_
                  refine g_fg 10 rfl ?_
                  refine g_fg 11 rfl ?_
                  refine g_fg 12 rfl ?_
                  exact ih64 _ (by rw [← hmu64, ← c168]; first | exact wid_l hT hp0 | exact wid_r hT hp0) rgp_a168 (tr_rm hT hp0 c168) (by have z := hT.2.2.2.2.2.1 p hp0 _ c168; have z2 := (not_congr hrk_le).mp c94; exact ⟨z.1, by rw [z.2.2.1]; show hrk (hs p) + 1 ≤ hrk (hs y_a5); omega, by rw [z.2.2.2]; exact hp.2.2⟩) rfl
                · skip
                  rw [c168]
                  refine (show Go g κ 171 [some (.ref a), some (.ref tl), some (.ref ro_a28), some (.ref y_a5), some (.ref z), some (.ref (ky y_a5)), some (.int (hs y_a5)), some (.null), some (.null), some (.int (nI 1)), some (.int (hs p)), some (.ref (ky p)), some (.ref p)] [] [[(tl, .inl (g.2.1 6, cap, .inr (.inr (.inr (.inr tab)))))], wu, l4_2, [(y_a5, .inr (25, [.null, .null, .int (hs y_a5), .ref (ky y_a5), .ref (vl y_a5), .ref z, va_rf (pp0 y_a5), .null, .null, va_rf (pv y_a5), .int (nI (if rd0 y_a5 = true then 1 else 0))]))]] 0 0 from ?_)
                  have hrm : ro_a28 ∈ n1 := tr_tm hT rfl
                  have hjn := TNG.cons (x5 := nx y_a5) (x9 := pv y_a5) (x10 := (rd0 y_a5)) (x6 := (pp0 y_a5)) (x7 := none) (x8 := none) (x2 := hs y_a5) (x3 := ky y_a5) (x4 := vl y_a5) hl4_2 hxn
                  simp only [fup_id] at hjn
                  obtain ⟨wj_8, ewj_8⟩ : ∃ w : va_W, w = ([[(y_a5, .inr (25, [.null, .null, .int (hs y_a5), .ref (ky y_a5), .ref (vl y_a5), .ref z, va_rf (pp0 y_a5), .null, .null, va_rf (pv y_a5), .int (nI (if rd0 y_a5 = true then 1 else 0))]))], l4_2] : List va_W).flatten := ⟨_, rfl⟩
                  have hwj_8 : TNG g (y_a5 :: n1) hs ky vl nx (fup pp y_a5 (pp0 y_a5)) (fup lf y_a5 none) (fup rg y_a5 none) pv (fup rd y_a5 (rd0 y_a5)) wj_8 := by
                    rw [ewj_8]
                    have hjn := hjn
                    rw [hnx] at hjn
                    exact hjn
                  refine g_close (w := wj_8) [3, 2] rfl ewj_8 rfl ?_
                  refine (show Go g κ 171 [some (.ref a), some (.ref tl), some (.ref ro_a28), some (.ref y_a5), some (.ref z), some (.ref (ky y_a5)), some (.int (hs y_a5)), some (.null), some (.null), some (.int (nI 1)), some (.int (hs p)), some (.ref (ky p)), some (.ref p)] [] [[(tl, .inl (g.2.1 6, cap, .inr (.inr (.inr (.inr tab)))))], wu, wj_8] 0 0 from ?_)
                  refine g_aload_n (q := 172) B dJ40_treeify_171 rfl rfl (rv_r _) ?_
                  refine g_aload (q := 174) B dJ40_treeify_172 rfl rfl (rv_r _) ?_
                  refine g_putTNG6 (q := 177) (k := 2) (x := some p) B hwj_8 List.mem_cons_self dJ40_treeify_174 rfl rfl q1742 (Or.inl rfl) (fun wa_9_174 hwa_9_174 => ?_)
                  refine (show Go g κ 177 [some (.ref a), some (.ref tl), some (.ref ro_a28), some (.ref y_a5), some (.ref z), some (.ref (ky y_a5)), some (.int (hs y_a5)), some (.null), some (.null), some (.int (nI 1)), some (.int (hs p)), some (.ref (ky p)), some (.ref p)] [] [[(tl, .inl (g.2.1 6, cap, .inr (.inr (.inr (.inr tab)))))], wu, wa_9_174] 0 0 from ?_)
                  refine g_iload (q := 179) B dJ40_treeify_177 rfl rfl ?_
                  refine g_if_gt (tgt := 191) (q := 182) B dJ40_treeify_179 rfl (by decide) (iff_true_intro (by decide)) (fun _ => ?_) (fun z => absurd trivial z)
                  refine g_aload (q := 193) B dJ40_treeify_191 rfl rfl (rv_r _) ?_
                  refine g_aload_n (q := 194) B dJ40_treeify_193 rfl rfl (rv_r _) ?_
                  refine g_putTNG8 (q := 197) (k := 2) (x := some y_a5) B hwa_9_174 (List.mem_cons_of_mem _ hp0) dJ40_treeify_194 rfl rfl q1744 (Or.inl rfl) (fun wa_10_194 hwa_10_194 => ?_)
                  refine (show Go g κ 197 [some (.ref a), some (.ref tl), some (.ref ro_a28), some (.ref y_a5), some (.ref z), some (.ref (ky y_a5)), some (.int (hs y_a5)), some (.null), some (.null), some (.int (nI 1)), some (.int (hs p)), some (.ref (ky p)), some (.ref p)] [] [[(tl, .inl (g.2.1 6, cap, .inr (.inr (.inr (.inr tab)))))], wu, wa_10_194] 0 0 from ?_)
                  have hTn := tr_insR hT hxn hp0 c168 (by show hrk (hs p) < hrk (hs y_a5); have := (not_congr hrk_le).mp c94; omega) hp.2.2
                  rw [hk_fup, fup_id] at hTn
                  have hfi : TNG g (y_a5 :: n1) hs ky vl nx (fup pp y_a5 (some p)) (fup lf y_a5 none) (fup (fup rg y_a5 none) p (some y_a5)) pv (fup rd y_a5 (rd0 y_a5)) wa_10_194 := TNG.congr hwa_10_194 (fun e he => ⟨rfl, rfl, rfl, rfl, by rw [fup_fup], rfl, rfl, rfl, rfl⟩)
                  refine g_aload_n (q := 198) B dJ40_treeify_197 rfl rfl (rv_r _) ?_
                  refine g_aload_n (q := 199) B dJ40_treeify_198 rfl rfl (rv_r _) ?_
                  refine g_callS (q := 202) (is := [2]) (kc2 := 0) (ks2 := 0) B [.ref ro_a28, .ref y_a5] (ct_J40_balanceInsertion g J (ns := (y_a5 :: n1)) (hs := hs) (ky := ky) (vl := vl) (nx := nx) (pp := (fup pp y_a5 (some p))) (lf := (fup lf y_a5 none)) (rg := (fup (fup rg y_a5 none) p (some y_a5))) (pv := pv) (rd := (fup rd y_a5 (rd0 y_a5))) (key := (fun a => hrk (hs a))) (lo := _) (hi := _) (root := ro_a28) (x := y_a5) hfi (hTn) (List.mem_cons_self)) dJ40_treeify_199 rfl q1708 q1709 q131 q1710 rfl rfl moJ40_balanceInsertion rfl rfl (by decide) (by decide) (Nat.le_of_ble_eq_true rfl) (Nat.le_of_ble_eq_true rfl) (Nat.le_of_ble_eq_true rfl) (fun _ _ hx => noX_x hx) (fun v199 L1 hp199 => ?_)
                  obtain ⟨root2199, lf2199, rg2199, pp2199, rd2199, lo2199, hi2199, u0_199, rfl, rfl, hu0_199, hT2_199⟩ := hp199
                  refine (show Go g κ 202 [some (.ref a), some (.ref tl), some (.ref ro_a28), some (.ref y_a5), some (.ref z), some (.ref (ky y_a5)), some (.int (hs y_a5)), some (.null), some (.null), some (.int (nI 1)), some (.int (hs p)), some (.ref (ky p)), some (.ref p)] [.ref root2199] [[(tl, .inl (g.2.1 6, cap, .inr (.inr (.inr (.inr tab)))))], wu, u0_199] 0 0 from ?_)
                  refine g_astore_n (q := 203) (lv2 := [some (.ref a), some (.ref tl), some (.ref root2199), some (.ref y_a5), some (.ref z), some (.ref (ky y_a5)), some (.int (hs y_a5)), some (.null), some (.null), some (.int (nI 1)), some (.int (hs p)), some (.ref (ky p)), some (.ref p)]) B dJ40_treeify_202 rfl (Nat.le_of_ble_eq_true rfl) (rv_r _) rfl ?_
                  refine g_goto (tgt := 209) B dJ40_treeify_203 (by decide) ?_
                  refine g_aload (q := 211) B dJ40_treeify_209 rfl rfl (rv_r _) ?_
                  refine g_astore_n (q := 212) (lv2 := [some (.ref a), some (.ref tl), some (.ref root2199), some (.ref z), some (.ref z), some (.ref (ky y_a5)), some (.int (hs y_a5)), some (.null), some (.null), some (.int (nI 1)), some (.int (hs p)), some (.ref (ky p)), some (.ref p)]) B dJ40_treeify_211 rfl (Nat.le_of_ble_eq_true rfl) (rv_r _) rfl ?_
                  refine g_goto (tgt := 4) B dJ40_treeify_212 (by decide) ?_
                  refine g_fg 4 rfl ?_
                  refine g_fg 5 rfl ?_
                  refine g_fg 6 rfl ?_
                  refine g_fg 7 rfl ?_
                  refine g_fg 8 rfl ?_
                  refine g_fg 9 rfl ?_
                  refine g_fg 10 rfl ?_
                  refine g_fg 11 rfl ?_
                  refine g_fg 12 rfl ?_
                  exact ih4 _ (by rw [← hmu4]; simp) (y_a5 :: n1) vt (some z) (n2.erase y_a5) pp2199 lf2199 rg2199 rd2199 _ _ (some root2199) wu u0_199 hwu hu0_199 (hT2_199) (by rw [← hnx]; exact hCt) ((List.nodup_cons.mp hNv).2) (fun a => by
                      rw [List.mem_cons, h1m a]
                      have hz := (List.nodup_cons.mp hNv).1
                      constructor
                      · rintro (rfl | ⟨h1, h2⟩)
                        · exact ⟨hxc, hz⟩
                        · exact ⟨h1, fun e => h2 (List.mem_cons_of_mem _ e)⟩
                      · rintro ⟨h1, h2⟩
                        by_cases e : a = y_a5
                        · exact Or.inl e
                        · exact Or.inr ⟨h1, fun q => (List.mem_cons.mp q).elim e h2⟩) (er_mem hl4_1.1 h2m hNv) (fun a ha => hvc a (List.mem_cons_of_mem _ ha)) rfl
            · skip
              refine g_iconst (v := -1) (q := 85) B dJ40_treeify_84 rfl (by decide) ?_
              refine g_istore (q := 87) (lv2 := [some (.ref a), some (.ref tl), some (.ref ro_a28), some (.ref y_a5), some (.ref z), some (.ref (ky y_a5)), some (.int (hs y_a5)), some (.null), some (.ref p), some (.int (-1)), some (.int (hs p)), some (.ref (ky p)), none]) B dJ40_treeify_85 rfl (Nat.le_of_ble_eq_true rfl) rfl ?_
              refine g_goto (tgt := 143) B dJ40_treeify_87 (by decide) ?_
              refine g_aload (q := 145) B dJ40_treeify_143 rfl rfl (rv_r _) ?_
              refine g_astore (q := 147) (lv2 := [some (.ref a), some (.ref tl), some (.ref ro_a28), some (.ref y_a5), some (.ref z), some (.ref (ky y_a5)), some (.int (hs y_a5)), some (.null), some (.ref p), some (.int (-1)), some (.int (hs p)), some (.ref (ky p)), some (.ref p)]) B dJ40_treeify_145 rfl (Nat.le_of_ble_eq_true rfl) (rv_r _) rfl ?_
              refine g_iload (q := 149) B dJ40_treeify_147 rfl rfl ?_
              refine g_if_gt (tgt := 160) (q := 152) B dJ40_treeify_149 rfl (by decide) (iff_false_intro (by decide)) (fun z => z.elim) (fun _ => ?_)
              refine g_aload (q := 154) B dJ40_treeify_152 rfl rfl (rv_r _) ?_
              refine g_getM (v := va_rf (lf p)) (q := 157) B (ci := 25) (k := 2) (j := 7) in_J40 rfl dJ40_treeify_154 rfl rfl (TNG.mem hl4_2 hp0) (Nat.le_of_ble_eq_true rfl) q1743 rfl rfl ?_
              refine g_goto (tgt := 165) B dJ40_treeify_157 (by decide) ?_
              refine g_dup (q := 166) B dJ40_treeify_165 rfl (rv_c (rv_o _)) ?_
              refine g_astore (q := 168) (lv2 := [some (.ref a), some (.ref tl), some (.ref ro_a28), some (.ref y_a5), some (.ref z), some (.ref (ky y_a5)), some (.int (hs y_a5)), some (.null), some (va_rf (lf p)), some (.int (-1)), some (.int (hs p)), some (.ref (ky p)), some (.ref p)]) B dJ40_treeify_166 rfl (Nat.le_of_ble_eq_true rfl) (rv_o _) rfl ?_
              refine g_ifnonnull_o (tgt := 206) (q := 171) B dJ40_treeify_168 rfl (by decide) (fun lfp_a168 c168 => ?_) (fun c168 => ?_)
              · skip
                rw [c168]
                refine (show Go g κ 206 [some (.ref a), some (.ref tl), some (.ref ro_a28), some (.ref y_a5), some (.ref z), some (.ref (ky y_a5)), some (.int (hs y_a5)), some (.null), some (.ref lfp_a168), some (.int (-1)), some (.int (hs p)), some (.ref (ky p)), some (.ref p)] [] [[(tl, .inl (g.2.1 6, cap, .inr (.inr (.inr (.inr tab)))))], wu, l4_2, [(y_a5, .inr (25, [.null, .null, .int (hs y_a5), .ref (ky y_a5), .ref (vl y_a5), .ref z, va_rf (pp0 y_a5), .null, .null, va_rf (pv y_a5), .int (nI (if rd0 y_a5 = true then 1 else 0))]))]] 0 0 from ?_)
                refine g_goto (tgt := 64) B dJ40_treeify_206 (by decide) ?_
                refine g_fg 9 rfl ?_
                refine g_fg 10 rfl ?_
                refine g_fg 11 rfl ?_
                refine g_fg 12 rfl ?_
                exact ih64 _ (by rw [← hmu64, ← c168]; first | exact wid_l hT hp0 | exact wid_r hT hp0) lfp_a168 (tr_lm hT hp0 c168) (by have z := hT.2.2.2.1 p hp0 _ c168; have z2 := (not_congr hrk_le).mp c81; exact ⟨z.1, by rw [z.2.2.1]; exact hp.2.1, by rw [z.2.2.2]; show hrk (hs y_a5) < hrk (hs p); omega⟩) rfl
              · skip
                rw [c168]
                refine (show Go g κ 171 [some (.ref a), some (.ref tl), some (.ref ro_a28), some (.ref y_a5), some (.ref z), some (.ref (ky y_a5)), some (.int (hs y_a5)), some (.null), some (.null), some (.int (-1)), some (.int (hs p)), some (.ref (ky p)), some (.ref p)] [] [[(tl, .inl (g.2.1 6, cap, .inr (.inr (.inr (.inr tab)))))], wu, l4_2, [(y_a5, .inr (25, [.null, .null, .int (hs y_a5), .ref (ky y_a5), .ref (vl y_a5), .ref z, va_rf (pp0 y_a5), .null, .null, va_rf (pv y_a5), .int (nI (if rd0 y_a5 = true then 1 else 0))]))]] 0 0 from ?_)
                have hrm : ro_a28 ∈ n1 := tr_tm hT rfl
                have hjn := TNG.cons (x5 := nx y_a5) (x9 := pv y_a5) (x10 := (rd0 y_a5)) (x6 := (pp0 y_a5)) (x7 := none) (x8 := none) (x2 := hs y_a5) (x3 := ky y_a5) (x4 := vl y_a5) hl4_2 hxn
                simp only [fup_id] at hjn
                obtain ⟨wj_11, ewj_11⟩ : ∃ w : va_W, w = ([[(y_a5, .inr (25, [.null, .null, .int (hs y_a5), .ref (ky y_a5), .ref (vl y_a5), .ref z, va_rf (pp0 y_a5), .null, .null, va_rf (pv y_a5), .int (nI (if rd0 y_a5 = true then 1 else 0))]))], l4_2] : List va_W).flatten := ⟨_, rfl⟩
                have hwj_11 : TNG g (y_a5 :: n1) hs ky vl nx (fup pp y_a5 (pp0 y_a5)) (fup lf y_a5 none) (fup rg y_a5 none) pv (fup rd y_a5 (rd0 y_a5)) wj_11 := by
                  rw [ewj_11]
                  have hjn := hjn
                  rw [hnx] at hjn
                  exact hjn
                refine g_close (w := wj_11) [3, 2] rfl ewj_11 rfl ?_
                refine (show Go g κ 171 [some (.ref a), some (.ref tl), some (.ref ro_a28), some (.ref y_a5), some (.ref z), some (.ref (ky y_a5)), some (.int (hs y_a5)), some (.null), some (.null), some (.int (-1)), some (.int (hs p)), some (.ref (ky p)), some (.ref p)] [] [[(tl, .inl (g.2.1 6, cap, .inr (.inr (.inr (.inr tab)))))], wu, wj_11] 0 0 from ?_)
                refine g_aload_n (q := 172) B dJ40_treeify_171 rfl rfl (rv_r _) ?_
                refine g_aload (q := 174) B dJ40_treeify_172 rfl rfl (rv_r _) ?_
                refine g_putTNG6 (q := 177) (k := 2) (x := some p) B hwj_11 List.mem_cons_self dJ40_treeify_174 rfl rfl q1742 (Or.inl rfl) (fun wa_12_174 hwa_12_174 => ?_)
                refine (show Go g κ 177 [some (.ref a), some (.ref tl), some (.ref ro_a28), some (.ref y_a5), some (.ref z), some (.ref (ky y_a5)), some (.int (hs y_a5)), some (.null), some (.null), some (.int (-1)), some (.int (hs p)), some (.ref (ky p)), some (.ref p)] [] [[(tl, .inl (g.2.1 6, cap, .inr (.inr (.inr (.inr tab)))))], wu, wa_12_174] 0 0 from ?_)
                refine g_iload (q := 179) B dJ40_treeify_177 rfl rfl ?_
                refine g_if_gt (tgt := 191) (q := 182) B dJ40_treeify_179 rfl (by decide) (iff_false_intro (by decide)) (fun z => z.elim) (fun _ => ?_)
                refine g_aload (q := 184) B dJ40_treeify_182 rfl rfl (rv_r _) ?_
                refine g_aload_n (q := 185) B dJ40_treeify_184 rfl rfl (rv_r _) ?_
                refine g_putTNG7 (q := 188) (k := 2) (x := some y_a5) B hwa_12_174 (List.mem_cons_of_mem _ hp0) dJ40_treeify_185 rfl rfl q1743 (Or.inl rfl) (fun wa_13_185 hwa_13_185 => ?_)
                refine (show Go g κ 188 [some (.ref a), some (.ref tl), some (.ref ro_a28), some (.ref y_a5), some (.ref z), some (.ref (ky y_a5)), some (.int (hs y_a5)), some (.null), some (.null), some (.int (-1)), some (.int (hs p)), some (.ref (ky p)), some (.ref p)] [] [[(tl, .inl (g.2.1 6, cap, .inr (.inr (.inr (.inr tab)))))], wu, wa_13_185] 0 0 from ?_)
                refine g_goto (tgt := 197) B dJ40_treeify_188 (by decide) ?_
                have hTn := tr_insL hT hxn hp0 c168 hp.2.1 (by show hrk (hs y_a5) < hrk (hs p); have := (not_congr hrk_le).mp c81; omega)
                rw [hk_fup, fup_id] at hTn
                have hfi : TNG g (y_a5 :: n1) hs ky vl nx (fup pp y_a5 (some p)) (fup (fup lf y_a5 none) p (some y_a5)) (fup rg y_a5 none) pv (fup rd y_a5 (rd0 y_a5)) wa_13_185 := TNG.congr hwa_13_185 (fun e he => ⟨rfl, rfl, rfl, rfl, by rw [fup_fup], rfl, rfl, rfl, rfl⟩)
                refine g_aload_n (q := 198) B dJ40_treeify_197 rfl rfl (rv_r _) ?_
                refine g_aload_n (q := 199) B dJ40_treeify_198 rfl rfl (rv_r _) ?_
                refine g_callS (q := 202) (is := [2]) (kc2 := 0) (ks2 := 0) B [.ref ro_a28, .ref y_a5] (ct_J40_balanceInsertion g J (ns := (y_a5 :: n1)) (hs := hs) (ky := ky) (vl := vl) (nx := nx) (pp := (fup pp y_a5 (some p))) (lf := (fup (fup lf y_a5 none) p (some y_a5))) (rg := (fup rg y_a5 none)) (pv := pv) (rd := (fup rd y_a5 (rd0 y_a5))) (key := (fun a => hrk (hs a))) (lo := _) (hi := _) (root := ro_a28) (x := y_a5) hfi (hTn) (List.mem_cons_self)) dJ40_treeify_199 rfl q1708 q1709 q131 q1710 rfl rfl moJ40_balanceInsertion rfl rfl (by decide) (by decide) (Nat.le_of_ble_eq_true rfl) (Nat.le_of_ble_eq_true rfl) (Nat.le_of_ble_eq_true rfl) (fun _ _ hx => noX_x hx) (fun v199 L1 hp199 => ?_)
                obtain ⟨root2199, lf2199, rg2199, pp2199, rd2199, lo2199, hi2199, u0_199, rfl, rfl, hu0_199, hT2_199⟩ := hp199
                refine (show Go g κ 202 [some (.ref a), some (.ref tl), some (.ref ro_a28), some (.ref y_a5), some (.ref z), some (.ref (ky y_a5)), some (.int (hs y_a5)), some (.null), some (.null), some (.int (-1)), some (.int (hs p)), some (.ref (ky p)), some (.ref p)] [.ref root2199] [[(tl, .inl (g.2.1 6, cap, .inr (.inr (.inr (.inr tab)))))], wu, u0_199] 0 0 from ?_)
                refine g_astore_n (q := 203) (lv2 := [some (.ref a), some (.ref tl), some (.ref root2199), some (.ref y_a5), some (.ref z), some (.ref (ky y_a5)), some (.int (hs y_a5)), some (.null), some (.null), some (.int (-1)), some (.int (hs p)), some (.ref (ky p)), some (.ref p)]) B dJ40_treeify_202 rfl (Nat.le_of_ble_eq_true rfl) (rv_r _) rfl ?_
                refine g_goto (tgt := 209) B dJ40_treeify_203 (by decide) ?_
                refine g_aload (q := 211) B dJ40_treeify_209 rfl rfl (rv_r _) ?_
                refine g_astore_n (q := 212) (lv2 := [some (.ref a), some (.ref tl), some (.ref root2199), some (.ref z), some (.ref z), some (.ref (ky y_a5)), some (.int (hs y_a5)), some (.null), some (.null), some (.int (-1)), some (.int (hs p)), some (.ref (ky p)), some (.ref p)]) B dJ40_treeify_211 rfl (Nat.le_of_ble_eq_true rfl) (rv_r _) rfl ?_
                refine g_goto (tgt := 4) B dJ40_treeify_212 (by decide) ?_
                refine g_fg 4 rfl ?_
                refine g_fg 5 rfl ?_
                refine g_fg 6 rfl ?_
                refine g_fg 7 rfl ?_
                refine g_fg 8 rfl ?_
                refine g_fg 9 rfl ?_
                refine g_fg 10 rfl ?_
                refine g_fg 11 rfl ?_
                refine g_fg 12 rfl ?_
                exact ih4 _ (by rw [← hmu4]; simp) (y_a5 :: n1) vt (some z) (n2.erase y_a5) pp2199 lf2199 rg2199 rd2199 _ _ (some root2199) wu u0_199 hwu hu0_199 (hT2_199) (by rw [← hnx]; exact hCt) ((List.nodup_cons.mp hNv).2) (fun a => by
                    rw [List.mem_cons, h1m a]
                    have hz := (List.nodup_cons.mp hNv).1
                    constructor
                    · rintro (rfl | ⟨h1, h2⟩)
                      · exact ⟨hxc, hz⟩
                      · exact ⟨h1, fun e => h2 (List.mem_cons_of_mem _ e)⟩
                    · rintro ⟨h1, h2⟩
                      by_cases e : a = y_a5
                      · exact Or.inl e
                      · exact Or.inr ⟨h1, fun q => (List.mem_cons.mp q).elim e h2⟩) (er_mem hl4_1.1 h2m hNv) (fun a ha => hvc a (List.mem_cons_of_mem _ ha)) rfl
          exact lp64 _ ro_a28 (tr_tm hT rfl) (by have z := hT.2.2.2.2.2.2.2.2.2 _ rfl; exact ⟨z.1, by omega, by rw [z.2.2.2]; exact hrk_lt _⟩) rfl
        · skip
          subst c28
          refine g_aload_n (q := 32) B dJ40_treeify_31 rfl rfl (rv_r _) ?_
          refine g_aconst_null (q := 33) B dJ40_treeify_32 rfl ?_
          refine g_put (q := 36) (L2 := [[(tl, .inl (g.2.1 6, cap, .inr (.inr (.inr (.inr tab)))))], wu, l4_2, [(y_a5, .inr (25, [.null, .null, .int (hs y_a5), .ref (ky y_a5), .ref (vl y_a5), .ref z, .null, .null, .null, va_rf (pv y_a5), .int (nI (if rd0 y_a5 = true then 1 else 0))]))]]) B (ci := 25) (k := 3) (j := 6) in_J40 tyJ40 tyJ40_ok nmJ40 rfl dJ40_treeify_33 rfl rfl (Nat.le_of_ble_eq_true rfl) q1742 rfl rfl rfl rfl (Nat.le_of_ble_eq_true rfl) rfl ?_
          refine g_aload_n (q := 37) B dJ40_treeify_36 rfl rfl (rv_r _) ?_
          refine g_iconst (v := nI 0) (q := 38) B dJ40_treeify_37 rfl (by decide) ?_
          refine g_put (q := 41) (L2 := [[(tl, .inl (g.2.1 6, cap, .inr (.inr (.inr (.inr tab)))))], wu, l4_2, [(y_a5, .inr (25, [.null, .null, .int (hs y_a5), .ref (ky y_a5), .ref (vl y_a5), .ref z, .null, .null, .null, va_rf (pv y_a5), .int (nI 0)]))]]) B (ci := 25) (k := 3) (j := 10) in_J40 tyJ40 tyJ40_ok nmJ40 rfl dJ40_treeify_38 rfl rfl (Nat.le_of_ble_eq_true rfl) q1747 rfl rfl rfl rfl (Nat.le_of_ble_eq_true rfl) rfl ?_
          refine g_aload_n (q := 42) B dJ40_treeify_41 rfl rfl (rv_r _) ?_
          refine g_astore_n (q := 43) (lv2 := [some (.ref a), some (.ref tl), some (.ref y_a5), some (.ref y_a5), some (.ref z), none, none, none, none, none, none, none, none]) B dJ40_treeify_42 rfl (Nat.le_of_ble_eq_true rfl) (rv_r _) rfl ?_
          have hn1 : n1 = [] := hT.2.2.2.2.2.2.2.2.1 rfl
          have hTo : Tr (y_a5 :: n1) (fun a => hrk (hs a)) (fup lf y_a5 none) (fup rg y_a5 none) (fup pp y_a5 none) (fun _ => 0) (fun _ => 4294967296) (some y_a5) 4294967296 := by rw [hn1]; exact tr_1 (hrk_lt _) (fup_s _ _ _) (fup_s _ _ _) (fup_s _ _ _)
          have hjn := TNG.cons (x5 := nx y_a5) (x9 := pv y_a5) (x10 := false) (x6 := none) (x7 := none) (x8 := none) (x2 := hs y_a5) (x3 := ky y_a5) (x4 := vl y_a5) hl4_2 hxn
          simp only [fup_id] at hjn
          obtain ⟨wj_14, ewj_14⟩ : ∃ w : va_W, w = ([[(y_a5, .inr (25, [.null, .null, .int (hs y_a5), .ref (ky y_a5), .ref (vl y_a5), .ref z, .null, .null, .null, va_rf (pv y_a5), .int (nI 0)]))], l4_2] : List va_W).flatten := ⟨_, rfl⟩
          have hwj_14 : TNG g (y_a5 :: n1) hs ky vl nx (fup pp y_a5 none) (fup lf y_a5 none) (fup rg y_a5 none) pv (fup rd y_a5 false) wj_14 := by
            rw [ewj_14]
            have hjn := hjn
            rw [hnx] at hjn
            exact hjn
          refine g_close (w := wj_14) [3, 2] rfl ewj_14 rfl ?_
          refine (show Go g κ 43 [some (.ref a), some (.ref tl), some (.ref y_a5), some (.ref y_a5), some (.ref z), none, none, none, none, none, none, none, none] [] [[(tl, .inl (g.2.1 6, cap, .inr (.inr (.inr (.inr tab)))))], wu, wj_14] 0 0 from ?_)
          refine g_goto (tgt := 209) B dJ40_treeify_43 (by decide) ?_
          refine g_aload (q := 211) B dJ40_treeify_209 rfl rfl (rv_r _) ?_
          refine g_astore_n (q := 212) (lv2 := [some (.ref a), some (.ref tl), some (.ref y_a5), some (.ref z), some (.ref z), none, none, none, none, none, none, none, none]) B dJ40_treeify_211 rfl (Nat.le_of_ble_eq_true rfl) (rv_r _) rfl ?_
          refine g_goto (tgt := 4) B dJ40_treeify_212 (by decide) ?_
          refine g_fg 4 rfl ?_
          exact ih4 _ (by rw [← hmu4]; simp) (y_a5 :: n1) vt (some z) (n2.erase y_a5) (fup pp y_a5 none) (fup lf y_a5 none) (fup rg y_a5 none) (fup rd y_a5 false) _ _ (some y_a5) wu wj_14 hwu hwj_14 (hTo) (by rw [← hnx]; exact hCt) ((List.nodup_cons.mp hNv).2) (fun a => by
              rw [List.mem_cons, h1m a]
              have hz := (List.nodup_cons.mp hNv).1
              constructor
              · rintro (rfl | ⟨h1, h2⟩)
                · exact ⟨hxc, hz⟩
                · exact ⟨h1, fun e => h2 (List.mem_cons_of_mem _ e)⟩
              · rintro ⟨h1, h2⟩
                by_cases e : a = y_a5
                · exact Or.inl e
                · exact Or.inr ⟨h1, fun q => (List.mem_cons.mp q).elim e h2⟩) (er_mem hl4_1.1 h2m hNv) (fun a ha => hvc a (List.mem_cons_of_mem _ ha)) rfl
  exact lp4 _ ([]) cs (some a) ns (fun _ => none) (fun _ => none) (fun _ => none) (fun _ => false) (fun _ => 0) (fun _ => 0) none w1 wt0 hw1 hwt0 (tr_nil) (by rw [← hta]; exact hC) (hN) (fun b => ⟨fun h => absurd h (by simp), fun h => absurd h.1 h.2⟩) (fun b => (hM b).symm) (fun _ h => h) rfl
