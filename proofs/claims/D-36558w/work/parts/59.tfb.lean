set_option maxRecDepth 100000
theorem moJ4_resize : Mo yJ4_resize 0 := by
  refine ⟨by decide, by decide, by decide +kernel⟩
theorem ct_J4_treeifyBin_r (g : Gv) (J : Jd g) {h : Nat} {tl : Nat} {n : Nat} {md : Nat} {thr : Nat} {lfac : UInt32} {cap : Nat} {kk : Nat} {tab : Nat → Option Nat} {tf : Nat → List Tp} {bm : Nat} {hh : Int32} {w2 : va_W} (hw2 : TbP g bm cap tab tf w2) (hbm : 6 ≤ bm) (hcap : cap = 2 ^ kk) (hk4 : 4 ≤ kk) (hk : kk ≤ 20) (hthr : 4 * thr = 3 * cap) (hpl : ∀ b, b < cap → ∀ t ∈ tf b, hU t.1 % cap = b) (hdj : ∀ b, b < cap → ((tf b).map (·.1)).Nodup) (htn : ∀ b, b < cap → (tf b).length < 100000) (h64 : cap < 64) : Ct g yJ4_treeifyBin (ws_ yJ4_treeifyBin cJ4_treeifyBin 9 none) 8 (12 * cap + 1) (50 * cap) [.ref h, .ref tl, .int hh] [[(h, .inr (23, [.null, .null, .ref tl, .null, .int (nI n), .int (nI md), .int (nI thr), .float lfac]))], [(tl, .inl (g.2.1 6, cap, .inr (.inr (.inr (.inr tab)))))], w2] (fun (rv_ : Option Value) (rL_ : List va_W) => ∃ (nt : Nat) (ntab : Nat → Option Nat) (u2 : va_W), rv_ = none ∧ rL_ = [[(h, .inr (23, [.null, .null, .ref nt, .null, .int (nI n), .int (nI md), .int (nI (2 * thr)), .float lfac]))], [(nt, .inl (g.2.1 6, 2 * cap, .inr (.inr (.inr (.inr ntab)))))], u2] ∧ TbP g bm (2 * cap) ntab (fun b => (tf (b % cap)).filter fun t => if b < cap then lob cap t.1 else !lob cap t.1) u2) noX := by
  refine Ct.of "java/util/HashMap" [some (.ref h), some (.ref tl), some (.int hh), none, none, none, none, none, none] rfl (by decide) rfl (Nat.le_of_ble_eq_true rfl) rfl ?_
  intro κ B E tb
  refine g_aload_n (q := 1) B dJ4_treeifyBin_0 rfl rfl (rv_r _) ?_
  refine g_ifnull_r (q := 4) B dJ4_treeifyBin_1 rfl ?_
  refine g_aload_n (q := 5) B dJ4_treeifyBin_4 rfl rfl (rv_r _) ?_
  refine g_alen (v := nI cap) (q := 6) B (k := 1) (t := 6) dJ4_treeifyBin_5 rfl rfl rfl rfl ?_
  refine g_dup (q := 7) B dJ4_treeifyBin_6 rfl rfl ?_
  refine g_istore_n (q := 8) (lv2 := [some (.ref h), some (.ref tl), some (.int hh), some (.int (nI cap)), none, none, none, none, none]) B dJ4_treeifyBin_7 rfl (Nat.le_of_ble_eq_true rfl) rfl ?_
  refine g_bipush (v := nI 64) (q := 10) B dJ4_treeifyBin_8 rfl (by decide) ?_
  refine g_icmp_ge (tgt := 21) (q := 13) B dJ4_treeifyBin_10 rfl (by decide) (iff_false_intro (fun h => absurd ((nI_leI (by omega) (by omega)).mp h) (by omega))) (fun z => z.elim) (fun _ => ?_)
  refine g_aload_n (q := 14) B dJ4_treeifyBin_13 rfl rfl (rv_r _) ?_
  refine g_callV (q := 17) (is := [0, 0, 0]) (kc2 := (12 * cap + 1) - (12 * cap + 1)) (ks2 := (50 * cap) - (50 * cap)) B [] (ct_J4_resize g J (h := h) (tl := tl) (n := n) (md := md) (thr := thr) (lfac := lfac) (cap := cap) (kk := kk) (tab := tab) (tf := tf) (bm := bm) hw2 (by first | assumption | omega | rfl) (by first | assumption | omega | rfl) (by first | assumption | omega | rfl) (by first | assumption | omega | rfl) (by first | assumption | omega | rfl) (by first | assumption | omega | rfl) (by first | assumption | omega | rfl) (by first | assumption | omega | rfl)) dJ4_treeifyBin_14 rfl (rc_at B (ci := 23) rfl (k := 0) rfl) rfl q1649 q1650 q1651 q83 q1652 rfl rfl moJ4_resize rfl rfl (by decide) (by decide) (Nat.le_of_ble_eq_true rfl) (by omega) (by omega) (fun _ _ hx => noX_x hx) (fun v14 L1 hp14 => ?_)
  obtain ⟨nt14, ntab14, u2_14, rfl, rfl, hu2_14⟩ := hp14
  refine (show Go g κ 17 [some (.ref h), some (.ref tl), some (.int hh), some (.int (nI cap)), none, none, none, none, none] [.ref nt14] [[(h, .inr (23, [.null, .null, .ref nt14, .null, .int (nI n), .int (nI md), .int (nI (2 * thr)), .float lfac]))], [(nt14, .inl (g.2.1 6, 2 * cap, .inr (.inr (.inr (.inr ntab14)))))], u2_14] ((12 * cap + 1) - (12 * cap + 1)) ((50 * cap) - (50 * cap)) from ?_)
  refine g_pop (q := 18) B dJ4_treeifyBin_17 rfl rfl ?_
  refine g_goto (tgt := 109) B dJ4_treeifyBin_18 (by decide) ?_
  exact g_vret B E dJ4_treeifyBin_109 (⟨nt14, ntab14, u2_14, rfl, rfl, hu2_14⟩)
theorem nd_map {cs : List Nat} {f : Nat → Int32} : cs.Nodup → (∀ b ∈ cs, ∀ c ∈ cs, f b = f c → b = c) → (cs.map f).Nodup := by
  intro hn hi
  rw [List.Nodup, List.pairwise_map]
  refine List.Pairwise.imp_of_mem ?_ hn
  intro a b ha hb hne e
  exact hne (hi a ha b hb e)
theorem moJ4_replacementTreeNode : Mo yJ4_replacementTreeNode 2 := by
  refine ⟨by decide, by decide, by decide +kernel⟩
theorem ct_J4_treeifyBin_t (g : Gv) (J : Jd g) {h : Nat} {otl : Option Nat} {n : Nat} {md : Nat} {thr : Nat} {lfac : UInt32} {tl : Nat} {cap : Nat} {tab : Nat → Option Nat} {ix : Nat} {cs : List Nat} {ns : List Nat} {hs : Nat → Int32} {ky : Nat → Nat} {vl : Nat → Nat} {nx : Nat → Option Nat} {kk : Nat} {hh : Int32} {a : Nat} {bm : Nat} {w2 : va_W} (hw2 : NodG g ns hs ky vl nx w2) (hb10 : 10 ≤ bm) (hcap : cap = 2 ^ kk) (hk6 : 6 ≤ kk) (hk : kk ≤ 20) (hixn : nI (cap - 1) &&& hh = nI ix) (hix2 : ix < cap) (hta : tab ix = some a) (hC : Ch nx (tab ix) cs) (hN : cs.Nodup) (hM : ∀ b, b ∈ cs ↔ b ∈ ns) (hij : ∀ b ∈ ns, ∀ c ∈ ns, hs b = hs c → b = c) (hix : ∀ b ∈ ns, nI (cap - 1) &&& hs b = nI ix) : Ct g yJ4_treeifyBin (ws_ yJ4_treeifyBin cJ4_treeifyBin 9 none) 6 cs.length (11 * cs.length) [.ref h, .ref tl, .int hh] [[(h, .inr (23, [.null, .null, va_rf otl, .null, .int (nI n), .int (nI md), .int (nI thr), .float lfac]))], [(tl, .inl (g.2.1 6, cap, .inr (.inr (.inr (.inr tab)))))], w2] (fun (rv_ : Option Value) (rL_ : List va_W) => ∃ (o2 : Option Nat) (u2 : va_W), rv_ = none ∧ rL_ = [[(h, .inr (23, [.null, .null, va_rf otl, .null, .int (nI n), .int (nI md), .int (nI thr), .float lfac]))], [(tl, .inl (g.2.1 6, cap, .inr (.inr (.inr (.inr (va_up tab ix o2))))))], u2] ∧ BinP g bm o2 (cs.map (fun a => (hs a, ky a, vl a))) u2) noX := by
  refine Ct.of "java/util/HashMap" [some (.ref h), some (.ref tl), some (.int hh), none, none, none, none, none, none] rfl (by decide) rfl (Nat.le_of_ble_eq_true rfl) rfl ?_
  intro κ B E tb
  have hc0 : 64 ≤ cap ∧ cap ≤ 1048576 := by
    rw [hcap]
    exact ⟨Nat.le_trans (Nat.le_of_ble_eq_true rfl) (Nat.pow_le_pow_right (n := 2) (by decide) hk6), Nat.le_trans (Nat.pow_le_pow_right (by decide) hk) (Nat.le_of_ble_eq_true rfl)⟩
  obtain ⟨ct0, hcs0⟩ : ∃ t, cs = a :: t := by
    rw [hta] at hC
    cases cs with
    | nil => exact absurd hC (by simp [Ch])
    | cons z t => obtain ⟨e, -⟩ := hC; cases e; exact ⟨t, rfl⟩
  have hC0 : Ch nx (nx a) ct0 := by rw [hcs0] at hC; exact hC.2
  refine g_aload_n (q := 1) B dJ4_treeifyBin_0 rfl rfl (rv_r _) ?_
  refine g_ifnull_r (q := 4) B dJ4_treeifyBin_1 rfl ?_
  refine g_aload_n (q := 5) B dJ4_treeifyBin_4 rfl rfl (rv_r _) ?_
  refine g_alen (v := nI cap) (q := 6) B (k := 1) (t := 6) dJ4_treeifyBin_5 rfl rfl rfl rfl ?_
  refine g_dup (q := 7) B dJ4_treeifyBin_6 rfl rfl ?_
  refine g_istore_n (q := 8) (lv2 := [some (.ref h), some (.ref tl), some (.int hh), some (.int (nI cap)), none, none, none, none, none]) B dJ4_treeifyBin_7 rfl (Nat.le_of_ble_eq_true rfl) rfl ?_
  refine g_bipush (v := nI 64) (q := 10) B dJ4_treeifyBin_8 rfl (by decide) ?_
  refine g_icmp_ge (tgt := 21) (q := 13) B dJ4_treeifyBin_10 rfl (by decide) (iff_true_intro ((nI_leI (by omega) (by omega)).mpr (by omega))) (fun _ => ?_) (fun z => absurd trivial z)
  refine g_aload_n (q := 22) B dJ4_treeifyBin_21 rfl rfl (rv_r _) ?_
  refine g_iload_n (q := 23) B dJ4_treeifyBin_22 rfl rfl ?_
  refine g_iconst (v := nI 1) (q := 24) B dJ4_treeifyBin_23 rfl (by decide) ?_
  refine g_isub (v := nI (cap - 1)) (q := 25) B dJ4_treeifyBin_24 rfl (pk_sub (by omega)) ?_
  refine g_iload_n (q := 26) B dJ4_treeifyBin_25 rfl rfl ?_
  refine g_iand (v := nI ix) (q := 27) B dJ4_treeifyBin_26 rfl hixn ?_
  refine g_dup (q := 28) B dJ4_treeifyBin_27 rfl rfl ?_
  refine g_istore (q := 30) (lv2 := [some (.ref h), some (.ref tl), some (.int hh), some (.int (nI cap)), some (.int (nI ix)), none, none, none, none]) B dJ4_treeifyBin_28 rfl (Nat.le_of_ble_eq_true rfl) rfl ?_
  refine g_ald (r := some a) (q := 31) B (k := 1) (t := 6) dJ4_treeifyBin_30 rfl rfl rfl (vp_in_nI (by omega) (by omega)) (by rw [nI_clamp (by omega)]; exact hta) ?_
  refine g_dup (q := 32) B dJ4_treeifyBin_31 rfl rfl ?_
  refine g_astore (q := 34) (lv2 := [some (.ref h), some (.ref tl), some (.int hh), some (.int (nI cap)), some (.int (nI ix)), some (.ref a), none, none, none]) B dJ4_treeifyBin_32 rfl (Nat.le_of_ble_eq_true rfl) (rv_r _) rfl ?_
  refine g_ifnull_r (q := 37) B dJ4_treeifyBin_34 rfl ?_
  refine g_aconst_null (q := 38) B dJ4_treeifyBin_37 rfl ?_
  refine g_astore (q := 40) (lv2 := [some (.ref h), some (.ref tl), some (.int hh), some (.int (nI cap)), some (.int (nI ix)), some (.ref a), some (.null), none, none]) B dJ4_treeifyBin_38 rfl (Nat.le_of_ble_eq_true rfl) rv_n rfl ?_
  refine g_aconst_null (q := 41) B dJ4_treeifyBin_40 rfl ?_
  refine g_astore (q := 43) (lv2 := [some (.ref h), some (.ref tl), some (.int hh), some (.int (nI cap)), some (.int (nI ix)), some (.ref a), some (.null), some (.null), none]) B dJ4_treeifyBin_41 rfl (Nat.le_of_ble_eq_true rfl) rv_n rfl ?_
  have lp43 : ∀ (n43 : Nat) (us : List Nat) (x : Nat) (vt : List Nat) (ds : List Nat) (hd : Option Nat) (tq : Option Nat) (m1 : List Nat) (hs2 : Nat → Int32) (ky2 : Nat → Nat) (vl2 : Nat → Nat) (nx2 : Nat → Option Nat) (pv2 : Nat → Option Nat) (l43_3 : va_W), TNG g m1 hs2 ky2 vl2 nx2 (fun _ => none) (fun _ => none) (fun _ => none) pv2 (fun _ => false) l43_3 → (cs = us ++ x :: vt) → (Ch nx (nx x) vt) → (Ch nx2 hd ds) → (Pc pv2 none ds) → (ds.Nodup) → (∀ b, b ∈ ds ↔ b ∈ m1) → (ds.getLast? = tq) → (ds.map (fun a => (hs2 a, ky2 a, vl2 a)) = us.map (fun a => (hs a, ky a, vl a))) → vt.length = n43 → Go g κ 43 [some (.ref h), some (.ref tl), some (.int hh), some (.int (nI cap)), some (.int (nI ix)), some (.ref x), some (va_rf hd), some (va_rf tq), none] [] [[(h, .inr (23, [.null, .null, va_rf otl, .null, .int (nI n), .int (nI md), .int (nI thr), .float lfac]))], [(tl, .inl (g.2.1 6, cap, .inr (.inr (.inr (.inr tab)))))], w2, l43_3] (cs.length - us.length) (11 * cs.length - 11 * us.length) := by
    intro n43
    induction n43 using Nat.strongRecOn with
    | _ n43 ih43 =>
    intro us x vt ds hd tq m1 hs2 ky2 vl2 nx2 pv2 l43_3 hl43_3 hcs2 hV hCd hPd hdn hdm htl hmp hmu43
    have hxm : x ∈ ns := (hM x).mp (by rw [hcs2]; simp)
    have hlen : cs.length = us.length + (vt.length + 1) := by rw [hcs2]; simp
    refine g_aload_n (q := 44) B dJ4_treeifyBin_43 rfl rfl (rv_r _) ?_
    refine g_aload (q := 46) B dJ4_treeifyBin_44 rfl rfl (rv_r _) ?_
    refine g_aconst_null (q := 47) B dJ4_treeifyBin_46 rfl ?_
    refine g_callV (q := 50) (is := [2]) (kc2 := vt.length) (ks2 := 11 * vt.length) B [.ref x, .null] (ct_J4_replacementTreeNode g J (h := h) (b := x) (ns := ns) (hs := hs) (ky := ky) (vl := vl) (nx := nx) hw2 (hxm)) dJ4_treeifyBin_47 rfl (rc_at B (ci := 23) rfl (k := 0) rfl) rfl q1771 q1772 q1773 q83 q1774 rfl rfl moJ4_replacementTreeNode rfl rfl (by decide) (by decide) (Nat.le_of_ble_eq_true rfl) (by omega) (by omega) (fun _ _ hx => noX_x hx) (fun v47 L1 hp47 => ?_)
    obtain ⟨a47, rfl, rfl⟩ := hp47
    refine (show Go g κ 50 [some (.ref h), some (.ref tl), some (.int hh), some (.int (nI cap)), some (.int (nI ix)), some (.ref x), some (va_rf hd), some (va_rf tq), none] [.ref a47] [[(h, .inr (23, [.null, .null, va_rf otl, .null, .int (nI n), .int (nI md), .int (nI thr), .float lfac]))], [(tl, .inl (g.2.1 6, cap, .inr (.inr (.inr (.inr tab)))))], l43_3, w2, [(a47, .inr (25, [.null, .null, .int (hs x), .ref (ky x), .ref (vl x), .null, .null, .null, .null, .null, .int (nI 0)]))]] vt.length (11 * vt.length) from ?_)
    refine g_astore (q := 52) (lv2 := [some (.ref h), some (.ref tl), some (.int hh), some (.int (nI cap)), some (.int (nI ix)), some (.ref x), some (va_rf hd), some (va_rf tq), some (.ref a47)]) B dJ4_treeifyBin_50 rfl (Nat.le_of_ble_eq_true rfl) (rv_r _) (by simp only [lst1, lclr_o]; try rfl) ?_
    refine g_nin (wa := [(a47, .inr (25, [.null, .null, .int (hs x), .ref (ky x), .ref (vl x), .null, .null, .null, .null, .null, .int (nI 0)]))]) (wb := l43_3) 4 2 rfl List.mem_cons_self (fun hap => ?_)
    have hnn : a47 ∉ m1 := fun hm => hap a47 _ (TNG.mem hl43_3 hm) rfl
    have hjn := TNG.cons (x2 := hs x) (x3 := ky x) (x4 := vl x) (x5 := none) (x6 := none) (x7 := none) (x8 := none) (x9 := none) (x10 := false) hl43_3 hnn
    have hfn : ∀ {α : Type} {q : α}, fup (fun _ : Nat => q) a47 q = fun _ => q := fun {α q} => by funext b; unfold fup; split <;> rfl
    simp only [hfn] at hjn
    obtain ⟨wc_1, ewc_1⟩ : ∃ w : va_W, w = ([[(a47, .inr (25, [.null, .null, .int (hs x), .ref (ky x), .ref (vl x), .null, .null, .null, .null, .null, .int (nI 0)]))], l43_3] : List va_W).flatten := ⟨_, rfl⟩
    have hwc_1 : TNG g (a47 :: m1) (fup hs2 a47 (hs x)) (fup ky2 a47 (ky x)) (fup vl2 a47 (vl x)) (fup nx2 a47 none) (fun _ => none) (fun _ => none) (fun _ => none) (fup pv2 a47 none) (fun _ => false) wc_1 := by
      rw [ewc_1]
      exact hjn
    refine g_close (w := wc_1) [4, 2] rfl ewc_1 rfl ?_
    refine (show Go g κ 52 [some (.ref h), some (.ref tl), some (.int hh), some (.int (nI cap)), some (.int (nI ix)), some (.ref x), some (va_rf hd), some (va_rf tq), some (.ref a47)] [] [[(h, .inr (23, [.null, .null, va_rf otl, .null, .int (nI n), .int (nI md), .int (nI thr), .float lfac]))], [(tl, .inl (g.2.1 6, cap, .inr (.inr (.inr (.inr tab)))))], w2, wc_1] vt.length (11 * vt.length) from ?_)
    have hnd : a47 ∉ ds := fun e => hnn ((hdm _).mp e)
    refine g_aload (q := 54) B dJ4_treeifyBin_52 rfl rfl (rv_o _) ?_
    refine g_ifnonnull_o (tgt := 64) (q := 57) B dJ4_treeifyBin_54 rfl (by decide) (fun tq_a54 c54 => ?_) (fun c54 => ?_)
    · skip
      subst c54
      have htm : tq_a54 ∈ m1 := (hdm _).mp (gl_mem htl)
      have htn : tq_a54 ≠ a47 := fun e => hnn (e ▸ htm)
      refine g_aload (q := 66) B dJ4_treeifyBin_64 rfl rfl (rv_r _) ?_
      refine g_aload (q := 68) B dJ4_treeifyBin_66 rfl rfl (rv_r _) ?_
      refine g_putTNG9 (q := 71) (k := 3) (x := some tq_a54) B hwc_1 List.mem_cons_self dJ4_treeifyBin_68 rfl rfl q1746 (Or.inl rfl) (fun wa_2_68 hwa_2_68 => ?_)
      refine (show Go g κ 71 [some (.ref h), some (.ref tl), some (.int hh), some (.int (nI cap)), some (.int (nI ix)), some (.ref x), some (va_rf hd), some (.ref tq_a54), some (.ref a47)] [] [[(h, .inr (23, [.null, .null, va_rf otl, .null, .int (nI n), .int (nI md), .int (nI thr), .float lfac]))], [(tl, .inl (g.2.1 6, cap, .inr (.inr (.inr (.inr tab)))))], w2, wa_2_68] vt.length (11 * vt.length) from ?_)
      refine g_aload (q := 73) B dJ4_treeifyBin_71 rfl rfl (rv_r _) ?_
      refine g_aload (q := 75) B dJ4_treeifyBin_73 rfl rfl (rv_r _) ?_
      refine g_putTNG5 (q := 78) (k := 3) (x := some a47) B hwa_2_68 (List.mem_cons_of_mem _ htm) dJ4_treeifyBin_75 rfl rfl q1694 (Or.inr q1691) (fun wa_3_75 hwa_3_75 => ?_)
      refine (show Go g κ 78 [some (.ref h), some (.ref tl), some (.int hh), some (.int (nI cap)), some (.int (nI ix)), some (.ref x), some (va_rf hd), some (.ref tq_a54), some (.ref a47)] [] [[(h, .inr (23, [.null, .null, va_rf otl, .null, .int (nI n), .int (nI md), .int (nI thr), .float lfac]))], [(tl, .inl (g.2.1 6, cap, .inr (.inr (.inr (.inr tab)))))], w2, wa_3_75] vt.length (11 * vt.length) from ?_)
      refine g_aload (q := 80) B dJ4_treeifyBin_78 rfl rfl (rv_r _) ?_
      refine g_astore (q := 82) (lv2 := [some (.ref h), some (.ref tl), some (.int hh), some (.int (nI cap)), some (.int (nI ix)), some (.ref x), some (va_rf hd), some (.ref a47), some (.ref a47)]) B dJ4_treeifyBin_80 rfl (Nat.le_of_ble_eq_true rfl) (rv_r _) (by simp only [lst1, lclr_o]; try rfl) ?_
      refine g_aload (q := 84) B dJ4_treeifyBin_82 rfl rfl (rv_r _) ?_
      refine g_getM (v := va_rf (nx x)) (q := 87) B (ci := 24) (k := 2) (j := 3) in_J38 rfl dJ4_treeifyBin_84 rfl rfl (NodG.mem hw2 hxm) (Nat.le_of_ble_eq_true rfl) q1693 rfl rfl ?_
      refine g_dup (q := 88) B dJ4_treeifyBin_87 rfl (rv_c (rv_o _)) ?_
      refine g_astore (q := 90) (lv2 := [some (.ref h), some (.ref tl), some (.int hh), some (.int (nI cap)), some (.int (nI ix)), some (va_rf (nx x)), some (va_rf hd), some (.ref a47), some (.ref a47)]) B dJ4_treeifyBin_88 rfl (Nat.le_of_ble_eq_true rfl) (rv_o _) rfl ?_
      refine g_ifnonnull_o (tgt := 43) (q := 93) B dJ4_treeifyBin_90 rfl (by decide) (fun nxx_a90 c90 => ?_) (fun c90 => ?_)
      · skip
        rw [c90]
        refine (show Go g κ 43 [some (.ref h), some (.ref tl), some (.int hh), some (.int (nI cap)), some (.int (nI ix)), some (.ref nxx_a90), some (va_rf hd), some (.ref a47), some (.ref a47)] [] [[(h, .inr (23, [.null, .null, va_rf otl, .null, .int (nI n), .int (nI md), .int (nI thr), .float lfac]))], [(tl, .inl (g.2.1 6, cap, .inr (.inr (.inr (.inr tab)))))], w2, wa_3_75] vt.length (11 * vt.length) from ?_)
        refine g_fg 8 rfl ?_
        obtain ⟨v2, hv2⟩ : ∃ v2, vt = nxx_a90 :: v2 := by
          have zz := hV
          rw [c90] at zz
          cases vt with
          | nil => exact absurd zz (by simp [Ch])
          | cons q t => obtain ⟨e, -⟩ := zz; cases e; exact ⟨t, rfl⟩
        subst hv2
        have hVz : Ch nx (nx nxx_a90) v2 := (by have zz := hV; rw [c90] at zz; exact zz.2)
        refine g_room (kc2 := cs.length - (us ++ [x]).length) (ks2 := 11 * cs.length - 11 * (us ++ [x]).length) (by first | (simp at hlen ⊢; omega) | (simp <;> omega)) (by first | (simp at hlen ⊢; omega) | (simp <;> omega)) ?_
        exact ih43 _ (by rw [← hmu43]; simp) (us ++ [x]) nxx_a90 v2 (ds ++ [a47]) hd (some a47) (a47 :: m1) (fup hs2 a47 (hs x)) (fup ky2 a47 (ky x)) (fup vl2 a47 (vl x)) (fup (fup nx2 a47 none) tq_a54 (some a47)) (fup (fup pv2 a47 none) a47 (some tq_a54)) wa_3_75 hwa_3_75 (by rw [hcs2]; simp) (hVz) (ch_snoc hCd hdn hnd htl) (by rw [fup_fup]; exact pc_snoc hPd hnd (fun q hq => by rw [htl] at hq; exact hq) (fun e => by rw [e] at htl; cases htl)) (List.nodup_append.mpr ⟨hdn, by simp, fun a ha b hb e => by simp at hb; exact hnd (by rw [← hb, ← e]; exact ha)⟩) (fun b => by rw [List.mem_append, List.mem_cons, hdm b]; simp [or_comm]) (gl_snoc) (by
            rw [List.map_append, List.map_append, ← hmp]
            congr 1
            · refine List.map_congr_left fun b hb => ?_
              have hne : b ≠ a47 := fun e => hnd (e ▸ hb)
              simp only [fup_n hne]
            · simp only [List.map_cons, List.map_nil, fup_s]) rfl
      · skip
        rw [c90]
        refine (show Go g κ 93 [some (.ref h), some (.ref tl), some (.int hh), some (.int (nI cap)), some (.int (nI ix)), some (.null), some (va_rf hd), some (.ref a47), some (.ref a47)] [] [[(h, .inr (23, [.null, .null, va_rf otl, .null, .int (nI n), .int (nI md), .int (nI thr), .float lfac]))], [(tl, .inl (g.2.1 6, cap, .inr (.inr (.inr (.inr tab)))))], w2, wa_3_75] vt.length (11 * vt.length) from ?_)
        refine g_room (kc2 := 0) (ks2 := 0) (Nat.zero_le _) (Nat.zero_le _) ?_
        have hve : vt = [] := by
          have zz := ch_head hV
          rw [c90] at zz
          exact List.head?_eq_none_iff.mp zz.symm
        subst hve
        have fC : Ch (fup (fup nx2 a47 none) tq_a54 (some a47)) hd (ds ++ [a47]) := ch_snoc hCd hdn hnd htl
        have fP : Pc (fup (fup pv2 a47 none) a47 (some tq_a54)) none (ds ++ [a47]) := by rw [fup_fup]; exact pc_snoc hPd hnd (fun q hq => by rw [htl] at hq; exact hq) (fun e => by rw [e] at htl; cases htl)
        have fN : (ds ++ [a47]).Nodup := List.nodup_append.mpr ⟨hdn, by simp, fun a ha b hb e => by simp at hb; exact hnd (by rw [← hb, ← e]; exact ha)⟩
        have fM : ∀ b, b ∈ ds ++ [a47] ↔ b ∈ (a47 :: m1) := fun b => by rw [List.mem_append, List.mem_cons, hdm b]; simp [or_comm]
        have fmp0 : (ds ++ [a47]).map (fun a => ((fup hs2 a47 (hs x)) a, (fup ky2 a47 (ky x)) a, (fup vl2 a47 (vl x)) a)) = (us ++ [x]).map (fun a => (hs a, ky a, vl a)) := by
            rw [List.map_append, List.map_append, ← hmp]
            congr 1
            · refine List.map_congr_left fun b hb => ?_
              have hne : b ≠ a47 := fun e => hnd (e ▸ hb)
              simp only [fup_n hne]
            · simp only [List.map_cons, List.map_nil, fup_s]
        have fmp : (ds ++ [a47]).map (fun a => ((fup hs2 a47 (hs x)) a, (fup ky2 a47 (ky x)) a, (fup vl2 a47 (vl x)) a)) = cs.map (fun a => (hs a, ky a, vl a)) := by rw [hcs2]; exact fmp0
        obtain ⟨hd0, hhd0⟩ : ∃ q, hd = some q := by
          cases e : hd with
          | some q => exact ⟨q, rfl⟩
          | none =>
            have zz := ch_head fC
            rw [e] at zz
            have := List.head?_eq_none_iff.mp zz.symm
            simp at this
        subst hhd0
        refine (show Go g κ 93 [some (.ref h), some (.ref tl), some (.int hh), some (.int (nI cap)), some (.int (nI ix)), some (.null), some (.ref hd0), some (.ref a47), some (.ref a47)] [] [[(h, .inr (23, [.null, .null, va_rf otl, .null, .int (nI n), .int (nI md), .int (nI thr), .float lfac]))], [(tl, .inl (g.2.1 6, cap, .inr (.inr (.inr (.inr tab)))))], w2, wa_3_75] 0 0 from ?_)
        have hzd : hd0 ∈ (a47 :: m1) := (fM _).mp (List.mem_of_mem_head? (by rw [← ch_head fC]; rfl))
        have hcm : ∀ b ∈ (a47 :: m1), ∃ q ∈ ns, (fup hs2 a47 (hs x)) b = hs q := fun b hb => by
          have zz : ((fup hs2 a47 (hs x)) b, (fup ky2 a47 (ky x)) b, (fup vl2 a47 (vl x)) b) ∈ cs.map (fun a => (hs a, ky a, vl a)) := by rw [← fmp]; exact List.mem_map.mpr ⟨b, (fM b).mpr hb, rfl⟩
          obtain ⟨q, hq, e⟩ := List.mem_map.mp zz
          exact ⟨q, (hM q).mp hq, (congrArg Prod.fst e).symm⟩
        have hnd1 : ((ds ++ [a47]).map (fup hs2 a47 (hs x))).Nodup := by
          have zz : ((ds ++ [a47]).map (fun a => ((fup hs2 a47 (hs x)) a, (fup ky2 a47 (ky x)) a, (fup vl2 a47 (vl x)) a))).map (·.1) = (cs.map (fun a => (hs a, ky a, vl a))).map (·.1) := by rw [fmp]
          rw [List.map_map, List.map_map] at zz
          have z2 : (cs.map hs).Nodup := nd_map hN (fun b hb c hc e => hij b ((hM b).mp hb) c ((hM c).mp hc) e)
          have z3 : (ds ++ [a47]).map (fup hs2 a47 (hs x)) = cs.map hs := zz
          rw [z3]; exact z2
        refine g_aload_n (q := 94) B dJ4_treeifyBin_93 rfl rfl (rv_r _) ?_
        refine g_iload (q := 96) B dJ4_treeifyBin_94 rfl rfl ?_
        refine g_aload (q := 98) B dJ4_treeifyBin_96 rfl rfl (rv_r _) ?_
        refine g_dup_x2 (q := 99) B dJ4_treeifyBin_98 rfl rfl rfl rfl ?_
        refine g_astO (q := 100) (L2 := [[(h, .inr (23, [.null, .null, va_rf otl, .null, .int (nI n), .int (nI md), .int (nI thr), .float lfac]))], [(tl, .inl (g.2.1 6, cap, .inr (.inr (.inr (.inr (va_up tab ix (some hd0)))))))], w2, wa_3_75]) B (k := 1) (t := 6) (C := "java/util/HashMap$TreeNode") (rc_in B (ci := 25) rfl (k := 3) rfl ⟨_, TNG.mem hwa_3_75 hzd⟩) (as_c q3727) dJ4_treeifyBin_99 rfl rfl rfl (vp_in_nI (by omega) (by omega)) (by rw [nI_clamp (by omega)] <;> rfl) ?_
        refine g_ifnull_r (q := 103) B dJ4_treeifyBin_100 rfl ?_
        refine g_aload (q := 105) B dJ4_treeifyBin_103 rfl rfl (rv_r _) ?_
        refine g_aload_n (q := 106) B dJ4_treeifyBin_105 rfl rfl (rv_r _) ?_
        refine g_callV (q := 109) (is := [1, 2]) (kc2 := 0) (ks2 := 0) B [.ref tl] (ct_J40_treeify g J (tl := tl) (cap := cap) (tab := va_up tab ix (some hd0)) (ix := ix) (cs := (ds ++ [a47])) (ns := (a47 :: m1)) (hs := (fup hs2 a47 (hs x))) (ky := (fup ky2 a47 (ky x))) (vl := (fup vl2 a47 (vl x))) (nx := (fup (fup nx2 a47 none) tq_a54 (some a47))) (pp0 := (fun _ => none)) (lf0 := (fun _ => none)) (rg0 := (fun _ => none)) (pv := (fup (fup pv2 a47 none) a47 (some tq_a54))) (rd0 := (fun _ => false)) (a := hd0) hwa_3_75 (by omega) (by omega) (fun b hb => by obtain ⟨q, hq, e⟩ := hcm b hb; rw [e]; exact hix q hq) (hix2) (by simp [va_up]) (fun b hb c hc e => nd_inj hnd1 ((fM b).mpr hb) ((fM c).mpr hc) e) (by simp only [va_up, if_true]; exact fC) (fP) (fN) (fM)) dJ4_treeifyBin_106 rfl (rc_in B (ci := 25) rfl (k := 3) rfl ⟨_, TNG.mem hwa_3_75 hzd⟩) rfl q1775 q1705 q1706 q131 q1707 rfl rfl moJ40_treeify rfl rfl (by decide) (by decide) (Nat.le_of_ble_eq_true rfl) (Nat.le_of_ble_eq_true rfl) (Nat.le_of_ble_eq_true rfl) (fun _ _ hx => noX_x hx) (fun v106 L1 hp106 => ?_)
        obtain ⟨n1106, nx2106, pv2106, lf2106, rg2106, pp2106, rd2106, lo2106, hi2106, root2106, cs2106, u1_106, rfl, rfl, hu1_106, hm_106, hT2_106, hC2_106⟩ := hp106
        refine (show Go g κ 109 [some (.ref h), some (.ref tl), some (.int hh), some (.int (nI cap)), some (.int (nI ix)), some (.null), some (.ref hd0), some (.ref a47), some (.ref a47)] [] [[(h, .inr (23, [.null, .null, va_rf otl, .null, .int (nI n), .int (nI md), .int (nI thr), .float lfac]))], w2, [(tl, .inl (g.2.1 6, cap, .inr (.inr (.inr (.inr (va_up (va_up tab ix (some hd0)) ix (some root2106)))))))], u1_106] 0 0 from ?_)
        rw [up_up]
        refine (show Go g κ 109 [some (.ref h), some (.ref tl), some (.int hh), some (.int (nI cap)), some (.int (nI ix)), some (.null), some (.ref hd0), some (.ref a47), some (.ref a47)] [] [[(h, .inr (23, [.null, .null, va_rf otl, .null, .int (nI n), .int (nI md), .int (nI thr), .float lfac]))], w2, [(tl, .inl (g.2.1 6, cap, .inr (.inr (.inr (.inr (va_up tab ix (some root2106)))))))], u1_106] 0 0 from ?_)
        obtain ⟨wc_4, ewc_4⟩ : ∃ w : va_W, w = ([u1_106] : List va_W).flatten := ⟨_, rfl⟩
        have hwc_4 : BinP g bm (some root2106) (cs.map (fun a => (hs a, ky a, vl a))) wc_4 := by
          rw [ewc_4]
          exact Or.inr ⟨n1106, cs2106, _, _, _, nx2106, pp2106, lf2106, rg2106, pv2106, rd2106, lo2106, hi2106, root2106, (by simpa using hu1_106), hC2_106.1, hC2_106.2.2.1, hC2_106.2.2.2, (by rw [← fmp]; exact List.Perm.map _ ((List.perm_ext_iff_of_nodup fN hC2_106.2.2.1).mpr fun b => by rw [fM b, ← hm_106 b, ← hC2_106.2.2.2 b])), hC2_106.2.1, hT2_106, hb10⟩
        refine g_close (w := wc_4) [3] rfl ewc_4 rfl ?_
        refine (show Go g κ 109 [some (.ref h), some (.ref tl), some (.int hh), some (.int (nI cap)), some (.int (nI ix)), some (.null), some (.ref hd0), some (.ref a47), some (.ref a47)] [] [[(h, .inr (23, [.null, .null, va_rf otl, .null, .int (nI n), .int (nI md), .int (nI thr), .float lfac]))], w2, [(tl, .inl (g.2.1 6, cap, .inr (.inr (.inr (.inr (va_up tab ix (some root2106)))))))], wc_4] 0 0 from ?_)
        refine g_pk [0, 1, 1] rfl rfl ?_
        refine (show Go g κ 109 [some (.ref h), some (.ref tl), some (.int hh), some (.int (nI cap)), some (.int (nI ix)), some (.null), some (.ref hd0), some (.ref a47), some (.ref a47)] [] [[(h, .inr (23, [.null, .null, va_rf otl, .null, .int (nI n), .int (nI md), .int (nI thr), .float lfac]))], [(tl, .inl (g.2.1 6, cap, .inr (.inr (.inr (.inr (va_up tab ix (some root2106)))))))], wc_4] 0 0 from ?_)
        exact g_vret B E dJ4_treeifyBin_109 (⟨some root2106, _, rfl, rfl, hwc_4⟩)
    · skip
      subst c54
      refine g_aload (q := 59) B dJ4_treeifyBin_57 rfl rfl (rv_r _) ?_
      refine g_astore (q := 61) (lv2 := [some (.ref h), some (.ref tl), some (.int hh), some (.int (nI cap)), some (.int (nI ix)), some (.ref x), some (.ref a47), some (.null), some (.ref a47)]) B dJ4_treeifyBin_59 rfl (Nat.le_of_ble_eq_true rfl) (rv_r _) rfl ?_
      refine g_goto (tgt := 78) B dJ4_treeifyBin_61 (by decide) ?_
      refine g_aload (q := 80) B dJ4_treeifyBin_78 rfl rfl (rv_r _) ?_
      refine g_astore (q := 82) (lv2 := [some (.ref h), some (.ref tl), some (.int hh), some (.int (nI cap)), some (.int (nI ix)), some (.ref x), some (.ref a47), some (.ref a47), some (.ref a47)]) B dJ4_treeifyBin_80 rfl (Nat.le_of_ble_eq_true rfl) (rv_r _) rfl ?_
      refine g_aload (q := 84) B dJ4_treeifyBin_82 rfl rfl (rv_r _) ?_
      refine g_getM (v := va_rf (nx x)) (q := 87) B (ci := 24) (k := 2) (j := 3) in_J38 rfl dJ4_treeifyBin_84 rfl rfl (NodG.mem hw2 hxm) (Nat.le_of_ble_eq_true rfl) q1693 rfl rfl ?_
      refine g_dup (q := 88) B dJ4_treeifyBin_87 rfl (rv_c (rv_o _)) ?_
      refine g_astore (q := 90) (lv2 := [some (.ref h), some (.ref tl), some (.int hh), some (.int (nI cap)), some (.int (nI ix)), some (va_rf (nx x)), some (.ref a47), some (.ref a47), some (.ref a47)]) B dJ4_treeifyBin_88 rfl (Nat.le_of_ble_eq_true rfl) (rv_o _) rfl ?_
      refine g_ifnonnull_o (tgt := 43) (q := 93) B dJ4_treeifyBin_90 rfl (by decide) (fun nxx_a90 c90 => ?_) (fun c90 => ?_)
      · skip
        rw [c90]
        refine (show Go g κ 43 [some (.ref h), some (.ref tl), some (.int hh), some (.int (nI cap)), some (.int (nI ix)), some (.ref nxx_a90), some (.ref a47), some (.ref a47), some (.ref a47)] [] [[(h, .inr (23, [.null, .null, va_rf otl, .null, .int (nI n), .int (nI md), .int (nI thr), .float lfac]))], [(tl, .inl (g.2.1 6, cap, .inr (.inr (.inr (.inr tab)))))], w2, wc_1] vt.length (11 * vt.length) from ?_)
        refine g_fg 8 rfl ?_
        obtain ⟨v2, hv2⟩ : ∃ v2, vt = nxx_a90 :: v2 := by
          have zz := hV
          rw [c90] at zz
          cases vt with
          | nil => exact absurd zz (by simp [Ch])
          | cons q t => obtain ⟨e, -⟩ := zz; cases e; exact ⟨t, rfl⟩
        subst hv2
        have hVz : Ch nx (nx nxx_a90) v2 := (by have zz := hV; rw [c90] at zz; exact zz.2)
        refine g_room (kc2 := cs.length - (us ++ [x]).length) (ks2 := 11 * cs.length - 11 * (us ++ [x]).length) (by first | (simp at hlen ⊢; omega) | (simp <;> omega)) (by first | (simp at hlen ⊢; omega) | (simp <;> omega)) ?_
        exact ih43 _ (by rw [← hmu43]; simp) (us ++ [x]) nxx_a90 v2 (ds ++ [a47]) (some a47) (some a47) (a47 :: m1) (fup hs2 a47 (hs x)) (fup ky2 a47 (ky x)) (fup vl2 a47 (vl x)) (fup nx2 a47 none) (fup pv2 a47 none) wc_1 hwc_1 (by rw [hcs2]; simp) (hVz) (by rw [gl_none htl]; exact ⟨rfl, fup_s _ _ _⟩) (by rw [gl_none htl]; exact ⟨fup_s _ _ _, trivial⟩) (List.nodup_append.mpr ⟨hdn, by simp, fun a ha b hb e => by simp at hb; exact hnd (by rw [← hb, ← e]; exact ha)⟩) (fun b => by rw [List.mem_append, List.mem_cons, hdm b]; simp [or_comm]) (gl_snoc) (by
            rw [List.map_append, List.map_append, ← hmp]
            congr 1
            · refine List.map_congr_left fun b hb => ?_
              have hne : b ≠ a47 := fun e => hnd (e ▸ hb)
              simp only [fup_n hne]
            · simp only [List.map_cons, List.map_nil, fup_s]) rfl
      · skip
        rw [c90]
        refine (show Go g κ 93 [some (.ref h), some (.ref tl), some (.int hh), some (.int (nI cap)), some (.int (nI ix)), some (.null), some (.ref a47), some (.ref a47), some (.ref a47)] [] [[(h, .inr (23, [.null, .null, va_rf otl, .null, .int (nI n), .int (nI md), .int (nI thr), .float lfac]))], [(tl, .inl (g.2.1 6, cap, .inr (.inr (.inr (.inr tab)))))], w2, wc_1] vt.length (11 * vt.length) from ?_)
        refine g_room (kc2 := 0) (ks2 := 0) (Nat.zero_le _) (Nat.zero_le _) ?_
        have hve : vt = [] := by
          have zz := ch_head hV
          rw [c90] at zz
          exact List.head?_eq_none_iff.mp zz.symm
        subst hve
        have fC : Ch (fup nx2 a47 none) (some a47) (ds ++ [a47]) := by rw [gl_none htl]; exact ⟨rfl, fup_s _ _ _⟩
        have fP : Pc (fup pv2 a47 none) none (ds ++ [a47]) := by rw [gl_none htl]; exact ⟨fup_s _ _ _, trivial⟩
        have fN : (ds ++ [a47]).Nodup := List.nodup_append.mpr ⟨hdn, by simp, fun a ha b hb e => by simp at hb; exact hnd (by rw [← hb, ← e]; exact ha)⟩
        have fM : ∀ b, b ∈ ds ++ [a47] ↔ b ∈ (a47 :: m1) := fun b => by rw [List.mem_append, List.mem_cons, hdm b]; simp [or_comm]
        have fmp0 : (ds ++ [a47]).map (fun a => ((fup hs2 a47 (hs x)) a, (fup ky2 a47 (ky x)) a, (fup vl2 a47 (vl x)) a)) = (us ++ [x]).map (fun a => (hs a, ky a, vl a)) := by
            rw [List.map_append, List.map_append, ← hmp]
            congr 1
            · refine List.map_congr_left fun b hb => ?_
              have hne : b ≠ a47 := fun e => hnd (e ▸ hb)
              simp only [fup_n hne]
            · simp only [List.map_cons, List.map_nil, fup_s]
        have fmp : (ds ++ [a47]).map (fun a => ((fup hs2 a47 (hs x)) a, (fup ky2 a47 (ky x)) a, (fup vl2 a47 (vl x)) a)) = cs.map (fun a => (hs a, ky a, vl a)) := by rw [hcs2]; exact fmp0
        have hzd : a47 ∈ (a47 :: m1) := (fM _).mp (List.mem_of_mem_head? (by rw [← ch_head fC]; rfl))
        have hcm : ∀ b ∈ (a47 :: m1), ∃ q ∈ ns, (fup hs2 a47 (hs x)) b = hs q := fun b hb => by
          have zz : ((fup hs2 a47 (hs x)) b, (fup ky2 a47 (ky x)) b, (fup vl2 a47 (vl x)) b) ∈ cs.map (fun a => (hs a, ky a, vl a)) := by rw [← fmp]; exact List.mem_map.mpr ⟨b, (fM b).mpr hb, rfl⟩
          obtain ⟨q, hq, e⟩ := List.mem_map.mp zz
          exact ⟨q, (hM q).mp hq, (congrArg Prod.fst e).symm⟩
        have hnd1 : ((ds ++ [a47]).map (fup hs2 a47 (hs x))).Nodup := by
          have zz : ((ds ++ [a47]).map (fun a => ((fup hs2 a47 (hs x)) a, (fup ky2 a47 (ky x)) a, (fup vl2 a47 (vl x)) a))).map (·.1) = (cs.map (fun a => (hs a, ky a, vl a))).map (·.1) := by rw [fmp]
          rw [List.map_map, List.map_map] at zz
          have z2 : (cs.map hs).Nodup := nd_map hN (fun b hb c hc e => hij b ((hM b).mp hb) c ((hM c).mp hc) e)
          have z3 : (ds ++ [a47]).map (fup hs2 a47 (hs x)) = cs.map hs := zz
          rw [z3]; exact z2
        refine g_aload_n (q := 94) B dJ4_treeifyBin_93 rfl rfl (rv_r _) ?_
        refine g_iload (q := 96) B dJ4_treeifyBin_94 rfl rfl ?_
        refine g_aload (q := 98) B dJ4_treeifyBin_96 rfl rfl (rv_r _) ?_
        refine g_dup_x2 (q := 99) B dJ4_treeifyBin_98 rfl rfl rfl rfl ?_
        refine g_astO (q := 100) (L2 := [[(h, .inr (23, [.null, .null, va_rf otl, .null, .int (nI n), .int (nI md), .int (nI thr), .float lfac]))], [(tl, .inl (g.2.1 6, cap, .inr (.inr (.inr (.inr (va_up tab ix (some a47)))))))], w2, wc_1]) B (k := 1) (t := 6) (C := "java/util/HashMap$TreeNode") (rc_in B (ci := 25) rfl (k := 3) rfl ⟨_, TNG.mem hwc_1 hzd⟩) (as_c q3727) dJ4_treeifyBin_99 rfl rfl rfl (vp_in_nI (by omega) (by omega)) (by rw [nI_clamp (by omega)] <;> rfl) ?_
        refine g_ifnull_r (q := 103) B dJ4_treeifyBin_100 rfl ?_
        refine g_aload (q := 105) B dJ4_treeifyBin_103 rfl rfl (rv_r _) ?_
        refine g_aload_n (q := 106) B dJ4_treeifyBin_105 rfl rfl (rv_r _) ?_
        refine g_callV (q := 109) (is := [1, 2]) (kc2 := 0) (ks2 := 0) B [.ref tl] (ct_J40_treeify g J (tl := tl) (cap := cap) (tab := va_up tab ix (some a47)) (ix := ix) (cs := (ds ++ [a47])) (ns := (a47 :: m1)) (hs := (fup hs2 a47 (hs x))) (ky := (fup ky2 a47 (ky x))) (vl := (fup vl2 a47 (vl x))) (nx := (fup nx2 a47 none)) (pp0 := (fun _ => none)) (lf0 := (fun _ => none)) (rg0 := (fun _ => none)) (pv := (fup pv2 a47 none)) (rd0 := (fun _ => false)) (a := a47) hwc_1 (by omega) (by omega) (fun b hb => by obtain ⟨q, hq, e⟩ := hcm b hb; rw [e]; exact hix q hq) (hix2) (by simp [va_up]) (fun b hb c hc e => nd_inj hnd1 ((fM b).mpr hb) ((fM c).mpr hc) e) (by simp only [va_up, if_true]; exact fC) (fP) (fN) (fM)) dJ4_treeifyBin_106 rfl (rc_in B (ci := 25) rfl (k := 3) rfl ⟨_, TNG.mem hwc_1 hzd⟩) rfl q1775 q1705 q1706 q131 q1707 rfl rfl moJ40_treeify rfl rfl (by decide) (by decide) (Nat.le_of_ble_eq_true rfl) (Nat.le_of_ble_eq_true rfl) (Nat.le_of_ble_eq_true rfl) (fun _ _ hx => noX_x hx) (fun v106 L1 hp106 => ?_)
        obtain ⟨n1106, nx2106, pv2106, lf2106, rg2106, pp2106, rd2106, lo2106, hi2106, root2106, cs2106, u1_106, rfl, rfl, hu1_106, hm_106, hT2_106, hC2_106⟩ := hp106
        refine (show Go g κ 109 [some (.ref h), some (.ref tl), some (.int hh), some (.int (nI cap)), some (.int (nI ix)), some (.null), some (.ref a47), some (.ref a47), some (.ref a47)] [] [[(h, .inr (23, [.null, .null, va_rf otl, .null, .int (nI n), .int (nI md), .int (nI thr), .float lfac]))], w2, [(tl, .inl (g.2.1 6, cap, .inr (.inr (.inr (.inr (va_up (va_up tab ix (some a47)) ix (some root2106)))))))], u1_106] 0 0 from ?_)
        rw [up_up]
        refine (show Go g κ 109 [some (.ref h), some (.ref tl), some (.int hh), some (.int (nI cap)), some (.int (nI ix)), some (.null), some (.ref a47), some (.ref a47), some (.ref a47)] [] [[(h, .inr (23, [.null, .null, va_rf otl, .null, .int (nI n), .int (nI md), .int (nI thr), .float lfac]))], w2, [(tl, .inl (g.2.1 6, cap, .inr (.inr (.inr (.inr (va_up tab ix (some root2106)))))))], u1_106] 0 0 from ?_)
        obtain ⟨wc_5, ewc_5⟩ : ∃ w : va_W, w = ([u1_106] : List va_W).flatten := ⟨_, rfl⟩
        have hwc_5 : BinP g bm (some root2106) (cs.map (fun a => (hs a, ky a, vl a))) wc_5 := by
          rw [ewc_5]
          exact Or.inr ⟨n1106, cs2106, _, _, _, nx2106, pp2106, lf2106, rg2106, pv2106, rd2106, lo2106, hi2106, root2106, (by simpa using hu1_106), hC2_106.1, hC2_106.2.2.1, hC2_106.2.2.2, (by rw [← fmp]; exact List.Perm.map _ ((List.perm_ext_iff_of_nodup fN hC2_106.2.2.1).mpr fun b => by rw [fM b, ← hm_106 b, ← hC2_106.2.2.2 b])), hC2_106.2.1, hT2_106, hb10⟩
        refine g_close (w := wc_5) [3] rfl ewc_5 rfl ?_
        refine (show Go g κ 109 [some (.ref h), some (.ref tl), some (.int hh), some (.int (nI cap)), some (.int (nI ix)), some (.null), some (.ref a47), some (.ref a47), some (.ref a47)] [] [[(h, .inr (23, [.null, .null, va_rf otl, .null, .int (nI n), .int (nI md), .int (nI thr), .float lfac]))], w2, [(tl, .inl (g.2.1 6, cap, .inr (.inr (.inr (.inr (va_up tab ix (some root2106)))))))], wc_5] 0 0 from ?_)
        refine g_pk [0, 1, 1] rfl rfl ?_
        refine (show Go g κ 109 [some (.ref h), some (.ref tl), some (.int hh), some (.int (nI cap)), some (.int (nI ix)), some (.null), some (.ref a47), some (.ref a47), some (.ref a47)] [] [[(h, .inr (23, [.null, .null, va_rf otl, .null, .int (nI n), .int (nI md), .int (nI thr), .float lfac]))], [(tl, .inl (g.2.1 6, cap, .inr (.inr (.inr (.inr (va_up tab ix (some root2106)))))))], wc_5] 0 0 from ?_)
        exact g_vret B E dJ4_treeifyBin_109 (⟨some root2106, _, rfl, rfl, hwc_5⟩)
  obtain ⟨wt0, ewt0⟩ : ∃ w : va_W, w = ([] : List va_W).flatten := ⟨_, rfl⟩
  have hwt0 : TNG g ([]) (fun _ => 0) (fun _ => 0) (fun _ => 0) (fun _ => none) (fun _ => none) (fun _ => none) (fun _ => none) (fun _ => none) (fun _ => false) wt0 := by
    rw [ewt0]
    exact TNG.nil
  refine g_close (w := wt0) [] rfl ewt0 rfl ?_
  refine (show Go g κ 43 [some (.ref h), some (.ref tl), some (.int hh), some (.int (nI cap)), some (.int (nI ix)), some (.ref a), some (.null), some (.null), none] [] [[(h, .inr (23, [.null, .null, va_rf otl, .null, .int (nI n), .int (nI md), .int (nI thr), .float lfac]))], [(tl, .inl (g.2.1 6, cap, .inr (.inr (.inr (.inr tab)))))], w2, wt0] cs.length (11 * cs.length) from ?_)
  refine g_room (kc2 := cs.length - ([] : List Nat).length) (ks2 := 11 * cs.length - 11 * ([] : List Nat).length) (by first | (simp at hlen ⊢; omega) | (simp <;> omega)) (by first | (simp at hlen ⊢; omega) | (simp <;> omega)) ?_
  exact lp43 _ ([] : List Nat) a ct0 ([] : List Nat) none none ([]) (fun _ => 0) (fun _ => 0) (fun _ => 0) (fun _ => none) (fun _ => none) wt0 hwt0 (hcs0) (hC0) (rfl) (trivial) (List.nodup_nil) (fun b => by simp) (rfl) (rfl) rfl
