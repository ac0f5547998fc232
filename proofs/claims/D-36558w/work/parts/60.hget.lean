set_option maxRecDepth 100000
def spr (h : Int32) : Int32 := h ^^^ (h.toUInt32 >>> ((nI 16).toUInt32 &&& Int32.toUInt32 31)).toInt32
theorem mojava_lang_Object_hashCode___I : Mo ⟨"java/lang/Object", "hashCode", "()I"⟩ 0 := by
  refine ⟨by decide, by decide, by decide +kernel⟩
theorem ct_J4_hash (g : Gv) (J : Jd g) {s : Nat} {c : List Nat} {w0 : va_W} (hw0 : StrP g s c w0) (hc2 : 2 ≤ c.length) : Ct g yJ4_hash (ws_ yJ4_hash cJ4_hash 2 (some .int)) 4 0 0 [.ref s] [w0] (fun (rv_ : Option Value) (rL_ : List va_W) => ∃ (u0 : va_W), rv_ = some (.int (spr (nI (hN c)))) ∧ rL_ = [u0] ∧ StrP g s c u0) noX := by
  refine Ct.of "java/util/HashMap" [some (.ref s), none] rfl (by decide) rfl (Nat.le_of_ble_eq_true rfl) rfl ?_
  intro κ B E tb
  refine g_aload_n (q := 1) B dJ4_hash_0 rfl rfl (rv_r _) ?_
  refine g_ifnonnull_r (tgt := 8) B dJ4_hash_1 (by decide) ?_
  refine g_aload_n (q := 9) B dJ4_hash_8 rfl rfl (rv_r _) ?_
  refine g_callA (q := 12) (is := [0]) (kc2 := 0) (ks2 := 0) B [] (ct_J16_hashCode g J (s := s) (c := c) hw0 (by first | assumption | omega | rfl)) dJ4_hash_9 rfl (rc_in B (ci := 36) rfl (k := 0) rfl (StrP.hm hw0)) q1261 (by decide) q1262 q1264 q1297 q1298 q99 q1299 rfl rfl mojava_lang_Object_hashCode___I rfl rfl (by decide) (by decide) (Nat.le_of_ble_eq_true rfl) (Nat.le_of_ble_eq_true rfl) (Nat.le_of_ble_eq_true rfl) (fun _ _ hx => noX_x hx) (fun v9 L1 hp9 => ?_)
  obtain ⟨u0_9, rfl, rfl, hu0_9⟩ := hp9
  refine (show Go g κ 12 [some (.ref s), none] [.int (nI (hN c))] [u0_9] 0 0 from ?_)
  refine g_dup (q := 13) B dJ4_hash_12 rfl rfl ?_
  refine g_istore_n (q := 14) (lv2 := [some (.ref s), some (.int (nI (hN c)))]) B dJ4_hash_13 rfl (Nat.le_of_ble_eq_true rfl) rfl ?_
  refine g_iload_n (q := 15) B dJ4_hash_14 rfl rfl ?_
  refine g_bipush (v := nI 16) (q := 17) B dJ4_hash_15 rfl (by decide) ?_
  refine g_iushr (v := ((nI (hN c)).toUInt32 >>> ((nI 16).toUInt32 &&& Int32.toUInt32 31)).toInt32) (q := 18) B dJ4_hash_17 rfl rfl ?_
  refine g_ixor (v := spr (nI (hN c))) (q := 19) B dJ4_hash_18 rfl rfl ?_
  exact g_iret B E dJ4_hash_19 (⟨u0_9, rfl, rfl, hu0_9⟩)
/-- the entries of one bin -/
def tfX (xs : List Tp) (cap b : Nat) : List Tp := xs.filter fun t => hU t.1 % cap == b
def bmx (kk : Nat) : Nat := if kk = 4 then 8 else if kk = 5 then 9 else 10
/-- a HashMap at h with the entries xs (hash code, key's place, value's place); cap: the table's room, 0: there is none yet -/
def HmT (g : Gv) (h : Nat) (xs : List Tp) (cap : Nat) (w : va_W) : Prop := (xs.map (·.1)).Nodup ∧ xs.length < 1000 ∧
  ((cap = 0 ∧ xs = [] ∧ ∃ (md : Nat) (lfac : UInt32), w = ([[(h, .inr (23, [.null, .null, .null, .null, .int (nI 0), .int (nI md), .int (nI 0), .float lfac]))]] : List va_W).flatten) ∨
   ∃ (kk tl md thr : Nat) (lfac : UInt32) (tab : Nat → Option Nat) (wb : va_W), cap = 2 ^ kk ∧ 4 ≤ kk ∧ kk ≤ 18 ∧ 4 * thr = 3 * cap ∧ TbP g (bmx kk) cap tab (tfX xs cap) wb ∧ w = ([[(h, .inr (23, [.null, .null, .ref tl, .null, .int (nI xs.length), .int (nI md), .int (nI thr), .float lfac]))], [(tl, .inl (g.2.1 6, cap, .inr (.inr (.inr (.inr tab)))))], wb] : List va_W).flatten)
theorem HmT.hm {g : Gv} {h : Nat} {xs : List Tp} {cap : Nat} {w : va_W} (hh : HmT g h xs cap w) : ∃ fs, (h, .inr (23, fs)) ∈ w := by
  rcases hh with ⟨-, -, ⟨-, -, md, lf, rfl⟩ | ⟨kk, tl, md, thr, lf, tab, wb, -, -, -, -, -, rfl⟩⟩
  · exact ⟨_, List.mem_cons_self⟩
  · exact ⟨_, List.mem_cons_self⟩
theorem bmx_6 (kk : Nat) : 6 ≤ bmx kk := by unfold bmx; split; omega; split <;> omega
theorem tf_op {g : Gv} {bm cap : Nat} {tab : Nat → Option Nat} {tf : Nat → List Tp} {w : va_W} (h : TbP g bm cap tab tf w) {j : Nat} (hj : j < cap) : ∃ w1 wj w2 : va_W, BinP g bm (tab j) (tf j) wj ∧ (∀ (bm2 : Nat) (tab2 : Nat → Option Nat) (tf2 : Nat → List Tp) (u : va_W), bm ≤ bm2 → (∀ b, b < cap → b ≠ j → tab2 b = tab b ∧ (tf2 b).Perm (tf b)) → BinP g bm2 (tab2 j) (tf2 j) u → TbP g bm2 cap tab2 tf2 ([w1, u, w2] : List va_W).flatten) ∧ w = ([w1, wj, w2] : List va_W).flatten := by
  obtain ⟨w1, wj, w2, h1, h2, h3⟩ := Big.opn h hj
  refine ⟨w1, wj, w2, h1, fun bm2 tab2 tf2 u hb ho hu => ?_, h3⟩
  refine h2 (fun b v => BinP g bm2 (tab2 b) (tf2 b) v) u (fun b hb2 hne v hv => ?_) hu
  obtain ⟨e1, e2⟩ := ho b hb2 hne
  show BinP g bm2 (tab2 b) (tf2 b) v
  rw [e1]
  refine BinP.perm ?_ e2
  rcases hv with ⟨ns, cs, hs, ky, vl, nx, a1, a2, a3, a4, a5, a6⟩ | ⟨ns, cs, hs, ky, vl, nx, pp, lf, rg, pv, rd, lo, hi, root, a1, a2, a3, a4, a5, a6, a7, a8⟩
  · exact Or.inl ⟨ns, cs, hs, ky, vl, nx, a1, a2, a3, a4, a5, Nat.le_trans a6 hb⟩
  · exact Or.inr ⟨ns, cs, hs, ky, vl, nx, pp, lf, rg, pv, rd, lo, hi, root, a1, a2, a3, a4, a5, a6, a7, Nat.le_trans a8 hb⟩
theorem ix_hu {kk : Nat} (hk : kk ≤ 20) (h : Int32) : nI (2 ^ kk - 1) &&& h = nI (hU h % 2 ^ kk) := ix_and (by omega) h
theorem tfX_mem {xs : List Tp} {cap b : Nat} {t : Tp} : t ∈ tfX xs cap b ↔ t ∈ xs ∧ hU t.1 % cap = b := by unfold tfX; rw [List.mem_filter]; simp
theorem ct_J4_init (g : Gv) (J : Jd g) {h : Nat} : Ct g yJ4_init (ws_ yJ4_init cJ4_init 1 none) 2 0 0 [.ref h] [[(h, .inr (23, [.null, .null, .null, .null, .int (nI 0), .int (nI 0), .int (nI 0), .float 0]))]] (fun (rv_ : Option Value) (rL_ : List va_W) => ∃ (u0 : va_W), rv_ = none ∧ rL_ = [u0] ∧ HmT g h ([]) 0 u0) noX := by
  refine Ct.ofI "java/util/HashMap" [some (.ref h)] rfl (by decide) rfl (Nat.le_of_ble_eq_true rfl) rfl rfl ?_
  intro κ B E tb ini
  refine g_aload_n (q := 1) B dJ4_init_0 rfl rfl (rv_r _) ?_
  refine g_callI (q := 4) (is := []) (kc2 := 0) (ks2 := 0) B [] (ct_J3_init g J (t := h)  ) dJ4_init_1 rfl rfl q199 q200 q82 q201 rfl rfl moJ3_init rfl rfl (by decide) (by decide) (Nat.le_of_ble_eq_true rfl) (Nat.le_of_ble_eq_true rfl) (Nat.le_of_ble_eq_true rfl) (fun _ _ hx => noX_x hx) (fun v1 L1 hp1 => ?_)
  obtain ⟨rfl, rfl⟩ := hp1
  refine (show Go g κ 4 [some (.ref h)] [] [[(h, .inr (23, [.null, .null, .null, .null, .int (nI 0), .int (nI 0), .int (nI 0), .float 0]))]] 0 0 from ?_)
  refine g_aload_n (q := 5) B dJ4_init_4 rfl rfl (rv_r _) ?_
  refine g_ldcf (q := 7) B dJ4_init_5 rfl q203 ?_
  refine g_putF (q := 10) (L2 := [[(h, .inr (23, [.null, .null, .null, .null, .int (nI 0), .int (nI 0), .int (nI 0), .float 1061158912]))]]) B (ci := 23) (k := 0) (j := 7) in_J4 tyJ4 tyJ4_ok nmJ4 rfl dJ4_init_7 rfl rfl (Nat.le_of_ble_eq_true rfl) q212 rfl rfl (ini) rfl rfl rfl (Nat.le_of_ble_eq_true rfl) rfl ?_
  obtain ⟨wc_1, ewc_1⟩ : ∃ w : va_W, w = ([[(h, .inr (23, [.null, .null, .null, .null, .int (nI 0), .int (nI 0), .int (nI 0), .float 1061158912]))]] : List va_W).flatten := ⟨_, rfl⟩
  have hwc_1 : HmT g h ([]) 0 wc_1 := by
    rw [ewc_1]
    exact ⟨by simp, by decide, Or.inl ⟨rfl, rfl, 0, _, rfl⟩⟩
  refine g_close (w := wc_1) [0] rfl ewc_1 rfl ?_
  refine (show Go g κ 10 [some (.ref h)] [] [wc_1] 0 0 from ?_)
  exact g_vret B E dJ4_init_10 (⟨wc_1, rfl, rfl, hwc_1⟩)
theorem moJ4_hash : Mo yJ4_hash 1 := by
  refine ⟨by decide, by decide, by decide +kernel⟩
theorem moJ40_getTreeNode : Mo yJ40_getTreeNode 2 := by
  refine ⟨by decide, by decide, by decide +kernel⟩
theorem ct_J4_getNode_n (g : Gv) (J : Jd g) {h : Nat} {xs : List Tp} {cap : Nat} {s : Nat} {c : List Nat} {hh : Int32} {w0 : va_W} {w1 : va_W} (hw0 : HmT g h xs cap w0) (hw1 : StrP g s c w1) (hc2 : 2 ≤ c.length) (hhe : hh = spr (nI (hN c))) (hno : ∀ t ∈ xs, t.1 ≠ hh) : Ct g yJ4_getNode (ws_ yJ4_getNode cJ4_getNode 8 (some (.object "java/util/HashMap$Node"))) 5 0 0 [.ref h, .ref s] [w0, w1] (fun (rv_ : Option Value) (rL_ : List va_W) => ∃ (u0 : va_W) (u1 : va_W), rv_ = some (.null) ∧ rL_ = [u0, u1] ∧ HmT g h xs cap u0 ∧ StrP g s c u1) noX := by
  refine Ct.of "java/util/HashMap" [some (.ref h), some (.ref s), none, none, none, none, none, none] rfl (by decide) rfl (Nat.le_of_ble_eq_true rfl) rfl ?_
  intro κ B E tb
  obtain ⟨hnd, hxl, hcase⟩ := hw0
  rcases hcase with ⟨rfl, rfl, md, lfac, rfl⟩ | ⟨kk, tl, md, thr, lfac, tab, wb, hcap, hk4, hk, hthr, hwb, rfl⟩
  · skip
    refine g_open 0 rfl rfl rfl ?_
    refine (show Go g κ 0 [some (.ref h), some (.ref s), none, none, none, none, none, none] [] [w1, [(h, .inr (23, [.null, .null, .null, .null, .int (nI 0), .int (nI md), .int (nI 0), .float lfac]))]] 0 0 from ?_)
    refine g_aload_n (q := 1) B dJ4_getNode_0 rfl rfl (rv_r _) ?_
    refine g_get (q := 4) B (ci := 23) (k := 1) (j := 2) in_J4 rfl dJ4_getNode_1 rfl rfl (Nat.le_of_ble_eq_true rfl) q205 rfl rfl ?_
    refine g_dup (q := 5) B dJ4_getNode_4 rfl rfl ?_
    refine g_astore_n (q := 6) (lv2 := [some (.ref h), some (.ref s), some (.null), none, none, none, none, none]) B dJ4_getNode_5 rfl (Nat.le_of_ble_eq_true rfl) rv_n rfl ?_
    refine g_ifnull_n (tgt := 148) B dJ4_getNode_6 (by decide) ?_
    refine g_aconst_null (q := 149) B dJ4_getNode_148 rfl ?_
    obtain ⟨wc_1, ewc_1⟩ : ∃ w : va_W, w = ([[(h, .inr (23, [.null, .null, .null, .null, .int (nI 0), .int (nI md), .int (nI 0), .float lfac]))]] : List va_W).flatten := ⟨_, rfl⟩
    have hwc_1 : HmT g h ([]) 0 wc_1 := by
      rw [ewc_1]
      exact ⟨hnd, hxl, Or.inl ⟨rfl, rfl, md, lfac, rfl⟩⟩
    refine g_close (w := wc_1) [1] rfl ewc_1 rfl ?_
    refine (show Go g κ 149 [some (.ref h), some (.ref s), some (.null), none, none, none, none, none] [.null] [w1, wc_1] 0 0 from ?_)
    refine g_pk [1, 0] rfl rfl ?_
    refine (show Go g κ 149 [some (.ref h), some (.ref s), some (.null), none, none, none, none, none] [.null] [wc_1, w1] 0 0 from ?_)
    exact g_aret B E dJ4_getNode_149 (by first | exact Or.inl ⟨_, rfl⟩ | exact Or.inr ⟨_, rfl⟩) rv_n (⟨wc_1, w1, rfl, rfl, hwc_1, hw1⟩)
  · skip
    refine g_open 0 rfl rfl rfl ?_
    have hc0 : 16 ≤ cap ∧ cap ≤ 262144 := by
      rw [hcap]
      exact ⟨Nat.le_trans (Nat.le_of_ble_eq_true rfl) (Nat.pow_le_pow_right (n := 2) (by decide) hk4), Nat.le_trans (Nat.pow_le_pow_right (by decide) hk) (Nat.le_of_ble_eq_true rfl)⟩
    refine (show Go g κ 0 [some (.ref h), some (.ref s), none, none, none, none, none, none] [] [w1, [(h, .inr (23, [.null, .null, .ref tl, .null, .int (nI xs.length), .int (nI md), .int (nI thr), .float lfac]))], [(tl, .inl (g.2.1 6, cap, .inr (.inr (.inr (.inr tab)))))], wb] 0 0 from ?_)
    refine g_aload_n (q := 1) B dJ4_getNode_0 rfl rfl (rv_r _) ?_
    refine g_get (q := 4) B (ci := 23) (k := 1) (j := 2) in_J4 rfl dJ4_getNode_1 rfl rfl (Nat.le_of_ble_eq_true rfl) q205 rfl rfl ?_
    refine g_dup (q := 5) B dJ4_getNode_4 rfl rfl ?_
    refine g_astore_n (q := 6) (lv2 := [some (.ref h), some (.ref s), some (.ref tl), none, none, none, none, none]) B dJ4_getNode_5 rfl (Nat.le_of_ble_eq_true rfl) (rv_r _) rfl ?_
    refine g_ifnull_r (q := 9) B dJ4_getNode_6 rfl ?_
    refine g_aload_n (q := 10) B dJ4_getNode_9 rfl rfl (rv_r _) ?_
    refine g_alen (v := nI cap) (q := 11) B (k := 2) (t := 6) dJ4_getNode_10 rfl rfl rfl rfl ?_
    refine g_dup (q := 12) B dJ4_getNode_11 rfl rfl ?_
    refine g_istore (q := 14) (lv2 := [some (.ref h), some (.ref s), some (.ref tl), none, none, some (.int (nI cap)), none, none]) B dJ4_getNode_12 rfl (Nat.le_of_ble_eq_true rfl) rfl ?_
    refine g_if_le (tgt := 148) (q := 17) B dJ4_getNode_14 rfl (by decide) (iff_false_intro (fun h => absurd ((nI_le0 (by omega)).mp h) (by omega))) (fun z => z.elim) (fun _ => ?_)
    refine g_aload_n (q := 18) B dJ4_getNode_17 rfl rfl (rv_r _) ?_
    refine g_iload (q := 20) B dJ4_getNode_18 rfl rfl ?_
    refine g_iconst (v := nI 1) (q := 21) B dJ4_getNode_20 rfl (by decide) ?_
    refine g_isub (v := nI (cap - 1)) (q := 22) B dJ4_getNode_21 rfl (pk_sub (by omega)) ?_
    refine g_aload_n (q := 23) B dJ4_getNode_22 rfl rfl (rv_r _) ?_
    refine g_callS (q := 26) (is := [0]) (kc2 := 0) (ks2 := 0) B [.ref s] (ct_J4_hash g J (s := s) (c := c) hw1 (by first | assumption | omega | rfl)) dJ4_getNode_23 rfl q1258 q1259 q83 q1260 rfl rfl moJ4_hash rfl rfl (by decide) (by decide) (Nat.le_of_ble_eq_true rfl) (Nat.le_of_ble_eq_true rfl) (Nat.le_of_ble_eq_true rfl) (fun _ _ hx => noX_x hx) (fun v23 L1 hp23 => ?_)
    obtain ⟨u0_23, rfl, rfl, hu0_23⟩ := hp23
    refine (show Go g κ 26 [some (.ref h), some (.ref s), some (.ref tl), none, none, some (.int (nI cap)), none, none] [.int (spr (nI (hN c))), .int (nI (cap - 1)), .ref tl] [[(h, .inr (23, [.null, .null, .ref tl, .null, .int (nI xs.length), .int (nI md), .int (nI thr), .float lfac]))], [(tl, .inl (g.2.1 6, cap, .inr (.inr (.inr (.inr tab)))))], wb, u0_23] 0 0 from ?_)
    rw [← hhe]
    refine (show Go g κ 26 [some (.ref h), some (.ref s), some (.ref tl), none, none, some (.int (nI cap)), none, none] [.int hh, .int (nI (cap - 1)), .ref tl] [[(h, .inr (23, [.null, .null, .ref tl, .null, .int (nI xs.length), .int (nI md), .int (nI thr), .float lfac]))], [(tl, .inl (g.2.1 6, cap, .inr (.inr (.inr (.inr tab)))))], wb, u0_23] 0 0 from ?_)
    obtain ⟨ix, hix⟩ : ∃ ix, ix = hU hh % cap := ⟨_, rfl⟩
    have hixl : ix < cap := by rw [hix]; exact Nat.mod_lt _ (by omega)
    have hixa : nI (cap - 1) &&& hh = nI ix := by rw [hix, hcap]; exact ix_hu (by omega) _
    obtain ⟨w1, wj, w2, hbj, hcl, rfl⟩ := tf_op hwb hixl
    refine g_open 2 rfl rfl rfl ?_
    refine (show Go g κ 26 [some (.ref h), some (.ref s), some (.ref tl), none, none, some (.int (nI cap)), none, none] [.int hh, .int (nI (cap - 1)), .ref tl] [[(h, .inr (23, [.null, .null, .ref tl, .null, .int (nI xs.length), .int (nI md), .int (nI thr), .float lfac]))], [(tl, .inl (g.2.1 6, cap, .inr (.inr (.inr (.inr tab)))))], u0_23, w1, wj, w2] 0 0 from ?_)
    have hbj0 := hbj
    rcases hbj with ⟨ns, cs, hs, ky, vl, nx, hwj, hC, hN, hM, hpm, hlb0⟩ | ⟨ns, cs, hs, ky, vl, nx, pp, lf, rg, pv, rd, lo, hi, root, hwj, hC, hN, hM, hpm, hP, hT, hb10⟩
    · skip
      have hmt : ∀ a ∈ ns, (hs a, ky a, vl a) ∈ xs ∧ hU (hs a) % cap = ix := fun a ha => tfX_mem.mp (hpm.mem_iff.mpr (List.mem_map.mpr ⟨a, (hM a).mpr ha, rfl⟩))
      refine (show Go g κ 26 [some (.ref h), some (.ref s), some (.ref tl), none, none, some (.int (nI cap)), none, none] [.int hh, .int (nI (cap - 1)), .ref tl] [[(h, .inr (23, [.null, .null, .ref tl, .null, .int (nI xs.length), .int (nI md), .int (nI thr), .float lfac]))], [(tl, .inl (g.2.1 6, cap, .inr (.inr (.inr (.inr tab)))))], u0_23, w1, wj, w2] 0 0 from ?_)
      rcases hti : tab ix with _ | f0
      · skip
        have hcs0 : cs = [] := List.head?_eq_none_iff.mp (by rw [← ch_head hC, hti])
        refine g_dup (q := 27) B dJ4_getNode_26 rfl rfl ?_
        refine g_istore (q := 29) (lv2 := [some (.ref h), some (.ref s), some (.ref tl), none, none, some (.int (nI cap)), some (.int hh), none]) B dJ4_getNode_27 rfl (Nat.le_of_ble_eq_true rfl) rfl ?_
        refine g_iand (v := nI ix) (q := 30) B dJ4_getNode_29 rfl hixa ?_
        refine g_ald (r := none) (q := 31) B (k := 1) (t := 6) dJ4_getNode_30 rfl rfl rfl (vp_in_nI (by omega) (by omega)) (by rw [nI_clamp (by omega)]; exact hti) ?_
        refine g_dup (q := 32) B dJ4_getNode_31 rfl rfl ?_
        refine g_astore_n (q := 33) (lv2 := [some (.ref h), some (.ref s), some (.ref tl), some (.null), none, some (.int (nI cap)), some (.int hh), none]) B dJ4_getNode_32 rfl (Nat.le_of_ble_eq_true rfl) rv_n rfl ?_
        refine g_ifnull_n (tgt := 148) B dJ4_getNode_33 (by decide) ?_
        refine g_aconst_null (q := 149) B dJ4_getNode_148 rfl ?_
        obtain ⟨wtb_2, ewtb_2⟩ : ∃ w : va_W, w = ([w1, wj, w2] : List va_W).flatten := ⟨_, rfl⟩
        have hwtb_2 : TbP g (bmx kk) cap tab (tfX xs cap) wtb_2 := by
          rw [ewtb_2]
          exact hcl _ _ _ _ (Nat.le_refl _) (fun b _ _ => ⟨rfl, List.Perm.refl _⟩) hbj0
        refine g_close (w := wtb_2) [3, 3, 3] rfl ewtb_2 rfl ?_
        refine (show Go g κ 149 [some (.ref h), some (.ref s), some (.ref tl), some (.null), none, some (.int (nI cap)), some (.int hh), none] [.null] [[(h, .inr (23, [.null, .null, .ref tl, .null, .int (nI xs.length), .int (nI md), .int (nI thr), .float lfac]))], [(tl, .inl (g.2.1 6, cap, .inr (.inr (.inr (.inr tab)))))], u0_23, wtb_2] 0 0 from ?_)
        obtain ⟨wc_3, ewc_3⟩ : ∃ w : va_W, w = ([[(h, .inr (23, [.null, .null, .ref tl, .null, .int (nI xs.length), .int (nI md), .int (nI thr), .float lfac]))], [(tl, .inl (g.2.1 6, cap, .inr (.inr (.inr (.inr tab)))))], wtb_2] : List va_W).flatten := ⟨_, rfl⟩
        have hwc_3 : HmT g h xs cap wc_3 := by
          rw [ewc_3]
          exact ⟨hnd, hxl, Or.inr ⟨kk, tl, md, thr, lfac, tab, _, hcap, hk4, hk, hthr, hwtb_2, rfl⟩⟩
        refine g_close (w := wc_3) [0, 0, 1] rfl ewc_3 rfl ?_
        refine (show Go g κ 149 [some (.ref h), some (.ref s), some (.ref tl), some (.null), none, some (.int (nI cap)), some (.int hh), none] [.null] [u0_23, wc_3] 0 0 from ?_)
        refine g_pk [1, 0] rfl rfl ?_
        refine (show Go g κ 149 [some (.ref h), some (.ref s), some (.ref tl), some (.null), none, some (.int (nI cap)), some (.int hh), none] [.null] [wc_3, u0_23] 0 0 from ?_)
        exact g_aret B E dJ4_getNode_149 (by first | exact Or.inl ⟨_, rfl⟩ | exact Or.inr ⟨_, rfl⟩) rv_n (⟨wc_3, u0_23, rfl, rfl, hwc_3, hu0_23⟩)
      · skip
        rw [hti] at hC
        obtain ⟨ct, hcs⟩ : ∃ ct, cs = f0 :: ct := by
          cases cs with
          | nil => exact absurd hC (by simp [Ch])
          | cons z t => obtain ⟨q, -⟩ := hC; cases q; exact ⟨t, rfl⟩
        have hfm : f0 ∈ ns := (hM _).mp (by rw [hcs]; simp)
        have hCt : Ch nx (nx f0) ct := by rw [hcs] at hC; exact hC.2
        refine g_dup (q := 27) B dJ4_getNode_26 rfl rfl ?_
        refine g_istore (q := 29) (lv2 := [some (.ref h), some (.ref s), some (.ref tl), none, none, some (.int (nI cap)), some (.int hh), none]) B dJ4_getNode_27 rfl (Nat.le_of_ble_eq_true rfl) rfl ?_
        refine g_iand (v := nI ix) (q := 30) B dJ4_getNode_29 rfl hixa ?_
        refine g_ald (r := some f0) (q := 31) B (k := 1) (t := 6) dJ4_getNode_30 rfl rfl rfl (vp_in_nI (by omega) (by omega)) (by rw [nI_clamp (by omega)]; exact hti) ?_
        refine g_dup (q := 32) B dJ4_getNode_31 rfl rfl ?_
        refine g_astore_n (q := 33) (lv2 := [some (.ref h), some (.ref s), some (.ref tl), some (.ref f0), none, some (.int (nI cap)), some (.int hh), none]) B dJ4_getNode_32 rfl (Nat.le_of_ble_eq_true rfl) (rv_r _) rfl ?_
        refine g_ifnull_r (q := 36) B dJ4_getNode_33 rfl ?_
        refine g_aload_n (q := 37) B dJ4_getNode_36 rfl rfl (rv_r _) ?_
        refine g_getM (v := .int (hs f0)) (q := 40) B (ci := 24) (k := 4) (j := 0) in_J38 rfl dJ4_getNode_37 rfl rfl (NodG.mem hwj hfm) (Nat.le_of_ble_eq_true rfl) q1680 rfl rfl ?_
        refine g_iload (q := 42) B dJ4_getNode_40 rfl rfl ?_
        refine g_icmp_ne (tgt := 71) (q := 45) B dJ4_getNode_42 rfl (by decide) (iff_true_intro (hno _ (hmt f0 hfm).1)) (fun _ => ?_) (fun z => absurd trivial z)
        refine g_aload_n (q := 72) B dJ4_getNode_71 rfl rfl (rv_r _) ?_
        refine g_getM (v := va_rf (nx f0)) (q := 75) B (ci := 24) (k := 4) (j := 3) in_J38 rfl dJ4_getNode_72 rfl rfl (NodG.mem hwj hfm) (Nat.le_of_ble_eq_true rfl) q1693 rfl rfl ?_
        refine g_dup (q := 76) B dJ4_getNode_75 rfl (rv_c (rv_o _)) ?_
        refine g_astore (q := 78) (lv2 := [some (.ref h), some (.ref s), some (.ref tl), some (.ref f0), some (va_rf (nx f0)), some (.int (nI cap)), some (.int hh), none]) B dJ4_getNode_76 rfl (Nat.le_of_ble_eq_true rfl) (rv_o _) rfl ?_
        refine g_ifnull_o (tgt := 148) (q := 81) B dJ4_getNode_78 rfl (by decide) (fun c78 => ?_) (fun nxf0_a78 c78 => ?_)
        · skip
          rw [c78]
          refine (show Go g κ 148 [some (.ref h), some (.ref s), some (.ref tl), some (.ref f0), some (.null), some (.int (nI cap)), some (.int hh), none] [] [[(h, .inr (23, [.null, .null, .ref tl, .null, .int (nI xs.length), .int (nI md), .int (nI thr), .float lfac]))], [(tl, .inl (g.2.1 6, cap, .inr (.inr (.inr (.inr tab)))))], u0_23, w1, wj, w2] 0 0 from ?_)
          refine g_aconst_null (q := 149) B dJ4_getNode_148 rfl ?_
          obtain ⟨wtb_4, ewtb_4⟩ : ∃ w : va_W, w = ([w1, wj, w2] : List va_W).flatten := ⟨_, rfl⟩
          have hwtb_4 : TbP g (bmx kk) cap tab (tfX xs cap) wtb_4 := by
            rw [ewtb_4]
            exact hcl _ _ _ _ (Nat.le_refl _) (fun b _ _ => ⟨rfl, List.Perm.refl _⟩) hbj0
          refine g_close (w := wtb_4) [3, 3, 3] rfl ewtb_4 rfl ?_
          refine (show Go g κ 149 [some (.ref h), some (.ref s), some (.ref tl), some (.ref f0), some (.null), some (.int (nI cap)), some (.int hh), none] [.null] [[(h, .inr (23, [.null, .null, .ref tl, .null, .int (nI xs.length), .int (nI md), .int (nI thr), .float lfac]))], [(tl, .inl (g.2.1 6, cap, .inr (.inr (.inr (.inr tab)))))], u0_23, wtb_4] 0 0 from ?_)
          obtain ⟨wc_5, ewc_5⟩ : ∃ w : va_W, w = ([[(h, .inr (23, [.null, .null, .ref tl, .null, .int (nI xs.length), .int (nI md), .int (nI thr), .float lfac]))], [(tl, .inl (g.2.1 6, cap, .inr (.inr (.inr (.inr tab)))))], wtb_4] : List va_W).flatten := ⟨_, rfl⟩
          have hwc_5 : HmT g h xs cap wc_5 := by
            rw [ewc_5]
            exact ⟨hnd, hxl, Or.inr ⟨kk, tl, md, thr, lfac, tab, _, hcap, hk4, hk, hthr, hwtb_4, rfl⟩⟩
          refine g_close (w := wc_5) [0, 0, 1] rfl ewc_5 rfl ?_
          refine (show Go g κ 149 [some (.ref h), some (.ref s), some (.ref tl), some (.ref f0), some (.null), some (.int (nI cap)), some (.int hh), none] [.null] [u0_23, wc_5] 0 0 from ?_)
          refine g_pk [1, 0] rfl rfl ?_
          refine (show Go g κ 149 [some (.ref h), some (.ref s), some (.ref tl), some (.ref f0), some (.null), some (.int (nI cap)), some (.int hh), none] [.null] [wc_5, u0_23] 0 0 from ?_)
          exact g_aret B E dJ4_getNode_149 (by first | exact Or.inl ⟨_, rfl⟩ | exact Or.inr ⟨_, rfl⟩) rv_n (⟨wc_5, u0_23, rfl, rfl, hwc_5, hu0_23⟩)
        · skip
          rw [c78]
          refine (show Go g κ 81 [some (.ref h), some (.ref s), some (.ref tl), some (.ref f0), some (.ref nxf0_a78), some (.int (nI cap)), some (.int hh), none] [] [[(h, .inr (23, [.null, .null, .ref tl, .null, .int (nI xs.length), .int (nI md), .int (nI thr), .float lfac]))], [(tl, .inl (g.2.1 6, cap, .inr (.inr (.inr (.inr tab)))))], u0_23, w1, wj, w2] 0 0 from ?_)
          refine g_aload_n (q := 82) B dJ4_getNode_81 rfl rfl (rv_r _) ?_
          refine g_instRNo (q := 85) B (rc_in B (ci := 24) rfl (k := 4) rfl ⟨_, NodG.mem hwj hfm⟩) dJ4_getNode_82 rfl q1408 nc_177 ?_
          refine g_if_eq (tgt := 99) (q := 88) B dJ4_getNode_85 rfl (by decide) (iff_true_intro (by decide)) (fun _ => ?_) (fun z => absurd trivial z)
          have lp99 : ∀ (n99 : Nat) (x : Nat) (us : List Nat) (vt : List Nat) , (cs = us ++ x :: vt) → (Ch nx (nx x) vt) → vt.length = n99 → Go g κ 99 [some (.ref h), some (.ref s), some (.ref tl), some (.ref f0), some (.ref x), some (.int (nI cap)), some (.int hh), none] [] [[(h, .inr (23, [.null, .null, .ref tl, .null, .int (nI xs.length), .int (nI md), .int (nI thr), .float lfac]))], [(tl, .inl (g.2.1 6, cap, .inr (.inr (.inr (.inr tab)))))], u0_23, w1, wj, w2] 0 0 := by
            intro n99
            induction n99 using Nat.strongRecOn with
            | _ n99 ih99 =>
            intro x us vt  hcs2 hV hmu99
            have hxm : x ∈ ns := (hM x).mp (by rw [hcs2]; simp)
            refine g_aload (q := 101) B dJ4_getNode_99 rfl rfl (rv_r _) ?_
            refine g_getM (v := .int (hs x)) (q := 104) B (ci := 24) (k := 4) (j := 0) in_J38 rfl dJ4_getNode_101 rfl rfl (NodG.mem hwj hxm) (Nat.le_of_ble_eq_true rfl) q1680 rfl rfl ?_
            refine g_iload (q := 106) B dJ4_getNode_104 rfl rfl ?_
            refine g_icmp_ne (tgt := 137) (q := 109) B dJ4_getNode_106 rfl (by decide) (iff_true_intro (hno _ (hmt x hxm).1)) (fun _ => ?_) (fun z => absurd trivial z)
            refine g_aload (q := 139) B dJ4_getNode_137 rfl rfl (rv_r _) ?_
            refine g_getM (v := va_rf (nx x)) (q := 142) B (ci := 24) (k := 4) (j := 3) in_J38 rfl dJ4_getNode_139 rfl rfl (NodG.mem hwj hxm) (Nat.le_of_ble_eq_true rfl) q1693 rfl rfl ?_
            refine g_dup (q := 143) B dJ4_getNode_142 rfl (rv_c (rv_o _)) ?_
            refine g_astore (q := 145) (lv2 := [some (.ref h), some (.ref s), some (.ref tl), some (.ref f0), some (va_rf (nx x)), some (.int (nI cap)), some (.int hh), none]) B dJ4_getNode_143 rfl (Nat.le_of_ble_eq_true rfl) (rv_o _) rfl ?_
            refine g_ifnonnull_o (tgt := 99) (q := 148) B dJ4_getNode_145 rfl (by decide) (fun nxx_a145 c145 => ?_) (fun c145 => ?_)
            · skip
              rw [c145]
              refine (show Go g κ 99 [some (.ref h), some (.ref s), some (.ref tl), some (.ref f0), some (.ref nxx_a145), some (.int (nI cap)), some (.int hh), none] [] [[(h, .inr (23, [.null, .null, .ref tl, .null, .int (nI xs.length), .int (nI md), .int (nI thr), .float lfac]))], [(tl, .inl (g.2.1 6, cap, .inr (.inr (.inr (.inr tab)))))], u0_23, w1, wj, w2] 0 0 from ?_)
              obtain ⟨v2, hv2⟩ : ∃ v2, vt = nxx_a145 :: v2 := by
                have zz := hV
                rw [c145] at zz
                cases vt with
                | nil => exact absurd zz (by simp [Ch])
                | cons q t => obtain ⟨e, -⟩ := zz; cases e; exact ⟨t, rfl⟩
              subst hv2
              exact ih99 _ (by rw [← hmu99]; simp) nxx_a145 (us ++ [x]) v2 (by rw [hcs2]; simp) (by have zz := hV; rw [c145] at zz; exact zz.2) rfl
            · skip
              rw [c145]
              refine (show Go g κ 148 [some (.ref h), some (.ref s), some (.ref tl), some (.ref f0), some (.null), some (.int (nI cap)), some (.int hh), none] [] [[(h, .inr (23, [.null, .null, .ref tl, .null, .int (nI xs.length), .int (nI md), .int (nI thr), .float lfac]))], [(tl, .inl (g.2.1 6, cap, .inr (.inr (.inr (.inr tab)))))], u0_23, w1, wj, w2] 0 0 from ?_)
              refine g_aconst_null (q := 149) B dJ4_getNode_148 rfl ?_
              obtain ⟨wtb_6, ewtb_6⟩ : ∃ w : va_W, w = ([w1, wj, w2] : List va_W).flatten := ⟨_, rfl⟩
              have hwtb_6 : TbP g (bmx kk) cap tab (tfX xs cap) wtb_6 := by
                rw [ewtb_6]
                exact hcl _ _ _ _ (Nat.le_refl _) (fun b _ _ => ⟨rfl, List.Perm.refl _⟩) hbj0
              refine g_close (w := wtb_6) [3, 3, 3] rfl ewtb_6 rfl ?_
              refine (show Go g κ 149 [some (.ref h), some (.ref s), some (.ref tl), some (.ref f0), some (.null), some (.int (nI cap)), some (.int hh), none] [.null] [[(h, .inr (23, [.null, .null, .ref tl, .null, .int (nI xs.length), .int (nI md), .int (nI thr), .float lfac]))], [(tl, .inl (g.2.1 6, cap, .inr (.inr (.inr (.inr tab)))))], u0_23, wtb_6] 0 0 from ?_)
              obtain ⟨wc_7, ewc_7⟩ : ∃ w : va_W, w = ([[(h, .inr (23, [.null, .null, .ref tl, .null, .int (nI xs.length), .int (nI md), .int (nI thr), .float lfac]))], [(tl, .inl (g.2.1 6, cap, .inr (.inr (.inr (.inr tab)))))], wtb_6] : List va_W).flatten := ⟨_, rfl⟩
              have hwc_7 : HmT g h xs cap wc_7 := by
                rw [ewc_7]
                exact ⟨hnd, hxl, Or.inr ⟨kk, tl, md, thr, lfac, tab, _, hcap, hk4, hk, hthr, hwtb_6, rfl⟩⟩
              refine g_close (w := wc_7) [0, 0, 1] rfl ewc_7 rfl ?_
              refine (show Go g κ 149 [some (.ref h), some (.ref s), some (.ref tl), some (.ref f0), some (.null), some (.int (nI cap)), some (.int hh), none] [.null] [u0_23, wc_7] 0 0 from ?_)
              refine g_pk [1, 0] rfl rfl ?_
              refine (show Go g κ 149 [some (.ref h), some (.ref s), some (.ref tl), some (.ref f0), some (.null), some (.int (nI cap)), some (.int hh), none] [.null] [wc_7, u0_23] 0 0 from ?_)
              exact g_aret B E dJ4_getNode_149 (by first | exact Or.inl ⟨_, rfl⟩ | exact Or.inr ⟨_, rfl⟩) rv_n (⟨wc_7, u0_23, rfl, rfl, hwc_7, hu0_23⟩)
          obtain ⟨v2, hv2⟩ : ∃ v2, ct = nxf0_a78 :: v2 := by
            have zz := hCt
            rw [c78] at zz
            cases ct with
            | nil => exact absurd zz (by simp [Ch])
            | cons q t => obtain ⟨e, -⟩ := zz; cases e; exact ⟨t, rfl⟩
          exact lp99 _ nxf0_a78 ([f0]) v2 (by rw [hcs, hv2]; rfl) (by have zz := hCt; rw [c78, hv2] at zz; exact zz.2) rfl
    · skip
      have hmt : ∀ a ∈ ns, (hs a, ky a, vl a) ∈ xs ∧ hU (hs a) % cap = ix := fun a ha => tfX_mem.mp (hpm.mem_iff.mpr (List.mem_map.mpr ⟨a, (hM a).mpr ha, rfl⟩))
      refine (show Go g κ 26 [some (.ref h), some (.ref s), some (.ref tl), none, none, some (.int (nI cap)), none, none] [.int hh, .int (nI (cap - 1)), .ref tl] [[(h, .inr (23, [.null, .null, .ref tl, .null, .int (nI xs.length), .int (nI md), .int (nI thr), .float lfac]))], [(tl, .inl (g.2.1 6, cap, .inr (.inr (.inr (.inr tab)))))], u0_23, w1, wj, w2] 0 0 from ?_)
      rcases hti : tab ix with _ | f0
      · skip
        have hcs0 : cs = [] := List.head?_eq_none_iff.mp (by rw [← ch_head hC, hti])
        refine g_dup (q := 27) B dJ4_getNode_26 rfl rfl ?_
        refine g_istore (q := 29) (lv2 := [some (.ref h), some (.ref s), some (.ref tl), none, none, some (.int (nI cap)), some (.int hh), none]) B dJ4_getNode_27 rfl (Nat.le_of_ble_eq_true rfl) rfl ?_
        refine g_iand (v := nI ix) (q := 30) B dJ4_getNode_29 rfl hixa ?_
        refine g_ald (r := none) (q := 31) B (k := 1) (t := 6) dJ4_getNode_30 rfl rfl rfl (vp_in_nI (by omega) (by omega)) (by rw [nI_clamp (by omega)]; exact hti) ?_
        refine g_dup (q := 32) B dJ4_getNode_31 rfl rfl ?_
        refine g_astore_n (q := 33) (lv2 := [some (.ref h), some (.ref s), some (.ref tl), some (.null), none, some (.int (nI cap)), some (.int hh), none]) B dJ4_getNode_32 rfl (Nat.le_of_ble_eq_true rfl) rv_n rfl ?_
        refine g_ifnull_n (tgt := 148) B dJ4_getNode_33 (by decide) ?_
        refine g_aconst_null (q := 149) B dJ4_getNode_148 rfl ?_
        obtain ⟨wtb_8, ewtb_8⟩ : ∃ w : va_W, w = ([w1, wj, w2] : List va_W).flatten := ⟨_, rfl⟩
        have hwtb_8 : TbP g (bmx kk) cap tab (tfX xs cap) wtb_8 := by
          rw [ewtb_8]
          exact hcl _ _ _ _ (Nat.le_refl _) (fun b _ _ => ⟨rfl, List.Perm.refl _⟩) hbj0
        refine g_close (w := wtb_8) [3, 3, 3] rfl ewtb_8 rfl ?_
        refine (show Go g κ 149 [some (.ref h), some (.ref s), some (.ref tl), some (.null), none, some (.int (nI cap)), some (.int hh), none] [.null] [[(h, .inr (23, [.null, .null, .ref tl, .null, .int (nI xs.length), .int (nI md), .int (nI thr), .float lfac]))], [(tl, .inl (g.2.1 6, cap, .inr (.inr (.inr (.inr tab)))))], u0_23, wtb_8] 0 0 from ?_)
        obtain ⟨wc_9, ewc_9⟩ : ∃ w : va_W, w = ([[(h, .inr (23, [.null, .null, .ref tl, .null, .int (nI xs.length), .int (nI md), .int (nI thr), .float lfac]))], [(tl, .inl (g.2.1 6, cap, .inr (.inr (.inr (.inr tab)))))], wtb_8] : List va_W).flatten := ⟨_, rfl⟩
        have hwc_9 : HmT g h xs cap wc_9 := by
          rw [ewc_9]
          exact ⟨hnd, hxl, Or.inr ⟨kk, tl, md, thr, lfac, tab, _, hcap, hk4, hk, hthr, hwtb_8, rfl⟩⟩
        refine g_close (w := wc_9) [0, 0, 1] rfl ewc_9 rfl ?_
        refine (show Go g κ 149 [some (.ref h), some (.ref s), some (.ref tl), some (.null), none, some (.int (nI cap)), some (.int hh), none] [.null] [u0_23, wc_9] 0 0 from ?_)
        refine g_pk [1, 0] rfl rfl ?_
        refine (show Go g κ 149 [some (.ref h), some (.ref s), some (.ref tl), some (.null), none, some (.int (nI cap)), some (.int hh), none] [.null] [wc_9, u0_23] 0 0 from ?_)
        exact g_aret B E dJ4_getNode_149 (by first | exact Or.inl ⟨_, rfl⟩ | exact Or.inr ⟨_, rfl⟩) rv_n (⟨wc_9, u0_23, rfl, rfl, hwc_9, hu0_23⟩)
      · skip
        rw [hti] at hC
        obtain ⟨ct, hcs⟩ : ∃ ct, cs = f0 :: ct := by
          cases cs with
          | nil => exact absurd hC (by simp [Ch])
          | cons z t => obtain ⟨q, -⟩ := hC; cases q; exact ⟨t, rfl⟩
        have hfm : f0 ∈ ns := (hM _).mp (by rw [hcs]; simp)
        have hCt : Ch nx (nx f0) ct := by rw [hcs] at hC; exact hC.2
        refine g_dup (q := 27) B dJ4_getNode_26 rfl rfl ?_
        refine g_istore (q := 29) (lv2 := [some (.ref h), some (.ref s), some (.ref tl), none, none, some (.int (nI cap)), some (.int hh), none]) B dJ4_getNode_27 rfl (Nat.le_of_ble_eq_true rfl) rfl ?_
        refine g_iand (v := nI ix) (q := 30) B dJ4_getNode_29 rfl hixa ?_
        refine g_ald (r := some f0) (q := 31) B (k := 1) (t := 6) dJ4_getNode_30 rfl rfl rfl (vp_in_nI (by omega) (by omega)) (by rw [nI_clamp (by omega)]; exact hti) ?_
        refine g_dup (q := 32) B dJ4_getNode_31 rfl rfl ?_
        refine g_astore_n (q := 33) (lv2 := [some (.ref h), some (.ref s), some (.ref tl), some (.ref f0), none, some (.int (nI cap)), some (.int hh), none]) B dJ4_getNode_32 rfl (Nat.le_of_ble_eq_true rfl) (rv_r _) rfl ?_
        refine g_ifnull_r (q := 36) B dJ4_getNode_33 rfl ?_
        refine g_aload_n (q := 37) B dJ4_getNode_36 rfl rfl (rv_r _) ?_
        refine g_getM (v := .int (hs f0)) (q := 40) B (ci := 25) (k := 4) (j := 2) in_J40 rfl dJ4_getNode_37 rfl rfl (TNG.mem hwj hfm) (Nat.le_of_ble_eq_true rfl) q1680 rfl rfl ?_
        refine g_iload (q := 42) B dJ4_getNode_40 rfl rfl ?_
        refine g_icmp_ne (tgt := 71) (q := 45) B dJ4_getNode_42 rfl (by decide) (iff_true_intro (hno _ (hmt f0 hfm).1)) (fun _ => ?_) (fun z => absurd trivial z)
        refine g_aload_n (q := 72) B dJ4_getNode_71 rfl rfl (rv_r _) ?_
        refine g_getM (v := va_rf (nx f0)) (q := 75) B (ci := 25) (k := 4) (j := 5) in_J40 rfl dJ4_getNode_72 rfl rfl (TNG.mem hwj hfm) (Nat.le_of_ble_eq_true rfl) q1693 rfl rfl ?_
        refine g_dup (q := 76) B dJ4_getNode_75 rfl (rv_c (rv_o _)) ?_
        refine g_astore (q := 78) (lv2 := [some (.ref h), some (.ref s), some (.ref tl), some (.ref f0), some (va_rf (nx f0)), some (.int (nI cap)), some (.int hh), none]) B dJ4_getNode_76 rfl (Nat.le_of_ble_eq_true rfl) (rv_o _) rfl ?_
        refine g_ifnull_o (tgt := 148) (q := 81) B dJ4_getNode_78 rfl (by decide) (fun c78 => ?_) (fun nxf0_a78 c78 => ?_)
        · skip
          rw [c78]
          refine (show Go g κ 148 [some (.ref h), some (.ref s), some (.ref tl), some (.ref f0), some (.null), some (.int (nI cap)), some (.int hh), none] [] [[(h, .inr (23, [.null, .null, .ref tl, .null, .int (nI xs.length), .int (nI md), .int (nI thr), .float lfac]))], [(tl, .inl (g.2.1 6, cap, .inr (.inr (.inr (.inr tab)))))], u0_23, w1, wj, w2] 0 0 from ?_)
          refine g_aconst_null (q := 149) B dJ4_getNode_148 rfl ?_
          obtain ⟨wtb_10, ewtb_10⟩ : ∃ w : va_W, w = ([w1, wj, w2] : List va_W).flatten := ⟨_, rfl⟩
          have hwtb_10 : TbP g (bmx kk) cap tab (tfX xs cap) wtb_10 := by
            rw [ewtb_10]
            exact hcl _ _ _ _ (Nat.le_refl _) (fun b _ _ => ⟨rfl, List.Perm.refl _⟩) hbj0
          refine g_close (w := wtb_10) [3, 3, 3] rfl ewtb_10 rfl ?_
          refine (show Go g κ 149 [some (.ref h), some (.ref s), some (.ref tl), some (.ref f0), some (.null), some (.int (nI cap)), some (.int hh), none] [.null] [[(h, .inr (23, [.null, .null, .ref tl, .null, .int (nI xs.length), .int (nI md), .int (nI thr), .float lfac]))], [(tl, .inl (g.2.1 6, cap, .inr (.inr (.inr (.inr tab)))))], u0_23, wtb_10] 0 0 from ?_)
          obtain ⟨wc_11, ewc_11⟩ : ∃ w : va_W, w = ([[(h, .inr (23, [.null, .null, .ref tl, .null, .int (nI xs.length), .int (nI md), .int (nI thr), .float lfac]))], [(tl, .inl (g.2.1 6, cap, .inr (.inr (.inr (.inr tab)))))], wtb_10] : List va_W).flatten := ⟨_, rfl⟩
          have hwc_11 : HmT g h xs cap wc_11 := by
            rw [ewc_11]
            exact ⟨hnd, hxl, Or.inr ⟨kk, tl, md, thr, lfac, tab, _, hcap, hk4, hk, hthr, hwtb_10, rfl⟩⟩
          refine g_close (w := wc_11) [0, 0, 1] rfl ewc_11 rfl ?_
          refine (show Go g κ 149 [some (.ref h), some (.ref s), some (.ref tl), some (.ref f0), some (.null), some (.int (nI cap)), some (.int hh), none] [.null] [u0_23, wc_11] 0 0 from ?_)
          refine g_pk [1, 0] rfl rfl ?_
          refine (show Go g κ 149 [some (.ref h), some (.ref s), some (.ref tl), some (.ref f0), some (.null), some (.int (nI cap)), some (.int hh), none] [.null] [wc_11, u0_23] 0 0 from ?_)
          exact g_aret B E dJ4_getNode_149 (by first | exact Or.inl ⟨_, rfl⟩ | exact Or.inr ⟨_, rfl⟩) rv_n (⟨wc_11, u0_23, rfl, rfl, hwc_11, hu0_23⟩)
        · skip
          rw [c78]
          refine (show Go g κ 81 [some (.ref h), some (.ref s), some (.ref tl), some (.ref f0), some (.ref nxf0_a78), some (.int (nI cap)), some (.int hh), none] [] [[(h, .inr (23, [.null, .null, .ref tl, .null, .int (nI xs.length), .int (nI md), .int (nI thr), .float lfac]))], [(tl, .inl (g.2.1 6, cap, .inr (.inr (.inr (.inr tab)))))], u0_23, w1, wj, w2] 0 0 from ?_)
          refine g_aload_n (q := 82) B dJ4_getNode_81 rfl rfl (rv_r _) ?_
          refine g_instRS (ci := 25) (q := 85) B rfl (rc_in B (ci := 25) rfl (k := 4) rfl ⟨_, TNG.mem hwj hfm⟩) dJ4_getNode_82 rfl q1408 ?_
          refine g_if_eq (tgt := 99) (q := 88) B dJ4_getNode_85 rfl (by decide) (iff_false_intro (by decide)) (fun z => z.elim) (fun _ => ?_)
          refine g_aload_n (q := 89) B dJ4_getNode_88 rfl rfl (rv_r _) ?_
          refine g_castRS (ci := 25) (q := 92) B rfl (rc_in B (ci := 25) rfl (k := 4) rfl ⟨_, TNG.mem hwj hfm⟩) dJ4_getNode_89 rfl q1408 ?_
          refine g_iload (q := 94) B dJ4_getNode_92 rfl rfl ?_
          refine g_aload_n (q := 95) B dJ4_getNode_94 rfl rfl (rv_r _) ?_
          refine g_callV (q := 98) (is := [4, 2]) (kc2 := 0) (ks2 := 0) B [.int hh, .ref s] (ct_J40_getTreeNode_n g J (ns := ns) (hs := hs) (ky := ky) (vl := vl) (nx := nx) (pp := pp) (lf := lf) (rg := rg) (pv := pv) (rd := rd) (lo := lo) (hi := hi) (root := root) (s := s) (c := c) (hh := hh) (a := f0) hwj hu0_23 (hT) (hfm) (fun b hb => hno _ (hmt b hb).1)) dJ4_getNode_95 rfl (rc_in B (ci := 25) rfl (k := 4) rfl ⟨_, TNG.mem hwj hfm⟩) rfl q1409 q1410 q1411 q131 q1412 rfl rfl moJ40_getTreeNode rfl rfl (by decide) (by decide) (Nat.le_of_ble_eq_true rfl) (Nat.le_of_ble_eq_true rfl) (Nat.le_of_ble_eq_true rfl) (fun _ _ hx => noX_x hx) (fun v95 L1 hp95 => ?_)
          obtain ⟨rfl, rfl⟩ := hp95
          refine (show Go g κ 98 [some (.ref h), some (.ref s), some (.ref tl), some (.ref f0), some (.ref nxf0_a78), some (.int (nI cap)), some (.int hh), none] [.null] [[(h, .inr (23, [.null, .null, .ref tl, .null, .int (nI xs.length), .int (nI md), .int (nI thr), .float lfac]))], [(tl, .inl (g.2.1 6, cap, .inr (.inr (.inr (.inr tab)))))], w1, w2, wj, u0_23] 0 0 from ?_)
          obtain ⟨wtb_12, ewtb_12⟩ : ∃ w : va_W, w = ([w1, wj, w2] : List va_W).flatten := ⟨_, rfl⟩
          have hwtb_12 : TbP g (bmx kk) cap tab (tfX xs cap) wtb_12 := by
            rw [ewtb_12]
            exact hcl _ _ _ _ (Nat.le_refl _) (fun b _ _ => ⟨rfl, List.Perm.refl _⟩) hbj0
          refine g_close (w := wtb_12) [2, 3, 2] rfl ewtb_12 rfl ?_
          refine (show Go g κ 98 [some (.ref h), some (.ref s), some (.ref tl), some (.ref f0), some (.ref nxf0_a78), some (.int (nI cap)), some (.int hh), none] [.null] [[(h, .inr (23, [.null, .null, .ref tl, .null, .int (nI xs.length), .int (nI md), .int (nI thr), .float lfac]))], [(tl, .inl (g.2.1 6, cap, .inr (.inr (.inr (.inr tab)))))], u0_23, wtb_12] 0 0 from ?_)
          obtain ⟨wc_13, ewc_13⟩ : ∃ w : va_W, w = ([[(h, .inr (23, [.null, .null, .ref tl, .null, .int (nI xs.length), .int (nI md), .int (nI thr), .float lfac]))], [(tl, .inl (g.2.1 6, cap, .inr (.inr (.inr (.inr tab)))))], wtb_12] : List va_W).flatten := ⟨_, rfl⟩
          have hwc_13 : HmT g h xs cap wc_13 := by
            rw [ewc_13]
            exact ⟨hnd, hxl, Or.inr ⟨kk, tl, md, thr, lfac, tab, _, hcap, hk4, hk, hthr, hwtb_12, rfl⟩⟩
          refine g_close (w := wc_13) [0, 0, 1] rfl ewc_13 rfl ?_
          refine (show Go g κ 98 [some (.ref h), some (.ref s), some (.ref tl), some (.ref f0), some (.ref nxf0_a78), some (.int (nI cap)), some (.int hh), none] [.null] [u0_23, wc_13] 0 0 from ?_)
          refine g_pk [1, 0] rfl rfl ?_
          refine (show Go g κ 98 [some (.ref h), some (.ref s), some (.ref tl), some (.ref f0), some (.ref nxf0_a78), some (.int (nI cap)), some (.int hh), none] [.null] [wc_13, u0_23] 0 0 from ?_)
          exact g_aret B E dJ4_getNode_98 (by first | exact Or.inl ⟨_, rfl⟩ | exact Or.inr ⟨_, rfl⟩) rv_n (⟨wc_13, u0_23, rfl, rfl, hwc_13, hu0_23⟩)
