set_option maxRecDepth 100000
theorem spr_bv (h : Int32) : (spr h).toBitVec = h.toBitVec ^^^ (h.toBitVec >>> 16) := by
  unfold spr
  rw [show (nI 16).toUInt32 &&& Int32.toUInt32 31 = 16 from rfl]
  rw [Int32.toBitVec_xor]
  show h.toBitVec ^^^ (h.toUInt32 >>> 16).toBitVec = _
  rw [UInt32.toBitVec_shiftRight]
  rfl
theorem bv_spr {x y : BitVec 32} (h : x ^^^ (x >>> 16) = y ^^^ (y >>> 16)) : x = y := by
  have hb : ∀ i, (x.getLsbD i ^^ x.getLsbD (16 + i)) = (y.getLsbD i ^^ y.getLsbD (16 + i)) := fun i => by
    have z := congrArg (fun v : BitVec 32 => v.getLsbD i) h
    simpa using z
  have hh : ∀ i, 16 ≤ i → x.getLsbD i = y.getLsbD i := fun i hi => by
    have z := hb i
    rw [BitVec.getLsbD_of_ge x (16 + i) (by omega), BitVec.getLsbD_of_ge y (16 + i) (by omega)] at z
    simpa using z
  refine BitVec.eq_of_getLsbD_eq fun i hi => ?_
  have z := hb i
  rw [hh (16 + i) (by omega)] at z
  simpa using z
theorem spr_inj {x y : Int32} (h : spr x = spr y) : x = y := by
  have z := congrArg Int32.toBitVec h
  rw [spr_bv, spr_bv] at z
  exact Int32.toBitVec_inj.mp (bv_spr z)
theorem moJ4_putVal : Mo yJ4_putVal 5 := by
  refine ⟨by decide, by decide, by decide +kernel⟩
theorem ct_J4_put (g : Gv) (J : Jd g) {h : Nat} {xs : List Tp} {cap0 : Nat} {hh : Int32} {k : Nat} {v : Nat} {c : List Nat} {w0 : va_W} {w1 : va_W} (hw0 : HmT g h xs cap0 w0) (hw1 : StrP g k c w1) (hc2 : 2 ≤ c.length) (hhe : hh = spr (nI (hN c))) (hno : ∀ t ∈ xs, t.1 ≠ hh) (hxn : xs.length < 999) : Ct g yJ4_put (ws_ yJ4_put cJ4_put 3 (some (.object "java/lang/Object"))) 10 (12 + 13 * (hgr xs cap0 hh - cap0)) (125 + 51 * (hgr xs cap0 hh - cap0)) [.ref h, .ref k, .ref v] [w0, w1] (fun (rv_ : Option Value) (rL_ : List va_W) => ∃ (u0 : va_W) (u1 : va_W), rv_ = some (.null) ∧ rL_ = [u0, u1] ∧ HmT g h (xs ++ [(hh, k, v)]) (hgr xs cap0 hh) u0 ∧ StrP g k c u1) noX := by
  refine Ct.of "java/util/HashMap" [some (.ref h), some (.ref k), some (.ref v)] rfl (by decide) rfl (Nat.le_of_ble_eq_true rfl) rfl ?_
  intro κ B E tb
  refine g_aload_n (q := 1) B dJ4_put_0 rfl rfl (rv_r _) ?_
  refine g_aload_n (q := 2) B dJ4_put_1 rfl rfl (rv_r _) ?_
  refine g_callS (q := 5) (is := [1]) (kc2 := 12 + 13 * (hgr xs cap0 hh - cap0)) (ks2 := 125 + 51 * (hgr xs cap0 hh - cap0)) B [.ref k] (ct_J4_hash g J (s := k) (c := c) hw1 (by first | assumption | omega | rfl)) dJ4_put_2 rfl q1258 q1259 q83 q1260 rfl rfl moJ4_hash rfl rfl (by decide) (by decide) (Nat.le_of_ble_eq_true rfl) (by omega) (by omega) (fun _ _ hx => noX_x hx) (fun v2 L1 hp2 => ?_)
  obtain ⟨u0_2, rfl, rfl, hu0_2⟩ := hp2
  refine (show Go g κ 5 [some (.ref h), some (.ref k), some (.ref v)] [.int (spr (nI (hN c))), .ref h] [w0, u0_2] (12 + 13 * (hgr xs cap0 hh - cap0)) (125 + 51 * (hgr xs cap0 hh - cap0)) from ?_)
  rw [← hhe]
  refine (show Go g κ 5 [some (.ref h), some (.ref k), some (.ref v)] [.int hh, .ref h] [w0, u0_2] (12 + 13 * (hgr xs cap0 hh - cap0)) (125 + 51 * (hgr xs cap0 hh - cap0)) from ?_)
  refine g_aload_n (q := 6) B dJ4_put_5 rfl rfl (rv_r _) ?_
  refine g_aload_n (q := 7) B dJ4_put_6 rfl rfl (rv_r _) ?_
  refine g_iconst (v := nI 0) (q := 8) B dJ4_put_7 rfl (by decide) ?_
  refine g_iconst (v := nI 1) (q := 9) B dJ4_put_8 rfl (by decide) ?_
  refine g_callV (q := 12) (is := [0]) (kc2 := (12 + 13 * (hgr xs cap0 hh - cap0)) - (12 + 13 * (hgr xs cap0 hh - cap0))) (ks2 := (125 + 51 * (hgr xs cap0 hh - cap0)) - (125 + 51 * (hgr xs cap0 hh - cap0))) B [.int hh, .ref k, .ref v, .int (nI 0), .int (nI 1)] (ct_J4_putVal g J (h := h) (xs := xs) (cap0 := cap0) (hh := hh) (k := k) (v := v) hw0 (by first | assumption | omega | rfl) (by first | assumption | omega | rfl)) dJ4_put_9 rfl (rc_in B (ci := 23) rfl (k := 0) rfl (HmT.hm hw0)) rfl q1645 q1646 q1647 q83 q1648 rfl rfl moJ4_putVal rfl rfl (by decide) (by decide) (Nat.le_of_ble_eq_true rfl) (by omega) (by omega) (fun _ _ hx => noX_x hx) (fun v9 L1 hp9 => ?_)
  obtain ⟨u0_9, rfl, rfl, hu0_9⟩ := hp9
  refine (show Go g κ 12 [some (.ref h), some (.ref k), some (.ref v)] [.null] [u0_2, u0_9] ((12 + 13 * (hgr xs cap0 hh - cap0)) - (12 + 13 * (hgr xs cap0 hh - cap0))) ((125 + 51 * (hgr xs cap0 hh - cap0)) - (125 + 51 * (hgr xs cap0 hh - cap0))) from ?_)
  refine g_pk [1, 0] rfl rfl ?_
  refine (show Go g κ 12 [some (.ref h), some (.ref k), some (.ref v)] [.null] [u0_9, u0_2] ((12 + 13 * (hgr xs cap0 hh - cap0)) - (12 + 13 * (hgr xs cap0 hh - cap0))) ((125 + 51 * (hgr xs cap0 hh - cap0)) - (125 + 51 * (hgr xs cap0 hh - cap0))) from ?_)
  exact g_aret B E dJ4_put_12 (by first | exact Or.inl ⟨_, rfl⟩ | exact Or.inr ⟨_, rfl⟩) rv_n (⟨u0_9, u0_2, rfl, rfl, hu0_9, hu0_2⟩)
