set_option maxRecDepth 100000
/-- an Integer at a: one of the small ones that lie outside, or a cell of its own -/
def BoxP (g : Gv) (a : Nat) (v : Int32) (w : va_W) : Prop := w = ([[(a, .inr (35, [.int v]))]] : List va_W).flatten ∨ ∃ k : Nat, k < 256 ∧ a = gA g (1000 + k) ∧ v = vb_c k ∧ w = ([] : List va_W).flatten
theorem rc_box {g : Gv} {κ : Kx} {own : String} {cc : ByteArray} {nL : Nat} {ret : Option FieldType} {lvl : Nat} {L : List va_W} (B : Fx g κ own cc nL ret lvl) (J : Jd g) {k a : Nat} {v : Int32} {w : va_W} (hL : L[k]? = some w) (h : BoxP g a v w) : Rec g κ L a "java/lang/Integer" := by
  rcases h with rfl | ⟨k, hk, rfl, -, -⟩
  · exact rc_in B (ci := 35) rfl hL ⟨_, List.mem_cons_self⟩
  · exact rc_O B (fun A U H h => (J.2.1.2.2 A U H h).1 k hk)
theorem BoxP.vd {g : Gv} {a : Nat} {v : Int32} {w : va_W} (h : BoxP g a v w) : Vd g a w := by
  rcases h with rfl | ⟨k, hk, rfl, -, -⟩
  · exact Or.inl ⟨35, _, by decide, List.mem_cons_self⟩
  · exact Or.inr ⟨k, hk, rfl⟩
def cmpI (a b : Int32) : Int32 := if a < b then -1 else if a = b then 0 else 1
theorem ct_J25_init (g : Gv) (J : Jd g) {a : Nat} : Ct g yJ25_init (ws_ yJ25_init cJ25_init 1 none) 1 0 0 [.ref a] [] (fun (rv_ : Option Value) (rL_ : List va_W) => rv_ = none ∧ rL_ = []) noX := by
  refine Ct.ofI "java/lang/Number" [some (.ref a)] rfl (by decide) rfl (Nat.le_of_ble_eq_true rfl) rfl rfl ?_
  intro κ B E tb ini
  refine g_aload_n (q := 1) B dJ25_init_0 rfl rfl (rv_r _) ?_
  refine g_objInit (q := 4) B q700 q157 q158 dJ25_init_1 rfl rfl (Nat.le_of_ble_eq_true rfl) ?_
  exact g_vret B E dJ25_init_4 (⟨rfl, rfl⟩)
theorem moJ25_init : Mo yJ25_init 0 := by
  refine ⟨by decide, by decide, by decide +kernel⟩
theorem ct_J26_init (g : Gv) (J : Jd g) {a : Nat} {v : Int32} : Ct g yJ26_init (ws_ yJ26_init cJ26_init 2 none) 2 0 0 [.ref a, .int v] [[(a, .inr (35, [.int (nI 0)]))]] (fun (rv_ : Option Value) (rL_ : List va_W) => rv_ = none ∧ rL_ = [[(a, .inr (35, [.int v]))]]) noX := by
  refine Ct.ofI "java/lang/Integer" [some (.ref a), some (.int v)] rfl (by decide) rfl (Nat.le_of_ble_eq_true rfl) rfl rfl ?_
  intro κ B E tb ini
  refine g_aload_n (q := 1) B dJ26_init_0 rfl rfl (rv_r _) ?_
  refine g_callI (q := 4) (is := []) (kc2 := 0) (ks2 := 0) B [] (ct_J25_init g J (a := a)  ) dJ26_init_1 rfl rfl q697 q698 q110 q699 rfl rfl moJ25_init rfl rfl (by decide) (by decide) (Nat.le_of_ble_eq_true rfl) (Nat.le_of_ble_eq_true rfl) (Nat.le_of_ble_eq_true rfl) (fun _ _ hx => noX_x hx) (fun v1 L1 hp1 => ?_)
  obtain ⟨rfl, rfl⟩ := hp1
  refine (show Go g κ 4 [some (.ref a), some (.int v)] [] [[(a, .inr (35, [.int (nI 0)]))]] 0 0 from ?_)
  refine g_aload_n (q := 5) B dJ26_init_4 rfl rfl (rv_r _) ?_
  refine g_iload_n (q := 6) B dJ26_init_5 rfl rfl ?_
  refine g_putF (q := 9) (L2 := [[(a, .inr (35, [.int v]))]]) B (ci := 35) (k := 0) (j := 0) in_J26 tyJ26 tyJ26_ok nmJ26 rfl dJ26_init_6 rfl rfl (Nat.le_of_ble_eq_true rfl) q701 rfl rfl (ini) rfl rfl rfl (Nat.le_of_ble_eq_true rfl) rfl ?_
  exact g_vret B E dJ26_init_9 (⟨rfl, rfl⟩)
theorem g_tq {g : Gv} {κ : Kx} {own : String} {cc : ByteArray} {nL : Nat} {ret : Option FieldType} {lvl : Nat} {pc q : Nat} {lv : List (Option Value)} {st : List Value} {L : List va_W} {kc ks : Nat} (B : Fx g κ own cc nL ret lvl) {E : String} {t N r : Nat} {f : Nat → Value} {i : Int32} (hT : Has g (va_T (.object E) t N f)) (d : decode cc pc = .ok (.aaload, 1)) (hq : pc + 1 = q) (hi : vp_in i N) (hv : f i.toNatClampNeg = .ref r) (kk : Go g κ q lv (.ref r :: st) L kc ks) : Go g κ pc lv (.int i :: .ref t :: st) L kc ks := by
  obtain ⟨p, l, e, R, s, m, args, below, meth, c, A, mc, ms, Q⟩ := κ
  obtain ⟨⟨hx, hb, hml, hown, hts⟩, ⟨-, hlk⟩, ⟨hst, hE, hA⟩, hR1, hR2, hR3, hR4⟩ := B
  subst hq
  intro H locs cells slots ls h1 h2 h3 h4 h5
  exact vb_tq hx hb (hT _ _ _ hE.2.2.1) h5 hi hv d (kk H locs cells slots ls h1 h2 h3 h4 h5)
theorem nwJ26 : ∀ j, j < 1 → defaultValue (tyJ26 j) = vp_V [.int (nI 0)] j := by
  intro j hj
  match j, hj with
  | 0, _ => rfl
  | n + 1, hj => exact absurd hj (by omega)
theorem moJ26_init : Mo yJ26_init 1 := by
  refine ⟨by decide, by decide, by decide +kernel⟩
theorem ct_J26_valueOf (g : Gv) (J : Jd g) {v : Int32} : Ct g yJ26_valueOf (ws_ yJ26_valueOf cJ26_valueOf 1 (some (.object "java/lang/Integer"))) 3 1 1 [.int v] [] (fun (rv_ : Option Value) (rL_ : List va_W) => ∃ (a : Nat) (u0 : va_W), rv_ = some (.ref a) ∧ rL_ = [u0] ∧ BoxP g a v u0) noX := by
  refine Ct.of "java/lang/Integer" [some (.int v)] rfl (by decide) rfl (Nat.le_of_ble_eq_true rfl) rfl ?_
  intro κ B E tb
  refine g_iload_n (q := 1) B dJ26_valueOf_0 rfl rfl ?_
  refine g_bipush (v := -128) (q := 3) B dJ26_valueOf_1 rfl (by decide) ?_
  refine g_icmp_lt (tgt := 23) (q := 6) B dJ26_valueOf_3 rfl (by decide) (Iff.rfl) (fun c3 => ?_) (fun c3 => ?_)
  · skip
    refine g_new (q := 26) (kc2 := 0) (ks2 := 0) (fs := [.int (nI 0)]) B (ci := 35) in_J26 tyJ26_ok rfl dJ26_valueOf_23 rfl q692 q693 q111 (nwJ26) (Nat.le_of_ble_eq_true rfl) (Nat.le_of_ble_eq_true rfl) (fun n23 => ?_)
    refine (show Go g κ 26 [some (.int v)] [.ref n23] [[(n23, .inr (35, [.int (nI 0)]))]] 0 0 from ?_)
    refine g_dup (q := 27) B dJ26_valueOf_26 rfl rfl ?_
    refine g_iload_n (q := 28) B dJ26_valueOf_27 rfl rfl ?_
    refine g_callI (q := 31) (is := [0]) (kc2 := 0) (ks2 := 0) B [.int v] (ct_J26_init g J (a := n23) (v := v)  ) dJ26_valueOf_28 rfl rfl q694 q695 q111 q696 rfl rfl moJ26_init rfl rfl (by decide) (by decide) (Nat.le_of_ble_eq_true rfl) (Nat.le_of_ble_eq_true rfl) (Nat.le_of_ble_eq_true rfl) (fun _ _ hx => noX_x hx) (fun v28 L1 hp28 => ?_)
    obtain ⟨rfl, rfl⟩ := hp28
    refine (show Go g κ 31 [some (.int v)] [.ref n23] [[(n23, .inr (35, [.int v]))]] 0 0 from ?_)
    obtain ⟨wc_1, ewc_1⟩ : ∃ w : va_W, w = ([[(n23, .inr (35, [.int v]))]] : List va_W).flatten := ⟨_, rfl⟩
    have hwc_1 : BoxP g n23 v wc_1 := by
      rw [ewc_1]
      exact Or.inl rfl
    refine g_close (w := wc_1) [0] rfl ewc_1 rfl ?_
    refine (show Go g κ 31 [some (.int v)] [.ref n23] [wc_1] 0 0 from ?_)
    exact g_aret B E dJ26_valueOf_31 (by first | exact Or.inl ⟨_, rfl⟩ | exact Or.inr ⟨_, rfl⟩) (rv_r _) (⟨n23, wc_1, rfl, rfl, hwc_1⟩)
  · skip
    refine g_iload_n (q := 7) B dJ26_valueOf_6 rfl rfl ?_
    refine g_gets (q := 10) B (J.2.2.1 _ (List.mem_of_getElem? (i := 0) rfl)) dJ26_valueOf_7 rfl q688 ?_
    refine g_icmp_gt (tgt := 23) (q := 13) B dJ26_valueOf_10 rfl (by decide) (Iff.rfl) (fun c10 => ?_) (fun c10 => ?_)
    · skip
      refine g_new (q := 26) (kc2 := 0) (ks2 := 0) (fs := [.int (nI 0)]) B (ci := 35) in_J26 tyJ26_ok rfl dJ26_valueOf_23 rfl q692 q693 q111 (nwJ26) (Nat.le_of_ble_eq_true rfl) (Nat.le_of_ble_eq_true rfl) (fun n23 => ?_)
      refine (show Go g κ 26 [some (.int v)] [.ref n23] [[(n23, .inr (35, [.int (nI 0)]))]] 0 0 from ?_)
      refine g_dup (q := 27) B dJ26_valueOf_26 rfl rfl ?_
      refine g_iload_n (q := 28) B dJ26_valueOf_27 rfl rfl ?_
      refine g_callI (q := 31) (is := [0]) (kc2 := 0) (ks2 := 0) B [.int v] (ct_J26_init g J (a := n23) (v := v)  ) dJ26_valueOf_28 rfl rfl q694 q695 q111 q696 rfl rfl moJ26_init rfl rfl (by decide) (by decide) (Nat.le_of_ble_eq_true rfl) (Nat.le_of_ble_eq_true rfl) (Nat.le_of_ble_eq_true rfl) (fun _ _ hx => noX_x hx) (fun v28 L1 hp28 => ?_)
      obtain ⟨rfl, rfl⟩ := hp28
      refine (show Go g κ 31 [some (.int v)] [.ref n23] [[(n23, .inr (35, [.int v]))]] 0 0 from ?_)
      obtain ⟨wc_2, ewc_2⟩ : ∃ w : va_W, w = ([[(n23, .inr (35, [.int v]))]] : List va_W).flatten := ⟨_, rfl⟩
      have hwc_2 : BoxP g n23 v wc_2 := by
        rw [ewc_2]
        exact Or.inl rfl
      refine g_close (w := wc_2) [0] rfl ewc_2 rfl ?_
      refine (show Go g κ 31 [some (.int v)] [.ref n23] [wc_2] 0 0 from ?_)
      exact g_aret B E dJ26_valueOf_31 (by first | exact Or.inl ⟨_, rfl⟩ | exact Or.inr ⟨_, rfl⟩) (rv_r _) (⟨n23, wc_2, rfl, rfl, hwc_2⟩)
    · skip
      refine g_gets (q := 16) B J.2.1.1 dJ26_valueOf_13 rfl q690 ?_
      refine g_iload_n (q := 17) B dJ26_valueOf_16 rfl rfl ?_
      refine g_sipush (v := 128) (q := 20) B dJ26_valueOf_17 rfl (by decide) ?_
      refine g_iadd (v := v + 128) (q := 21) B dJ26_valueOf_20 rfl rfl ?_
      obtain ⟨k, hk, hk1, hk2⟩ := bx_small (x := v) c3 c10
      refine g_tq (q := 22) (r := gA g (1000 + k)) B J.2.1.2.1 dJ26_valueOf_21 rfl (by show vp_in (v + 128) 256; rw [hk1]; exact vp_in_nI hk (by decide)) (by show Value.ref (gA g (1000 + (v + 128).toNatClampNeg)) = _; rw [hk1, nI_clamp (by omega)]) ?_
      obtain ⟨wc_3, ewc_3⟩ : ∃ w : va_W, w = ([] : List va_W).flatten := ⟨_, rfl⟩
      have hwc_3 : BoxP g (gA g (1000 + k)) v wc_3 := by
        rw [ewc_3]
        exact Or.inr ⟨k, hk, rfl, hk2, rfl⟩
      refine g_close (w := wc_3) [] rfl ewc_3 rfl ?_
      refine (show Go g κ 22 [some (.int v)] [.ref (gA g (1000 + k))] [wc_3] 1 1 from ?_)
      exact g_aret B E dJ26_valueOf_22 (by first | exact Or.inl ⟨_, rfl⟩ | exact Or.inr ⟨_, rfl⟩) (rv_r _) (⟨(gA g (1000 + k)), wc_3, rfl, rfl, hwc_3⟩)
theorem BoxP.cell {g : Gv} {a : Nat} {v : Int32} {w : va_W} (h : BoxP g a v w) : (a, .inr (35, [.int v])) ∈ w ∨ ∃ k : Nat, k < 256 ∧ a = gA g (1000 + k) ∧ v = vb_c k := by
  rcases h with rfl | ⟨k, hk, h1, h2, -⟩
  · exact Or.inl List.mem_cons_self
  · exact Or.inr ⟨k, hk, h1, h2⟩
/-- the number in an Integer -/
theorem g_ival {g : Gv} {κ : Kx} {own : String} {cc : ByteArray} {nL : Nat} {ret : Option FieldType} {lvl : Nat} {pc q : Nat} {lv : List (Option Value)} {st : List Value} {L : List va_W} {kc ks : Nat} (B : Fx g κ own cc nL ret lvl) (J : Jd g) {index k a : Nat} {v : Int32} {w : va_W} (hL : L[k]? = some w) (h : BoxP g a v w) (d : decode cc pc = .ok (.getfield index, 3)) (hq : pc + 3 = q) (hl : Cond.fieldLink own index "java/lang/Integer" "value" "I" ∈ lw_all) (kk : Go g κ q lv (.int v :: st) L kc ks) : Go g κ pc lv (.ref a :: st) L kc ks := by
  rcases h.cell with h | ⟨k, hk, rfl, rfl⟩
  · exact g_getM B (ci := 35) (j := 0) in_J26 rfl d hq hL h (Nat.le_of_ble_eq_true rfl) hl rfl rfl kk
  · exact g_getO B (fun A U H h => (J.2.1.2.2 A U H h).2 k hk) d hq hl kk
theorem ct_J26_intValue (g : Gv) (J : Jd g) {a : Nat} {v : Int32} {w0 : va_W} (hw0 : BoxP g a v w0) : Ct g yJ26_intValue (ws_ yJ26_intValue cJ26_intValue 1 (some .int)) 0 0 0 [.ref a] [w0] (fun (rv_ : Option Value) (rL_ : List va_W) => rv_ = some (.int v) ∧ rL_ = [w0]) noX := by
  refine Ct.of "java/lang/Integer" [some (.ref a)] rfl (by decide) rfl (Nat.le_of_ble_eq_true rfl) rfl ?_
  intro κ B E tb
  refine g_aload_n (q := 1) B dJ26_intValue_0 rfl rfl (rv_r _) ?_
  refine g_ival (q := 4) B J (k := 0) rfl hw0 dJ26_intValue_1 rfl q701 ?_
  exact g_iret B E dJ26_intValue_4 (⟨rfl, rfl⟩)
theorem ct_J26_compare (g : Gv) (J : Jd g) {x : Int32} {y : Int32} : Ct g yJ26_compare (ws_ yJ26_compare cJ26_compare 2 (some .int)) 0 0 0 [.int x, .int y] [] (fun (rv_ : Option Value) (rL_ : List va_W) => rv_ = some (.int (cmpI x y)) ∧ rL_ = []) noX := by
  refine Ct.of "java/lang/Integer" [some (.int x), some (.int y)] rfl (by decide) rfl (Nat.le_of_ble_eq_true rfl) rfl ?_
  intro κ B E tb
  refine g_iload_n (q := 1) B dJ26_compare_0 rfl rfl ?_
  refine g_iload_n (q := 2) B dJ26_compare_1 rfl rfl ?_
  refine g_icmp_ge (tgt := 9) (q := 5) B dJ26_compare_2 rfl (by decide) (Int32.not_lt.symm) (fun c2 => ?_) (fun c2 => ?_)
  · skip
    refine g_iload_n (q := 10) B dJ26_compare_9 rfl rfl ?_
    refine g_iload_n (q := 11) B dJ26_compare_10 rfl rfl ?_
    refine g_icmp_ne (tgt := 18) (q := 14) B dJ26_compare_11 rfl (by decide) (Iff.rfl) (fun c11 => ?_) (fun c11 => ?_)
    · skip
      refine g_iconst (v := nI 1) (q := 19) B dJ26_compare_18 rfl (by decide) ?_
      exact g_iret B E dJ26_compare_19 (⟨by unfold cmpI; rw [if_neg c2, if_neg c11]; rfl, rfl⟩)
    · skip
      refine g_iconst (v := nI 0) (q := 15) B dJ26_compare_14 rfl (by decide) ?_
      refine g_goto (tgt := 19) B dJ26_compare_15 (by decide) ?_
      exact g_iret B E dJ26_compare_19 (⟨by unfold cmpI; rw [if_neg c2, if_pos (Classical.not_not.mp c11)]; rfl, rfl⟩)
  · skip
    refine g_iconst (v := -1) (q := 6) B dJ26_compare_5 rfl (by decide) ?_
    refine g_goto (tgt := 19) B dJ26_compare_6 (by decide) ?_
    exact g_iret B E dJ26_compare_19 (⟨by unfold cmpI; first | rw [if_pos (Classical.not_not.mp c2)] | rw [if_neg c2, if_pos (Classical.not_not.mp c11)] | rw [if_neg c2, if_neg c11], rfl⟩)
theorem moJ26_compare : Mo yJ26_compare 2 := by
  refine ⟨by decide, by decide, by decide +kernel⟩
theorem ct_J26_compareTo_2 (g : Gv) (J : Jd g) {a : Nat} {v : Int32} {b : Nat} {u : Int32} {w0 : va_W} {w1 : va_W} (hw0 : BoxP g a v w0) (hw1 : BoxP g b u w1) : Ct g yJ26_compareTo_2 (ws_ yJ26_compareTo_2 cJ26_compareTo_2 2 (some .int)) 1 0 0 [.ref a, .ref b] [w0, w1] (fun (rv_ : Option Value) (rL_ : List va_W) => rv_ = some (.int (cmpI v u)) ∧ rL_ = [w0, w1]) noX := by
  refine Ct.of "java/lang/Integer" [some (.ref a), some (.ref b)] rfl (by decide) rfl (Nat.le_of_ble_eq_true rfl) rfl ?_
  intro κ B E tb
  refine g_aload_n (q := 1) B dJ26_compareTo_2_0 rfl rfl (rv_r _) ?_
  refine g_ival (q := 4) B J (k := 0) rfl hw0 dJ26_compareTo_2_1 rfl q701 ?_
  refine g_aload_n (q := 5) B dJ26_compareTo_2_4 rfl rfl (rv_r _) ?_
  refine g_ival (q := 8) B J (k := 1) rfl hw1 dJ26_compareTo_2_5 rfl q701 ?_
  refine g_callS (q := 11) (is := []) (kc2 := 0) (ks2 := 0) B [.int v, .int u] (ct_J26_compare g J (x := v) (y := u)  ) dJ26_compareTo_2_8 rfl q1445 q1446 q111 q1447 rfl rfl moJ26_compare rfl rfl (by decide) (by decide) (Nat.le_of_ble_eq_true rfl) (Nat.le_of_ble_eq_true rfl) (Nat.le_of_ble_eq_true rfl) (fun _ _ hx => noX_x hx) (fun v8 L1 hp8 => ?_)
  obtain ⟨rfl, rfl⟩ := hp8
  refine (show Go g κ 11 [some (.ref a), some (.ref b)] [.int (cmpI v u)] [w0, w1] 0 0 from ?_)
  exact g_iret B E dJ26_compareTo_2_11 (⟨rfl, rfl⟩)
theorem moJ26_compareTo_2 : Mo yJ26_compareTo_2 1 := by
  refine ⟨by decide, by decide, by decide +kernel⟩
theorem ct_J26_compareTo (g : Gv) (J : Jd g) {a : Nat} {v : Int32} {b : Nat} {u : Int32} {w0 : va_W} {w1 : va_W} (hw0 : BoxP g a v w0) (hw1 : BoxP g b u w1) : Ct g yJ26_compareTo (ws_ yJ26_compareTo cJ26_compareTo 2 (some .int)) 2 0 0 [.ref a, .ref b] [w0, w1] (fun (rv_ : Option Value) (rL_ : List va_W) => rv_ = some (.int (cmpI v u)) ∧ rL_ = [w0, w1]) noX := by
  refine Ct.of "java/lang/Integer" [some (.ref a), some (.ref b)] rfl (by decide) rfl (Nat.le_of_ble_eq_true rfl) rfl ?_
  intro κ B E tb
  refine g_aload_n (q := 1) B dJ26_compareTo_0 rfl rfl (rv_r _) ?_
  refine g_aload_n (q := 2) B dJ26_compareTo_1 rfl rfl (rv_r _) ?_
  refine g_castRS (ci := 35) (q := 5) B rfl (rc_box B J (k := 1) rfl hw1) dJ26_compareTo_2 rfl q692 ?_
  refine g_callV (q := 8) (is := [0, 0]) (kc2 := 0) (ks2 := 0) B [.ref b] (ct_J26_compareTo_2 g J (a := a) (v := v) (b := b) (u := u) hw0 hw1 ) dJ26_compareTo_5 rfl (rc_box B J (k := 0) rfl hw0) rfl q1441 q1442 q1443 q111 q1444 rfl rfl moJ26_compareTo_2 rfl rfl (by decide) (by decide) (Nat.le_of_ble_eq_true rfl) (Nat.le_of_ble_eq_true rfl) (Nat.le_of_ble_eq_true rfl) (fun _ _ hx => noX_x hx) (fun v5 L1 hp5 => ?_)
  obtain ⟨rfl, rfl⟩ := hp5
  refine (show Go g κ 8 [some (.ref a), some (.ref b)] [.int (cmpI v u)] [w0, w1] 0 0 from ?_)
  exact g_iret B E dJ26_compareTo_8 (⟨rfl, rfl⟩)
theorem ct_J26_compareTo_2s (g : Gv) (J : Jd g) {a : Nat} {v : Int32} {w0 : va_W} (hw0 : BoxP g a v w0) : Ct g yJ26_compareTo_2 (ws_ yJ26_compareTo_2 cJ26_compareTo_2 2 (some .int)) 1 0 0 [.ref a, .ref a] [w0] (fun (rv_ : Option Value) (rL_ : List va_W) => rv_ = some (.int (cmpI v v)) ∧ rL_ = [w0]) noX := by
  refine Ct.of "java/lang/Integer" [some (.ref a), some (.ref a)] rfl (by decide) rfl (Nat.le_of_ble_eq_true rfl) rfl ?_
  intro κ B E tb
  refine g_aload_n (q := 1) B dJ26_compareTo_2_0 rfl rfl (rv_r _) ?_
  refine g_ival (q := 4) B J (k := 0) rfl hw0 dJ26_compareTo_2_1 rfl q701 ?_
  refine g_aload_n (q := 5) B dJ26_compareTo_2_4 rfl rfl (rv_r _) ?_
  refine g_ival (q := 8) B J (k := 0) rfl hw0 dJ26_compareTo_2_5 rfl q701 ?_
  refine g_callS (q := 11) (is := []) (kc2 := 0) (ks2 := 0) B [.int v, .int v] (ct_J26_compare g J (x := v) (y := v)  ) dJ26_compareTo_2_8 rfl q1445 q1446 q111 q1447 rfl rfl moJ26_compare rfl rfl (by decide) (by decide) (Nat.le_of_ble_eq_true rfl) (Nat.le_of_ble_eq_true rfl) (Nat.le_of_ble_eq_true rfl) (fun _ _ hx => noX_x hx) (fun v8 L1 hp8 => ?_)
  obtain ⟨rfl, rfl⟩ := hp8
  refine (show Go g κ 11 [some (.ref a), some (.ref a)] [.int (cmpI v v)] [w0] 0 0 from ?_)
  exact g_iret B E dJ26_compareTo_2_11 (⟨rfl, rfl⟩)
theorem ct_J26_compareTo_s (g : Gv) (J : Jd g) {a : Nat} {v : Int32} {w0 : va_W} (hw0 : BoxP g a v w0) : Ct g yJ26_compareTo (ws_ yJ26_compareTo cJ26_compareTo 2 (some .int)) 2 0 0 [.ref a, .ref a] [w0] (fun (rv_ : Option Value) (rL_ : List va_W) => rv_ = some (.int (cmpI v v)) ∧ rL_ = [w0]) noX := by
  refine Ct.of "java/lang/Integer" [some (.ref a), some (.ref a)] rfl (by decide) rfl (Nat.le_of_ble_eq_true rfl) rfl ?_
  intro κ B E tb
  refine g_aload_n (q := 1) B dJ26_compareTo_0 rfl rfl (rv_r _) ?_
  refine g_aload_n (q := 2) B dJ26_compareTo_1 rfl rfl (rv_r _) ?_
  refine g_castRS (ci := 35) (q := 5) B rfl (rc_box B J (k := 0) rfl hw0) dJ26_compareTo_2 rfl q692 ?_
  refine g_callV (q := 8) (is := [0]) (kc2 := 0) (ks2 := 0) B [.ref a] (ct_J26_compareTo_2s g J (a := a) (v := v) hw0 ) dJ26_compareTo_5 rfl (rc_box B J (k := 0) rfl hw0) rfl q1441 q1442 q1443 q111 q1444 rfl rfl moJ26_compareTo_2 rfl rfl (by decide) (by decide) (Nat.le_of_ble_eq_true rfl) (Nat.le_of_ble_eq_true rfl) (Nat.le_of_ble_eq_true rfl) (fun _ _ hx => noX_x hx) (fun v5 L1 hp5 => ?_)
  obtain ⟨rfl, rfl⟩ := hp5
  refine (show Go g κ 8 [some (.ref a), some (.ref a)] [.int (cmpI v v)] [w0] 0 0 from ?_)
  exact g_iret B E dJ26_compareTo_8 (⟨rfl, rfl⟩)
