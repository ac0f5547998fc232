set_option maxRecDepth 100000
/-- from o along nx: cs -/
def Ch (nx : Nat → Option Nat) : Option Nat → List Nat → Prop
  | o, [] => o = none
  | o, a :: t => o = some a ∧ Ch nx (nx a) t
def Pc (pv : Nat → Option Nat) : Option Nat → List Nat → Prop
  | _, [] => True
  | o, a :: t => pv a = o ∧ Pc pv (some a) t
theorem ch_head {nx : Nat → Option Nat} : ∀ {o : Option Nat} {cs : List Nat}, Ch nx o cs → o = cs.head?
  | _, [], h => h
  | _, _ :: _, h => h.1
theorem ch_congr {nx nx2 : Nat → Option Nat} : ∀ {o : Option Nat} {cs : List Nat}, Ch nx o cs → (∀ a ∈ cs, nx2 a = nx a) → Ch nx2 o cs
  | _, [], h, _ => h
  | _, a :: t, h, e => ⟨h.1, by rw [e a List.mem_cons_self]; exact ch_congr h.2 fun b hb => e b (List.mem_cons_of_mem _ hb)⟩
theorem pc_congr {pv pv2 : Nat → Option Nat} : ∀ {o : Option Nat} {cs : List Nat}, Pc pv o cs → (∀ a ∈ cs, pv2 a = pv a) → Pc pv2 o cs
  | _, [], _, _ => trivial
  | _, a :: t, h, e => ⟨by rw [e a List.mem_cons_self]; exact h.1, pc_congr h.2 fun b hb => e b (List.mem_cons_of_mem _ hb)⟩
theorem ch_at {nx : Nat → Option Nat} : ∀ {u v : List Nat} {o : Option Nat} {a : Nat}, Ch nx o (u ++ a :: v) → Ch nx (nx a) v
  | [], v, o, a, h => h.2
  | _ :: u, v, o, a, h => ch_at (u := u) h.2
theorem pc_at {pv : Nat → Option Nat} : ∀ {u v : List Nat} {o : Option Nat} {q a : Nat}, Pc pv o (u ++ q :: a :: v) → pv a = some q
  | [], v, o, q, a, h => h.2.1
  | _ :: u, v, o, q, a, h => pc_at (u := u) h.2
/-- x comes in behind q -/
theorem ch_ins {nx : Nat → Option Nat} : ∀ {u v : List Nat} {o : Option Nat} {q x : Nat}, Ch nx o (u ++ q :: v) → (u ++ q :: v).Nodup → x ∉ u ++ q :: v → Ch (fup (fup nx x (nx q)) q (some x)) o (u ++ q :: x :: v)
  | [], v, o, q, x, h, hn, hx => by
    have hq : q ≠ x := fun e => hx (by simp [e])
    have hqv : q ∉ v := (List.nodup_cons.mp hn).1
    refine ⟨h.1, fup_s _ _ _, ?_⟩
    rw [fup_n (Ne.symm hq), fup_s]
    refine ch_congr h.2 fun a ha => ?_
    rw [fup_n (fun (e : a = q) => hqv (e ▸ ha)), fup_n (fun (e : a = x) => hx (by simp [← e, ha]))]
  | b :: u, v, o, q, x, h, hn, hx => by
    have hb := List.nodup_cons.mp hn
    have hbq : b ≠ q := fun e => hb.1 (by simp [e])
    have hbx : b ≠ x := fun e => hx (by simp [e])
    refine ⟨h.1, ?_⟩
    rw [fup_n hbq, fup_n hbx]
    exact ch_ins h.2 hb.2 (fun e => hx (List.mem_cons_of_mem _ e))
/-- r, behind q, goes out -/
theorem ch_del {nx : Nat → Option Nat} : ∀ {u v : List Nat} {o : Option Nat} {q r : Nat}, Ch nx o (u ++ q :: r :: v) → (u ++ q :: r :: v).Nodup → Ch (fup nx q (nx r)) o (u ++ q :: v)
  | [], v, o, q, r, h, hn => by
    have hqv : q ∉ v := fun e => (List.nodup_cons.mp hn).1 (List.mem_cons_of_mem _ e)
    refine ⟨h.1, ?_⟩
    rw [fup_s]
    exact ch_congr h.2.2 fun a ha => fup_n (fun (e : a = q) => hqv (e ▸ ha))
  | b :: u, v, o, q, r, h, hn => by
    have hb := List.nodup_cons.mp hn
    have hbq : b ≠ q := fun e => hb.1 (by simp [e])
    refine ⟨h.1, ?_⟩
    rw [fup_n hbq]
    exact ch_del h.2 hb.2
def pvH (pv : Nat → Option Nat) (o : Option Nat) (x : Option Nat) : Nat → Option Nat := match o with
  | none => pv
  | some y => fup pv y x
theorem pvH_n {pv : Nat → Option Nat} {o x : Option Nat} {a : Nat} (h : o ≠ some a) : pvH pv o x a = pv a := by
  cases o with
  | none => rfl
  | some y => exact fup_n (fun e => h (by rw [e]))
theorem pc_re {pv : Nat → Option Nat} {o p : Option Nat} : ∀ {v : List Nat}, Pc pv o v → v.Nodup → Pc (pvH pv v.head? p) p v
  | [], _, _ => trivial
  | y :: v, h, hn => ⟨fup_s _ _ _, pc_congr h.2 fun a ha => fup_n (fun (e : a = y) => (List.nodup_cons.mp hn).1 (e ▸ ha))⟩
theorem pc_ins {pv : Nat → Option Nat} : ∀ {u v : List Nat} {o : Option Nat} {q x : Nat}, Pc pv o (u ++ q :: v) → (u ++ q :: v).Nodup → x ∉ u ++ q :: v → Pc (pvH (fup pv x (some q)) v.head? (some x)) o (u ++ q :: x :: v)
  | [], v, o, q, x, h, hn, hx => by
    have hq : q ≠ x := fun e => hx (by simp [e])
    have hqv := List.nodup_cons.mp hn
    have hxv : x ∉ v := fun e => hx (by simp [e])
    have hn1 : v.head? ≠ some q := fun e => hqv.1 (List.mem_of_mem_head? (by rw [e]; rfl))
    have hn2 : v.head? ≠ some x := fun e => hxv (List.mem_of_mem_head? (by rw [e]; rfl))
    refine ⟨?_, ?_, ?_⟩
    · rw [pvH_n hn1, fup_n hq]; exact h.1
    · rw [pvH_n hn2]; exact fup_s _ _ _
    · refine pc_re (o := some q) (pc_congr h.2 fun a ha => fup_n (fun (e : a = x) => hxv (e ▸ ha))) hqv.2
  | b :: u, v, o, q, x, h, hn, hx => by
    have hb := List.nodup_cons.mp hn
    have hbx : b ≠ x := fun e => hx (by simp [e])
    have hn1 : v.head? ≠ some b := fun e => hb.1 (by have := List.mem_of_mem_head? (show b ∈ v.head? by rw [e]; rfl); simp [this])
    refine ⟨?_, pc_ins h.2 hb.2 (fun e => hx (List.mem_cons_of_mem _ e))⟩
    rw [pvH_n hn1, fup_n hbx]; exact h.1
theorem pc_del {pv : Nat → Option Nat} : ∀ {u v : List Nat} {o : Option Nat} {q r : Nat}, Pc pv o (u ++ q :: r :: v) → (u ++ q :: r :: v).Nodup → Pc (pvH pv v.head? (some q)) o (u ++ q :: v)
  | [], v, o, q, r, h, hn => by
    have hqv := List.nodup_cons.mp hn
    have hn1 : v.head? ≠ some q := fun e => hqv.1 (by have := List.mem_of_mem_head? (show q ∈ v.head? by rw [e]; rfl); simp [this])
    exact ⟨by rw [pvH_n hn1]; exact h.1, pc_re h.2.2 (List.nodup_cons.mp hqv.2).2⟩
  | b :: u, v, o, q, r, h, hn => by
    have hb := List.nodup_cons.mp hn
    have hn1 : v.head? ≠ some b := fun e => hb.1 (by have := List.mem_of_mem_head? (show b ∈ v.head? by rw [e]; rfl); simp [this])
    exact ⟨by rw [pvH_n hn1]; exact h.1, pc_del h.2 hb.2⟩
theorem ct_J38_init (g : Gv) (J : Jd g) {a : Nat} {hh : Int32} {k : Nat} {v : Nat} {x : Option Nat} : Ct g yJ38_init (ws_ yJ38_init cJ38_init 5 none) 1 0 0 [.ref a, .int hh, .ref k, .ref v, va_rf x] [[(a, .inr (24, [.int (nI 0), .null, .null, .null]))]] (fun (rv_ : Option Value) (rL_ : List va_W) => rv_ = none ∧ rL_ = [[(a, .inr (24, [.int hh, .ref k, .ref v, va_rf x]))]]) noX := by
  refine Ct.ofI "java/util/HashMap$Node" [some (.ref a), some (.int hh), some (.ref k), some (.ref v), some (va_rf x)] rfl (by decide) rfl (by simp [lg_sl, cat_i, cat_r, cat_n, cat_l, cat_o]) (by simp [lprs, lv_args, cat_i, cat_r, cat_n, cat_l, cat_o]) rfl ?_
  intro κ B E tb ini
  refine g_aload_n (q := 1) B dJ38_init_0 rfl rfl (rv_r _) ?_
  refine g_objInit (q := 4) B q1675 q157 q158 dJ38_init_1 rfl rfl (Nat.le_of_ble_eq_true rfl) ?_
  refine g_aload_n (q := 5) B dJ38_init_4 rfl rfl (rv_r _) ?_
  refine g_iload_n (q := 6) B dJ38_init_5 rfl rfl ?_
  refine g_putF (q := 9) (L2 := [[(a, .inr (24, [.int hh, .null, .null, .null]))]]) B (ci := 24) (k := 0) (j := 0) in_J38 tyJ38 tyJ38_ok nmJ38 rfl dJ38_init_6 rfl rfl (Nat.le_of_ble_eq_true rfl) q1676 rfl rfl (ini) rfl rfl rfl (Nat.le_of_ble_eq_true rfl) rfl ?_
  refine g_aload_n (q := 10) B dJ38_init_9 rfl rfl (rv_r _) ?_
  refine g_aload_n (q := 11) B dJ38_init_10 rfl rfl (rv_r _) ?_
  refine g_putF (q := 14) (L2 := [[(a, .inr (24, [.int hh, .ref k, .null, .null]))]]) B (ci := 24) (k := 0) (j := 1) in_J38 tyJ38 tyJ38_ok nmJ38 rfl dJ38_init_11 rfl rfl (Nat.le_of_ble_eq_true rfl) q1681 rfl rfl (ini) rfl rfl rfl (Nat.le_of_ble_eq_true rfl) rfl ?_
  refine g_aload_n (q := 15) B dJ38_init_14 rfl rfl (rv_r _) ?_
  refine g_aload_n (q := 16) B dJ38_init_15 rfl rfl (rv_r _) ?_
  refine g_put (q := 19) (L2 := [[(a, .inr (24, [.int hh, .ref k, .ref v, .null]))]]) B (ci := 24) (k := 0) (j := 2) in_J38 tyJ38 tyJ38_ok nmJ38 rfl dJ38_init_16 rfl rfl (Nat.le_of_ble_eq_true rfl) q1686 rfl rfl rfl rfl (Nat.le_of_ble_eq_true rfl) rfl ?_
  refine g_aload_n (q := 20) B dJ38_init_19 rfl rfl (rv_r _) ?_
  refine g_aload (q := 22) B dJ38_init_20 rfl rfl (rv_o _) ?_
  refine g_put (q := 25) (L2 := [[(a, .inr (24, [.int hh, .ref k, .ref v, va_rf x]))]]) B (ci := 24) (k := 0) (j := 3) in_J38 tyJ38 tyJ38_ok nmJ38 rfl dJ38_init_22 rfl rfl (Nat.le_of_ble_eq_true rfl) q1688 rfl rfl (rv_nar (Or.inl ⟨_, rfl⟩) (rv_o _)) (rv_fit (Or.inl ⟨_, rfl⟩) (rv_o _)) (Nat.le_of_ble_eq_true rfl) rfl ?_
  exact g_vret B E dJ38_init_25 (⟨rfl, rfl⟩)
theorem ct_J38_init_t (g : Gv) (J : Jd g) {a : Nat} {hh : Int32} {k : Nat} {v : Nat} {x : Option Nat} : Ct g yJ38_init (ws_ yJ38_init cJ38_init 5 none) 1 0 0 [.ref a, .int hh, .ref k, .ref v, va_rf x] [[(a, .inr (25, [.null, .null, .int (nI 0), .null, .null, .null, .null, .null, .null, .null, .int (nI 0)]))]] (fun (rv_ : Option Value) (rL_ : List va_W) => rv_ = none ∧ rL_ = [[(a, .inr (25, [.null, .null, .int hh, .ref k, .ref v, va_rf x, .null, .null, .null, .null, .int (nI 0)]))]]) noX := by
  refine Ct.ofI "java/util/HashMap$Node" [some (.ref a), some (.int hh), some (.ref k), some (.ref v), some (va_rf x)] rfl (by decide) rfl (by simp [lg_sl, cat_i, cat_r, cat_n, cat_l, cat_o]) (by simp [lprs, lv_args, cat_i, cat_r, cat_n, cat_l, cat_o]) rfl ?_
  intro κ B E tb ini
  refine g_aload_n (q := 1) B dJ38_init_0 rfl rfl (rv_r _) ?_
  refine g_objInit (q := 4) B q1675 q157 q158 dJ38_init_1 rfl rfl (Nat.le_of_ble_eq_true rfl) ?_
  refine g_aload_n (q := 5) B dJ38_init_4 rfl rfl (rv_r _) ?_
  refine g_iload_n (q := 6) B dJ38_init_5 rfl rfl ?_
  refine g_putF (q := 9) (L2 := [[(a, .inr (25, [.null, .null, .int hh, .null, .null, .null, .null, .null, .null, .null, .int (nI 0)]))]]) B (ci := 25) (k := 0) (j := 2) in_J40 tyJ40 tyJ40_ok nmJ40 rfl dJ38_init_6 rfl rfl (Nat.le_of_ble_eq_true rfl) q1676 rfl rfl (ini) rfl rfl rfl (Nat.le_of_ble_eq_true rfl) rfl ?_
  refine g_aload_n (q := 10) B dJ38_init_9 rfl rfl (rv_r _) ?_
  refine g_aload_n (q := 11) B dJ38_init_10 rfl rfl (rv_r _) ?_
  refine g_putF (q := 14) (L2 := [[(a, .inr (25, [.null, .null, .int hh, .ref k, .null, .null, .null, .null, .null, .null, .int (nI 0)]))]]) B (ci := 25) (k := 0) (j := 3) in_J40 tyJ40 tyJ40_ok nmJ40 rfl dJ38_init_11 rfl rfl (Nat.le_of_ble_eq_true rfl) q1681 rfl rfl (ini) rfl rfl rfl (Nat.le_of_ble_eq_true rfl) rfl ?_
  refine g_aload_n (q := 15) B dJ38_init_14 rfl rfl (rv_r _) ?_
  refine g_aload_n (q := 16) B dJ38_init_15 rfl rfl (rv_r _) ?_
  refine g_put (q := 19) (L2 := [[(a, .inr (25, [.null, .null, .int hh, .ref k, .ref v, .null, .null, .null, .null, .null, .int (nI 0)]))]]) B (ci := 25) (k := 0) (j := 4) in_J40 tyJ40 tyJ40_ok nmJ40 rfl dJ38_init_16 rfl rfl (Nat.le_of_ble_eq_true rfl) q1686 rfl rfl rfl rfl (Nat.le_of_ble_eq_true rfl) rfl ?_
  refine g_aload_n (q := 20) B dJ38_init_19 rfl rfl (rv_r _) ?_
  refine g_aload (q := 22) B dJ38_init_20 rfl rfl (rv_o _) ?_
  refine g_put (q := 25) (L2 := [[(a, .inr (25, [.null, .null, .int hh, .ref k, .ref v, va_rf x, .null, .null, .null, .null, .int (nI 0)]))]]) B (ci := 25) (k := 0) (j := 5) in_J40 tyJ40 tyJ40_ok nmJ40 rfl dJ38_init_22 rfl rfl (Nat.le_of_ble_eq_true rfl) q1688 rfl rfl (rv_nar (Or.inl ⟨_, rfl⟩) (rv_o _)) (rv_fit (Or.inl ⟨_, rfl⟩) (rv_o _)) (Nat.le_of_ble_eq_true rfl) rfl ?_
  exact g_vret B E dJ38_init_25 (⟨rfl, rfl⟩)
theorem moJ38_init : Mo yJ38_init 4 := by
  refine ⟨by decide, by decide, by decide +kernel⟩
theorem ct_J39_init (g : Gv) (J : Jd g) {a : Nat} {hh : Int32} {k : Nat} {v : Nat} {x : Option Nat} : Ct g yJ39_init (ws_ yJ39_init cJ39_init 5 none) 2 0 0 [.ref a, .int hh, .ref k, .ref v, va_rf x] [[(a, .inr (25, [.null, .null, .int (nI 0), .null, .null, .null, .null, .null, .null, .null, .int (nI 0)]))]] (fun (rv_ : Option Value) (rL_ : List va_W) => rv_ = none ∧ rL_ = [[(a, .inr (25, [.null, .null, .int hh, .ref k, .ref v, va_rf x, .null, .null, .null, .null, .int (nI 0)]))]]) noX := by
  refine Ct.ofI "java/util/LinkedHashMap$Entry" [some (.ref a), some (.int hh), some (.ref k), some (.ref v), some (va_rf x)] rfl (by decide) rfl (by simp [lg_sl, cat_i, cat_r, cat_n, cat_l, cat_o]) (by simp [lprs, lv_args, cat_i, cat_r, cat_n, cat_l, cat_o]) rfl ?_
  intro κ B E tb ini
  refine g_aload_n (q := 1) B dJ39_init_0 rfl rfl (rv_r _) ?_
  refine g_iload_n (q := 2) B dJ39_init_1 rfl rfl ?_
  refine g_aload_n (q := 3) B dJ39_init_2 rfl rfl (rv_r _) ?_
  refine g_aload_n (q := 4) B dJ39_init_3 rfl rfl (rv_r _) ?_
  refine g_aload (q := 6) B dJ39_init_4 rfl rfl (rv_o _) ?_
  refine g_callI (q := 9) (is := [0]) (kc2 := 0) (ks2 := 0) B [.int hh, .ref k, .ref v, va_rf x] (ct_J38_init_t g J (a := a) (hh := hh) (k := k) (v := v) (x := x)  ) dJ39_init_6 rfl rfl q1741 q1673 q129 q1674 rfl rfl moJ38_init rfl rfl (by decide) (by decide) (Nat.le_of_ble_eq_true rfl) (Nat.le_of_ble_eq_true rfl) (Nat.le_of_ble_eq_true rfl) (fun _ _ hx => noX_x hx) (fun v6 L1 hp6 => ?_)
  obtain ⟨rfl, rfl⟩ := hp6
  refine (show Go g κ 9 [some (.ref a), some (.int hh), some (.ref k), some (.ref v), some (va_rf x)] [] [[(a, .inr (25, [.null, .null, .int hh, .ref k, .ref v, va_rf x, .null, .null, .null, .null, .int (nI 0)]))]] 0 0 from ?_)
  exact g_vret B E dJ39_init_9 (⟨rfl, rfl⟩)
theorem moJ39_init : Mo yJ39_init 4 := by
  refine ⟨by decide, by decide, by decide +kernel⟩
theorem ct_J40_init (g : Gv) (J : Jd g) {a : Nat} {hh : Int32} {k : Nat} {v : Nat} {x : Option Nat} : Ct g yJ40_init (ws_ yJ40_init cJ40_init 5 none) 3 0 0 [.ref a, .int hh, .ref k, .ref v, va_rf x] [[(a, .inr (25, [.null, .null, .int (nI 0), .null, .null, .null, .null, .null, .null, .null, .int (nI 0)]))]] (fun (rv_ : Option Value) (rL_ : List va_W) => rv_ = none ∧ rL_ = [[(a, .inr (25, [.null, .null, .int hh, .ref k, .ref v, va_rf x, .null, .null, .null, .null, .int (nI 0)]))]]) noX := by
  refine Ct.ofI "java/util/HashMap$TreeNode" [some (.ref a), some (.int hh), some (.ref k), some (.ref v), some (va_rf x)] rfl (by decide) rfl (by simp [lg_sl, cat_i, cat_r, cat_n, cat_l, cat_o]) (by simp [lprs, lv_args, cat_i, cat_r, cat_n, cat_l, cat_o]) rfl ?_
  intro κ B E tb ini
  refine g_aload_n (q := 1) B dJ40_init_0 rfl rfl (rv_r _) ?_
  refine g_iload_n (q := 2) B dJ40_init_1 rfl rfl ?_
  refine g_aload_n (q := 3) B dJ40_init_2 rfl rfl (rv_r _) ?_
  refine g_aload_n (q := 4) B dJ40_init_3 rfl rfl (rv_r _) ?_
  refine g_aload (q := 6) B dJ40_init_4 rfl rfl (rv_o _) ?_
  refine g_callI (q := 9) (is := [0]) (kc2 := 0) (ks2 := 0) B [.int hh, .ref k, .ref v, va_rf x] (ct_J39_init g J (a := a) (hh := hh) (k := k) (v := v) (x := x)  ) dJ40_init_6 rfl rfl q1738 q1739 q130 q1740 rfl rfl moJ39_init rfl rfl (by decide) (by decide) (Nat.le_of_ble_eq_true rfl) (Nat.le_of_ble_eq_true rfl) (Nat.le_of_ble_eq_true rfl) (fun _ _ hx => noX_x hx) (fun v6 L1 hp6 => ?_)
  obtain ⟨rfl, rfl⟩ := hp6
  refine (show Go g κ 9 [some (.ref a), some (.int hh), some (.ref k), some (.ref v), some (va_rf x)] [] [[(a, .inr (25, [.null, .null, .int hh, .ref k, .ref v, va_rf x, .null, .null, .null, .null, .int (nI 0)]))]] 0 0 from ?_)
  exact g_vret B E dJ40_init_9 (⟨rfl, rfl⟩)
theorem nwJ38 : ∀ j, j < 4 → defaultValue (tyJ38 j) = vp_V [.int (nI 0), .null, .null, .null] j := by
  intro j hj
  match j, hj with
  | 0, _ => rfl
  | 1, _ => rfl
  | 2, _ => rfl
  | 3, _ => rfl
  | n + 4, hj => exact absurd hj (by omega)
theorem ct_J4_newNode (g : Gv) (J : Jd g) {h : Nat} {hh : Int32} {k : Nat} {v : Nat} {x : Option Nat} : Ct g yJ4_newNode (ws_ yJ4_newNode cJ4_newNode 5 (some (.object "java/util/HashMap$Node"))) 2 1 4 [.ref h, .int hh, .ref k, .ref v, va_rf x] [] (fun (rv_ : Option Value) (rL_ : List va_W) => ∃ (a : Nat), rv_ = some (.ref a) ∧ rL_ = [[(a, .inr (24, [.int hh, .ref k, .ref v, va_rf x]))]]) noX := by
  refine Ct.of "java/util/HashMap" [some (.ref h), some (.int hh), some (.ref k), some (.ref v), some (va_rf x)] rfl (by decide) rfl (by simp [lg_sl, cat_i, cat_r, cat_n, cat_l, cat_o]) (by simp [lprs, lv_args, cat_i, cat_r, cat_n, cat_l, cat_o]) ?_
  intro κ B E tb
  refine g_new (q := 3) (kc2 := 0) (ks2 := 0) (fs := [.int (nI 0), .null, .null, .null]) B (ci := 24) in_J38 tyJ38_ok rfl dJ4_newNode_0 rfl q1656 q1671 q129 (nwJ38) (Nat.le_of_ble_eq_true rfl) (Nat.le_of_ble_eq_true rfl) (fun n0 => ?_)
  refine (show Go g κ 3 [some (.ref h), some (.int hh), some (.ref k), some (.ref v), some (va_rf x)] [.ref n0] [[(n0, .inr (24, [.int (nI 0), .null, .null, .null]))]] 0 0 from ?_)
  refine g_dup (q := 4) B dJ4_newNode_3 rfl rfl ?_
  refine g_iload_n (q := 5) B dJ4_newNode_4 rfl rfl ?_
  refine g_aload_n (q := 6) B dJ4_newNode_5 rfl rfl (rv_r _) ?_
  refine g_aload_n (q := 7) B dJ4_newNode_6 rfl rfl (rv_r _) ?_
  refine g_aload (q := 9) B dJ4_newNode_7 rfl rfl (rv_o _) ?_
  refine g_callI (q := 12) (is := [0]) (kc2 := 0) (ks2 := 0) B [.int hh, .ref k, .ref v, va_rf x] (ct_J38_init g J (a := n0) (hh := hh) (k := k) (v := v) (x := x)  ) dJ4_newNode_9 rfl rfl q1672 q1673 q129 q1674 rfl rfl moJ38_init rfl rfl (by decide) (by decide) (Nat.le_of_ble_eq_true rfl) (Nat.le_of_ble_eq_true rfl) (Nat.le_of_ble_eq_true rfl) (fun _ _ hx => noX_x hx) (fun v9 L1 hp9 => ?_)
  obtain ⟨rfl, rfl⟩ := hp9
  refine (show Go g κ 12 [some (.ref h), some (.int hh), some (.ref k), some (.ref v), some (va_rf x)] [.ref n0] [[(n0, .inr (24, [.int hh, .ref k, .ref v, va_rf x]))]] 0 0 from ?_)
  exact g_aret B E dJ4_newNode_12 (by first | exact Or.inl ⟨_, rfl⟩ | exact Or.inr ⟨_, rfl⟩) (rv_r _) (⟨n0, rfl, rfl⟩)
theorem nwJ40 : ∀ j, j < 11 → defaultValue (tyJ40 j) = vp_V [.null, .null, .int (nI 0), .null, .null, .null, .null, .null, .null, .null, .int (nI 0)] j := by
  intro j hj
  match j, hj with
  | 0, _ => rfl
  | 1, _ => rfl
  | 2, _ => rfl
  | 3, _ => rfl
  | 4, _ => rfl
  | 5, _ => rfl
  | 6, _ => rfl
  | 7, _ => rfl
  | 8, _ => rfl
  | 9, _ => rfl
  | 10, _ => rfl
  | n + 11, hj => exact absurd hj (by omega)
theorem moJ40_init : Mo yJ40_init 4 := by
  refine ⟨by decide, by decide, by decide +kernel⟩
theorem ct_J4_newTreeNode (g : Gv) (J : Jd g) {h : Nat} {hh : Int32} {k : Nat} {v : Nat} {x : Option Nat} : Ct g yJ4_newTreeNode (ws_ yJ4_newTreeNode cJ4_newTreeNode 5 (some (.object "java/util/HashMap$TreeNode"))) 4 1 11 [.ref h, .int hh, .ref k, .ref v, va_rf x] [] (fun (rv_ : Option Value) (rL_ : List va_W) => ∃ (a : Nat), rv_ = some (.ref a) ∧ rL_ = [[(a, .inr (25, [.null, .null, .int hh, .ref k, .ref v, va_rf x, .null, .null, .null, .null, .int (nI 0)]))]]) noX := by
  refine Ct.of "java/util/HashMap" [some (.ref h), some (.int hh), some (.ref k), some (.ref v), some (va_rf x)] rfl (by decide) rfl (by simp [lg_sl, cat_i, cat_r, cat_n, cat_l, cat_o]) (by simp [lprs, lv_args, cat_i, cat_r, cat_n, cat_l, cat_o]) ?_
  intro κ B E tb
  refine g_new (q := 3) (kc2 := 0) (ks2 := 0) (fs := [.null, .null, .int (nI 0), .null, .null, .null, .null, .null, .null, .null, .int (nI 0)]) B (ci := 25) in_J40 tyJ40_ok rfl dJ4_newTreeNode_0 rfl q1408 q1734 q131 (nwJ40) (Nat.le_of_ble_eq_true rfl) (Nat.le_of_ble_eq_true rfl) (fun n0 => ?_)
  refine (show Go g κ 3 [some (.ref h), some (.int hh), some (.ref k), some (.ref v), some (va_rf x)] [.ref n0] [[(n0, .inr (25, [.null, .null, .int (nI 0), .null, .null, .null, .null, .null, .null, .null, .int (nI 0)]))]] 0 0 from ?_)
  refine g_dup (q := 4) B dJ4_newTreeNode_3 rfl rfl ?_
  refine g_iload_n (q := 5) B dJ4_newTreeNode_4 rfl rfl ?_
  refine g_aload_n (q := 6) B dJ4_newTreeNode_5 rfl rfl (rv_r _) ?_
  refine g_aload_n (q := 7) B dJ4_newTreeNode_6 rfl rfl (rv_r _) ?_
  refine g_aload (q := 9) B dJ4_newTreeNode_7 rfl rfl (rv_o _) ?_
  refine g_callI (q := 12) (is := [0]) (kc2 := 0) (ks2 := 0) B [.int hh, .ref k, .ref v, va_rf x] (ct_J40_init g J (a := n0) (hh := hh) (k := k) (v := v) (x := x)  ) dJ4_newTreeNode_9 rfl rfl q1735 q1736 q131 q1737 rfl rfl moJ40_init rfl rfl (by decide) (by decide) (Nat.le_of_ble_eq_true rfl) (Nat.le_of_ble_eq_true rfl) (Nat.le_of_ble_eq_true rfl) (fun _ _ hx => noX_x hx) (fun v9 L1 hp9 => ?_)
  obtain ⟨rfl, rfl⟩ := hp9
  refine (show Go g κ 12 [some (.ref h), some (.int hh), some (.ref k), some (.ref v), some (va_rf x)] [.ref n0] [[(n0, .inr (25, [.null, .null, .int hh, .ref k, .ref v, va_rf x, .null, .null, .null, .null, .int (nI 0)]))]] 0 0 from ?_)
  exact g_aret B E dJ4_newTreeNode_12 (by first | exact Or.inl ⟨_, rfl⟩ | exact Or.inr ⟨_, rfl⟩) (rv_r _) (⟨n0, rfl, rfl⟩)
theorem ct_J4_replacementNode (g : Gv) (J : Jd g) {h : Nat} {b : Nat} {ns : List Nat} {hs : Nat → Int32} {ky : Nat → Nat} {vl : Nat → Nat} {nx : Nat → Option Nat} {pp : Nat → Option Nat} {lf : Nat → Option Nat} {rg : Nat → Option Nat} {pv : Nat → Option Nat} {rd : Nat → Bool} {w0 : va_W} (hw0 : TNG g ns hs ky vl nx pp lf rg pv rd w0) (hb : b ∈ ns) : Ct g yJ4_replacementNode (ws_ yJ4_replacementNode cJ4_replacementNode 3 (some (.object "java/util/HashMap$Node"))) 2 1 4 [.ref h, .ref b, .null] [w0] (fun (rv_ : Option Value) (rL_ : List va_W) => ∃ (a : Nat), rv_ = some (.ref a) ∧ rL_ = [w0, [(a, .inr (24, [.int (hs b), .ref (ky b), .ref (vl b), .null]))]]) noX := by
  refine Ct.of "java/util/HashMap" [some (.ref h), some (.ref b), some (.null)] rfl (by decide) rfl (Nat.le_of_ble_eq_true rfl) rfl ?_
  intro κ B E tb
  refine g_new (q := 3) (kc2 := 0) (ks2 := 0) (fs := [.int (nI 0), .null, .null, .null]) B (ci := 24) in_J38 tyJ38_ok rfl dJ4_replacementNode_0 rfl q1656 q1671 q129 (nwJ38) (Nat.le_of_ble_eq_true rfl) (Nat.le_of_ble_eq_true rfl) (fun n0 => ?_)
  refine (show Go g κ 3 [some (.ref h), some (.ref b), some (.null)] [.ref n0] [w0, [(n0, .inr (24, [.int (nI 0), .null, .null, .null]))]] 0 0 from ?_)
  refine g_dup (q := 4) B dJ4_replacementNode_3 rfl rfl ?_
  refine g_aload_n (q := 5) B dJ4_replacementNode_4 rfl rfl (rv_r _) ?_
  refine g_getM (v := .int (hs b)) (q := 8) B (ci := 25) (k := 0) (j := 2) in_J40 rfl dJ4_replacementNode_5 rfl rfl (TNG.mem hw0 hb) (Nat.le_of_ble_eq_true rfl) q1680 rfl rfl ?_
  refine g_aload_n (q := 9) B dJ4_replacementNode_8 rfl rfl (rv_r _) ?_
  refine g_getM (v := .ref (ky b)) (q := 12) B (ci := 25) (k := 0) (j := 3) in_J40 rfl dJ4_replacementNode_9 rfl rfl (TNG.mem hw0 hb) (Nat.le_of_ble_eq_true rfl) q1685 rfl rfl ?_
  refine g_aload_n (q := 13) B dJ4_replacementNode_12 rfl rfl (rv_r _) ?_
  refine g_getM (v := .ref (vl b)) (q := 16) B (ci := 25) (k := 0) (j := 4) in_J40 rfl dJ4_replacementNode_13 rfl rfl (TNG.mem hw0 hb) (Nat.le_of_ble_eq_true rfl) q1687 rfl rfl ?_
  refine g_aload_n (q := 17) B dJ4_replacementNode_16 rfl rfl rv_n ?_
  refine g_callI (q := 20) (is := [1]) (kc2 := 0) (ks2 := 0) B [.int (hs b), .ref (ky b), .ref (vl b), .null] (ct_J38_init g J (a := n0) (hh := hs b) (k := (ky b)) (v := (vl b)) (x := none)  ) dJ4_replacementNode_17 rfl rfl q1672 q1673 q129 q1674 rfl rfl moJ38_init rfl rfl (by decide) (by decide) (Nat.le_of_ble_eq_true rfl) (Nat.le_of_ble_eq_true rfl) (Nat.le_of_ble_eq_true rfl) (fun _ _ hx => noX_x hx) (fun v17 L1 hp17 => ?_)
  obtain ⟨rfl, rfl⟩ := hp17
  refine (show Go g κ 20 [some (.ref h), some (.ref b), some (.null)] [.ref n0] [w0, [(n0, .inr (24, [.int (hs b), .ref (ky b), .ref (vl b), .null]))]] 0 0 from ?_)
  exact g_aret B E dJ4_replacementNode_20 (by first | exact Or.inl ⟨_, rfl⟩ | exact Or.inr ⟨_, rfl⟩) (rv_r _) (⟨n0, rfl, rfl⟩)
theorem ct_J4_replacementTreeNode (g : Gv) (J : Jd g) {h : Nat} {b : Nat} {ns : List Nat} {hs : Nat → Int32} {ky : Nat → Nat} {vl : Nat → Nat} {nx : Nat → Option Nat} {w0 : va_W} (hw0 : NodG g ns hs ky vl nx w0) (hb : b ∈ ns) : Ct g yJ4_replacementTreeNode (ws_ yJ4_replacementTreeNode cJ4_replacementTreeNode 3 (some (.object "java/util/HashMap$TreeNode"))) 4 1 11 [.ref h, .ref b, .null] [w0] (fun (rv_ : Option Value) (rL_ : List va_W) => ∃ (a : Nat), rv_ = some (.ref a) ∧ rL_ = [w0, [(a, .inr (25, [.null, .null, .int (hs b), .ref (ky b), .ref (vl b), .null, .null, .null, .null, .null, .int (nI 0)]))]]) noX := by
  refine Ct.of "java/util/HashMap" [some (.ref h), some (.ref b), some (.null)] rfl (by decide) rfl (Nat.le_of_ble_eq_true rfl) rfl ?_
  intro κ B E tb
  refine g_new (q := 3) (kc2 := 0) (ks2 := 0) (fs := [.null, .null, .int (nI 0), .null, .null, .null, .null, .null, .null, .null, .int (nI 0)]) B (ci := 25) in_J40 tyJ40_ok rfl dJ4_replacementTreeNode_0 rfl q1408 q1734 q131 (nwJ40) (Nat.le_of_ble_eq_true rfl) (Nat.le_of_ble_eq_true rfl) (fun n0 => ?_)
  refine (show Go g κ 3 [some (.ref h), some (.ref b), some (.null)] [.ref n0] [w0, [(n0, .inr (25, [.null, .null, .int (nI 0), .null, .null, .null, .null, .null, .null, .null, .int (nI 0)]))]] 0 0 from ?_)
  refine g_dup (q := 4) B dJ4_replacementTreeNode_3 rfl rfl ?_
  refine g_aload_n (q := 5) B dJ4_replacementTreeNode_4 rfl rfl (rv_r _) ?_
  refine g_getM (v := .int (hs b)) (q := 8) B (ci := 24) (k := 0) (j := 0) in_J38 rfl dJ4_replacementTreeNode_5 rfl rfl (NodG.mem hw0 hb) (Nat.le_of_ble_eq_true rfl) q1680 rfl rfl ?_
  refine g_aload_n (q := 9) B dJ4_replacementTreeNode_8 rfl rfl (rv_r _) ?_
  refine g_getM (v := .ref (ky b)) (q := 12) B (ci := 24) (k := 0) (j := 1) in_J38 rfl dJ4_replacementTreeNode_9 rfl rfl (NodG.mem hw0 hb) (Nat.le_of_ble_eq_true rfl) q1685 rfl rfl ?_
  refine g_aload_n (q := 13) B dJ4_replacementTreeNode_12 rfl rfl (rv_r _) ?_
  refine g_getM (v := .ref (vl b)) (q := 16) B (ci := 24) (k := 0) (j := 2) in_J38 rfl dJ4_replacementTreeNode_13 rfl rfl (NodG.mem hw0 hb) (Nat.le_of_ble_eq_true rfl) q1687 rfl rfl ?_
  refine g_aload_n (q := 17) B dJ4_replacementTreeNode_16 rfl rfl rv_n ?_
  refine g_callI (q := 20) (is := [1]) (kc2 := 0) (ks2 := 0) B [.int (hs b), .ref (ky b), .ref (vl b), .null] (ct_J40_init g J (a := n0) (hh := hs b) (k := (ky b)) (v := (vl b)) (x := none)  ) dJ4_replacementTreeNode_17 rfl rfl q1735 q1736 q131 q1737 rfl rfl moJ40_init rfl rfl (by decide) (by decide) (Nat.le_of_ble_eq_true rfl) (Nat.le_of_ble_eq_true rfl) (Nat.le_of_ble_eq_true rfl) (fun _ _ hx => noX_x hx) (fun v17 L1 hp17 => ?_)
  obtain ⟨rfl, rfl⟩ := hp17
  refine (show Go g κ 20 [some (.ref h), some (.ref b), some (.null)] [.ref n0] [w0, [(n0, .inr (25, [.null, .null, .int (hs b), .ref (ky b), .ref (vl b), .null, .null, .null, .null, .null, .int (nI 0)]))]] 0 0 from ?_)
  exact g_aret B E dJ4_replacementTreeNode_20 (by first | exact Or.inl ⟨_, rfl⟩ | exact Or.inr ⟨_, rfl⟩) (rv_r _) (⟨n0, rfl, rfl⟩)
theorem ct_J40_root (g : Gv) (J : Jd g) {ns : List Nat} {hs : Nat → Int32} {ky : Nat → Nat} {vl : Nat → Nat} {nx : Nat → Option Nat} {pp : Nat → Option Nat} {lf : Nat → Option Nat} {rg : Nat → Option Nat} {pv : Nat → Option Nat} {rd : Nat → Bool} {key : Nat → Nat} {lo : Nat → Nat} {hi : Nat → Nat} {root : Nat} {a : Nat} {w0 : va_W} (hw0 : TNG g ns hs ky vl nx pp lf rg pv rd w0) (hT : Tr ns key lf rg pp lo hi (some root) 4294967296) (ha : a ∈ ns) : Ct g yJ40_root (ws_ yJ40_root cJ40_root 3 (some (.object "java/util/HashMap$TreeNode"))) 0 0 0 [.ref a] [w0] (fun (rv_ : Option Value) (rL_ : List va_W) => rv_ = some (.ref root) ∧ rL_ = [w0]) noX := by
  refine Ct.of "java/util/HashMap$TreeNode" [some (.ref a), none, none] rfl (by decide) rfl (Nat.le_of_ble_eq_true rfl) rfl ?_
  intro κ B E tb
  refine g_aload_n (q := 1) B dJ40_root_0 rfl rfl (rv_r _) ?_
  refine g_astore_n (q := 2) (lv2 := [some (.ref a), some (.ref a), none]) B dJ40_root_1 rfl (Nat.le_of_ble_eq_true rfl) (rv_r _) rfl ?_
  have lp2 : ∀ (n2 : Nat) (x : Nat) , (x ∈ ns) → 4294967296 - wid lo hi (some x) = n2 → Go g κ 2 [some (.ref a), some (.ref x), none] [] [w0] 0 0 := by
    intro n2
    induction n2 using Nat.strongRecOn with
    | _ n2 ih2 =>
    intro x  hx hmu2
    refine g_aload_n (q := 3) B dJ40_root_2 rfl rfl (rv_r _) ?_
    refine g_getM (v := va_rf (pp x)) (q := 6) B (ci := 25) (k := 0) (j := 6) in_J40 rfl dJ40_root_3 rfl rfl (TNG.mem hw0 hx) (Nat.le_of_ble_eq_true rfl) q1742 rfl rfl ?_
    refine g_dup (q := 7) B dJ40_root_6 rfl (rv_c (rv_o _)) ?_
    refine g_astore_n (q := 8) (lv2 := [some (.ref a), some (.ref x), some (va_rf (pp x))]) B dJ40_root_7 rfl (Nat.le_of_ble_eq_true rfl) (rv_o _) rfl ?_
    refine g_ifnonnull_o (tgt := 13) (q := 11) B dJ40_root_8 rfl (by decide) (fun ppx_a8 c8 => ?_) (fun c8 => ?_)
    · skip
      rw [c8]
      refine (show Go g κ 13 [some (.ref a), some (.ref x), some (.ref ppx_a8)] [] [w0] 0 0 from ?_)
      refine g_aload_n (q := 14) B dJ40_root_13 rfl rfl (rv_r _) ?_
      refine g_astore_n (q := 15) (lv2 := [some (.ref a), some (.ref ppx_a8), some (.ref ppx_a8)]) B dJ40_root_14 rfl (Nat.le_of_ble_eq_true rfl) (rv_r _) rfl ?_
      refine g_goto (tgt := 2) B dJ40_root_15 (by decide) ?_
      refine g_fg 2 rfl ?_
      exact ih2 _ (by have z := wid_p hT hx c8; have z2 := hT.2.1 _ (tr_pm hT hx c8); simp only [wid] at z hmu2 ⊢; omega) ppx_a8 (tr_pm hT hx c8) rfl
    · skip
      rw [c8]
      refine (show Go g κ 11 [some (.ref a), some (.ref x), some (.null)] [] [w0] 0 0 from ?_)
      refine g_aload_n (q := 12) B dJ40_root_11 rfl rfl (rv_r _) ?_
      exact g_aret B E dJ40_root_12 (by first | exact Or.inl ⟨_, rfl⟩ | exact Or.inr ⟨_, rfl⟩) (rv_r _) (⟨by rw [Option.some.inj (hT.2.2.2.2.2.2.1 x hx c8)], rfl⟩)
  exact lp2 _ a (ha) rfl
theorem ct_J40_find_n (g : Gv) (J : Jd g) {ns : List Nat} {hs : Nat → Int32} {ky : Nat → Nat} {vl : Nat → Nat} {nx : Nat → Option Nat} {pp : Nat → Option Nat} {lf : Nat → Option Nat} {rg : Nat → Option Nat} {pv : Nat → Option Nat} {rd : Nat → Bool} {lo : Nat → Nat} {hi : Nat → Nat} {root : Nat} {s : Nat} {c : List Nat} {hh : Int32} {a : Nat} {w0 : va_W} {w1 : va_W} (hw0 : TNG g ns hs ky vl nx pp lf rg pv rd w0) (hw1 : StrP g s c w1) (hT : Tr ns (fun a => hrk (hs a)) lf rg pp lo hi (some root) 4294967296) (ha : a ∈ ns) (hno : ∀ b ∈ ns, hs b ≠ hh) : Ct g yJ40_find (ws_ yJ40_find cJ40_find 11 (some (.object "java/util/HashMap$TreeNode"))) 2 0 0 [.ref a, .int hh, .ref s, .null] [w0, w1] (fun (rv_ : Option Value) (rL_ : List va_W) => rv_ = some (.null) ∧ rL_ = [w0, w1]) noX := by
  refine Ct.of "java/util/HashMap$TreeNode" [some (.ref a), some (.int hh), some (.ref s), some (.null), none, none, none, none, none, none, none] rfl (by decide) rfl (Nat.le_of_ble_eq_true rfl) rfl ?_
  intro κ B E tb
  refine g_aload_n (q := 1) B dJ40_find_0 rfl rfl (rv_r _) ?_
  refine g_astore (q := 3) (lv2 := [some (.ref a), some (.int hh), some (.ref s), some (.null), some (.ref a), none, none, none, none, none, none]) B dJ40_find_1 rfl (Nat.le_of_ble_eq_true rfl) (rv_r _) rfl ?_
  have lp3 : ∀ (n3 : Nat) (x : Nat) , (x ∈ ns) → wid lo hi (some x) = n3 → Go g κ 3 [some (.ref a), some (.int hh), some (.ref s), some (.null), some (.ref x), none, none, none, none, none, none] [] [w0, w1] 0 0 := by
    intro n3
    induction n3 using Nat.strongRecOn with
    | _ n3 ih3 =>
    intro x  hx hmu3
    refine g_aload (q := 5) B dJ40_find_3 rfl rfl (rv_r _) ?_
    refine g_getM (v := va_rf (lf x)) (q := 8) B (ci := 25) (k := 0) (j := 7) in_J40 rfl dJ40_find_5 rfl rfl (TNG.mem hw0 hx) (Nat.le_of_ble_eq_true rfl) q1743 rfl rfl ?_
    refine g_astore (q := 10) (lv2 := [some (.ref a), some (.int hh), some (.ref s), some (.null), some (.ref x), none, none, none, some (va_rf (lf x)), none, none]) B dJ40_find_8 rfl (Nat.le_of_ble_eq_true rfl) (rv_o _) rfl ?_
    refine g_aload (q := 12) B dJ40_find_10 rfl rfl (rv_r _) ?_
    refine g_getM (v := va_rf (rg x)) (q := 15) B (ci := 25) (k := 0) (j := 8) in_J40 rfl dJ40_find_12 rfl rfl (TNG.mem hw0 hx) (Nat.le_of_ble_eq_true rfl) q1744 rfl rfl ?_
    refine g_astore (q := 17) (lv2 := [some (.ref a), some (.int hh), some (.ref s), some (.null), some (.ref x), none, none, none, some (va_rf (lf x)), some (va_rf (rg x)), none]) B dJ40_find_15 rfl (Nat.le_of_ble_eq_true rfl) (rv_o _) (by simp only [lst1, lclr_o]) ?_
    refine g_aload (q := 19) B dJ40_find_17 rfl rfl (rv_r _) ?_
    refine g_getSM (v := .int (hs x)) (q := 22) B (ci := 25) (k := 0) (j := 2) in_J40 rfl dJ40_find_19 rfl rfl (TNG.mem hw0 hx) (Nat.le_of_ble_eq_true rfl) q1677 q1678 rfl ?_
    refine g_dup (q := 23) B dJ40_find_22 rfl rfl ?_
    refine g_istore (q := 25) (lv2 := [some (.ref a), some (.int hh), some (.ref s), some (.null), some (.ref x), some (.int (hs x)), none, none, some (va_rf (lf x)), some (va_rf (rg x)), none]) B dJ40_find_23 rfl (Nat.le_of_ble_eq_true rfl) rfl ?_
    refine g_iload_n (q := 26) B dJ40_find_25 rfl rfl ?_
    refine g_icmp_le (tgt := 36) (q := 29) B dJ40_find_26 rfl (by decide) (Iff.rfl) (fun c26 => ?_) (fun c26 => ?_)
    · skip
      refine g_iload (q := 38) B dJ40_find_36 rfl rfl ?_
      refine g_iload_n (q := 39) B dJ40_find_38 rfl rfl ?_
      refine g_icmp_ge (tgt := 49) (q := 42) B dJ40_find_39 rfl (by decide) (Iff.rfl) (fun c39 => ?_) (fun c39 => ?_)
      · skip
        exact absurd (Int32.le_antisymm c26 (by simpa using c39)) (hno x hx)
      · skip
        refine g_aload (q := 44) B dJ40_find_42 rfl rfl (rv_o _) ?_
        refine g_astore (q := 46) (lv2 := [some (.ref a), some (.int hh), some (.ref s), some (.null), some (va_rf (rg x)), some (.int (hs x)), none, none, some (va_rf (lf x)), some (va_rf (rg x)), none]) B dJ40_find_44 rfl (Nat.le_of_ble_eq_true rfl) (rv_o _) rfl ?_
        refine g_goto (tgt := 165) B dJ40_find_46 (by decide) ?_
        refine g_aload (q := 167) B dJ40_find_165 rfl rfl (rv_o _) ?_
        refine g_ifnonnull_o (tgt := 3) (q := 170) B dJ40_find_167 rfl (by decide) (fun rgx_a167 c167 => ?_) (fun c167 => ?_)
        · skip
          rw [c167]
          refine (show Go g κ 3 [some (.ref a), some (.int hh), some (.ref s), some (.null), some (.ref rgx_a167), some (.int (hs x)), none, none, some (va_rf (lf x)), some (.ref rgx_a167), none] [] [w0, w1] 0 0 from ?_)
          refine g_fg 5 rfl ?_
          refine g_fg 8 rfl ?_
          refine g_fg 9 rfl ?_
          exact ih3 _ (by rw [← hmu3, ← c167]; first | exact wid_l hT hx | exact wid_r hT hx) rgx_a167 (tr_rm hT hx c167) rfl
        · skip
          rw [c167]
          refine (show Go g κ 170 [some (.ref a), some (.int hh), some (.ref s), some (.null), some (.null), some (.int (hs x)), none, none, some (va_rf (lf x)), some (.null), none] [] [w0, w1] 0 0 from ?_)
          refine g_aconst_null (q := 171) B dJ40_find_170 rfl ?_
          exact g_aret B E dJ40_find_171 (by first | exact Or.inl ⟨_, rfl⟩ | exact Or.inr ⟨_, rfl⟩) rv_n (⟨rfl, rfl⟩)
    · skip
      refine g_aload (q := 31) B dJ40_find_29 rfl rfl (rv_o _) ?_
      refine g_astore (q := 33) (lv2 := [some (.ref a), some (.int hh), some (.ref s), some (.null), some (va_rf (lf x)), some (.int (hs x)), none, none, some (va_rf (lf x)), some (va_rf (rg x)), none]) B dJ40_find_31 rfl (Nat.le_of_ble_eq_true rfl) (rv_o _) rfl ?_
      refine g_goto (tgt := 165) B dJ40_find_33 (by decide) ?_
      refine g_aload (q := 167) B dJ40_find_165 rfl rfl (rv_o _) ?_
      refine g_ifnonnull_o (tgt := 3) (q := 170) B dJ40_find_167 rfl (by decide) (fun lfx_a167 c167 => ?_) (fun c167 => ?_)
      · skip
        rw [c167]
        refine (show Go g κ 3 [some (.ref a), some (.int hh), some (.ref s), some (.null), some (.ref lfx_a167), some (.int (hs x)), none, none, some (.ref lfx_a167), some (va_rf (rg x)), none] [] [w0, w1] 0 0 from ?_)
        refine g_fg 5 rfl ?_
        refine g_fg 8 rfl ?_
        refine g_fg 9 rfl ?_
        exact ih3 _ (by rw [← hmu3, ← c167]; first | exact wid_l hT hx | exact wid_r hT hx) lfx_a167 (tr_lm hT hx c167) rfl
      · skip
        rw [c167]
        refine (show Go g κ 170 [some (.ref a), some (.int hh), some (.ref s), some (.null), some (.null), some (.int (hs x)), none, none, some (.null), some (va_rf (rg x)), none] [] [w0, w1] 0 0 from ?_)
        refine g_aconst_null (q := 171) B dJ40_find_170 rfl ?_
        exact g_aret B E dJ40_find_171 (by first | exact Or.inl ⟨_, rfl⟩ | exact Or.inr ⟨_, rfl⟩) rv_n (⟨rfl, rfl⟩)
  exact lp3 _ a (ha) rfl
theorem ct_J40_find_s (g : Gv) (J : Jd g) {ns : List Nat} {hs : Nat → Int32} {ky : Nat → Nat} {vl : Nat → Nat} {nx : Nat → Option Nat} {pp : Nat → Option Nat} {lf : Nat → Option Nat} {rg : Nat → Option Nat} {pv : Nat → Option Nat} {rd : Nat → Bool} {lo : Nat → Nat} {hi : Nat → Nat} {root : Nat} {s : Nat} {c : List Nat} {hh : Int32} {a : Nat} {a0 : Nat} {w0 : va_W} {w1 : va_W} {w2 : va_W} (hw0 : TNG g ns hs ky vl nx pp lf rg pv rd w0) (hw1 : StrP g s c w1) (hw2 : StrP g (ky a0) c w2) (hT : Tr ns (fun a => hrk (hs a)) lf rg pp lo hi (some root) 4294967296) (ha : a ∈ ns) (har : a = root) (ha0 : a0 ∈ ns) (ha1 : hs a0 = hh) : Ct g yJ40_find (ws_ yJ40_find cJ40_find 11 (some (.object "java/util/HashMap$TreeNode"))) 2 0 0 [.ref a, .int hh, .ref s, .null] [w0, w1, w2] (fun (rv_ : Option Value) (rL_ : List va_W) => ∃ (u1 : va_W) (u2 : va_W), rv_ = some (.ref a0) ∧ rL_ = [w0, u1, u2] ∧ StrP g s c u1 ∧ StrP g (ky a0) c u2) noX := by
  refine Ct.of "java/util/HashMap$TreeNode" [some (.ref a), some (.int hh), some (.ref s), some (.null), none, none, none, none, none, none, none] rfl (by decide) rfl (Nat.le_of_ble_eq_true rfl) rfl ?_
  intro κ B E tb
  refine g_aload_n (q := 1) B dJ40_find_0 rfl rfl (rv_r _) ?_
  refine g_astore (q := 3) (lv2 := [some (.ref a), some (.int hh), some (.ref s), some (.null), some (.ref a), none, none, none, none, none, none]) B dJ40_find_1 rfl (Nat.le_of_ble_eq_true rfl) (rv_r _) rfl ?_
  have lp3 : ∀ (n3 : Nat) (x : Nat) , (x ∈ ns) → (Pk ns lo hi (hrk hh) x) → wid lo hi (some x) = n3 → Go g κ 3 [some (.ref a), some (.int hh), some (.ref s), some (.null), some (.ref x), none, none, none, none, none, none] [] [w0, w1, w2] 0 0 := by
    intro n3
    induction n3 using Nat.strongRecOn with
    | _ n3 ih3 =>
    intro x  hx hp hmu3
    refine g_aload (q := 5) B dJ40_find_3 rfl rfl (rv_r _) ?_
    refine g_getM (v := va_rf (lf x)) (q := 8) B (ci := 25) (k := 0) (j := 7) in_J40 rfl dJ40_find_5 rfl rfl (TNG.mem hw0 hx) (Nat.le_of_ble_eq_true rfl) q1743 rfl rfl ?_
    refine g_astore (q := 10) (lv2 := [some (.ref a), some (.int hh), some (.ref s), some (.null), some (.ref x), none, none, none, some (va_rf (lf x)), none, none]) B dJ40_find_8 rfl (Nat.le_of_ble_eq_true rfl) (rv_o _) rfl ?_
    refine g_aload (q := 12) B dJ40_find_10 rfl rfl (rv_r _) ?_
    refine g_getM (v := va_rf (rg x)) (q := 15) B (ci := 25) (k := 0) (j := 8) in_J40 rfl dJ40_find_12 rfl rfl (TNG.mem hw0 hx) (Nat.le_of_ble_eq_true rfl) q1744 rfl rfl ?_
    refine g_astore (q := 17) (lv2 := [some (.ref a), some (.int hh), some (.ref s), some (.null), some (.ref x), none, none, none, some (va_rf (lf x)), some (va_rf (rg x)), none]) B dJ40_find_15 rfl (Nat.le_of_ble_eq_true rfl) (rv_o _) (by simp only [lst1, lclr_o]) ?_
    refine g_aload (q := 19) B dJ40_find_17 rfl rfl (rv_r _) ?_
    refine g_getSM (v := .int (hs x)) (q := 22) B (ci := 25) (k := 0) (j := 2) in_J40 rfl dJ40_find_19 rfl rfl (TNG.mem hw0 hx) (Nat.le_of_ble_eq_true rfl) q1677 q1678 rfl ?_
    refine g_dup (q := 23) B dJ40_find_22 rfl rfl ?_
    refine g_istore (q := 25) (lv2 := [some (.ref a), some (.int hh), some (.ref s), some (.null), some (.ref x), some (.int (hs x)), none, none, some (va_rf (lf x)), some (va_rf (rg x)), none]) B dJ40_find_23 rfl (Nat.le_of_ble_eq_true rfl) rfl ?_
    refine g_iload_n (q := 26) B dJ40_find_25 rfl rfl ?_
    refine g_icmp_le (tgt := 36) (q := 29) B dJ40_find_26 rfl (by decide) (Iff.rfl) (fun c26 => ?_) (fun c26 => ?_)
    · skip
      refine g_iload (q := 38) B dJ40_find_36 rfl rfl ?_
      refine g_iload_n (q := 39) B dJ40_find_38 rfl rfl ?_
      refine g_icmp_ge (tgt := 49) (q := 42) B dJ40_find_39 rfl (by decide) (Iff.rfl) (fun c39 => ?_) (fun c39 => ?_)
      · skip
        have hxa : x = a0 := hT.1 x hx a0 ha0 (by show hrk (hs x) = hrk (hs a0); rw [ha1, Int32.le_antisymm c26 (by simpa using c39)])
        rw [hxa]
        refine (show Go g κ 49 [some (.ref a), some (.int hh), some (.ref s), some (.null), some (.ref a0), some (.int (hs a0)), none, none, some (va_rf (lf a0)), some (va_rf (rg a0)), none] [] [w0, w1, w2] 0 0 from ?_)
        refine g_aload (q := 51) B dJ40_find_49 rfl rfl (rv_r _) ?_
        refine g_getSM (v := .ref (ky a0)) (q := 54) B (ci := 25) (k := 0) (j := 3) in_J40 rfl dJ40_find_51 rfl rfl (TNG.mem hw0 ha0) (Nat.le_of_ble_eq_true rfl) q1682 q1683 rfl ?_
        refine g_dup (q := 55) B dJ40_find_54 rfl rfl ?_
        refine g_astore (q := 57) (lv2 := [some (.ref a), some (.int hh), some (.ref s), some (.null), some (.ref a0), some (.int (hs a0)), none, some (.ref (ky a0)), some (va_rf (lf a0)), some (va_rf (rg a0)), none]) B dJ40_find_55 rfl (Nat.le_of_ble_eq_true rfl) (rv_r _) rfl ?_
        refine g_aload_n (q := 58) B dJ40_find_57 rfl rfl (rv_r _) ?_
        refine g_acmp_eq (rx := some (ky a0)) (ry := some s) (tgt := 74) (q := 61) B dJ40_find_58 rfl (by decide) rfl rfl (Iff.rfl) (fun c58 => ?_) (fun c58 => ?_)
        · skip
          refine g_aload (q := 76) B dJ40_find_74 rfl rfl (rv_r _) ?_
          exact g_aret B E dJ40_find_76 (by first | exact Or.inl ⟨_, rfl⟩ | exact Or.inr ⟨_, rfl⟩) (rv_r _) (⟨w1, w2, rfl, rfl, hw1, hw2⟩)
        · skip
          refine g_aload_n (q := 62) B dJ40_find_61 rfl rfl (rv_r _) ?_
          refine g_ifnull_r (q := 65) B dJ40_find_62 rfl ?_
          refine g_aload_n (q := 66) B dJ40_find_65 rfl rfl (rv_r _) ?_
          refine g_aload (q := 68) B dJ40_find_66 rfl rfl (rv_r _) ?_
          refine g_callO (q := 71) (is := [1, 1]) (kc2 := 0) (ks2 := 0) B [.ref (ky a0)] (ct_J16_equals g J (s := s) (t := (ky a0)) (c := c) hw1 hw2 ) dJ40_find_68 rfl (rc_in B (ci := 36) rfl (k := 1) rfl (StrP.hm hw1)) q1407 (by decide) (lw_app (fun w hw => by simp only [List.mem_cons, List.not_mem_nil, or_false] at hw; rcases hw with e | e | e | e | e | e <;> rw [e]; exact q1421; exact q1365; exact q1364; exact q1396; exact q1397; exact q99) (lw_meth q1398)) rfl rfl moJ49_equals rfl rfl (by decide) (by decide) (Nat.le_of_ble_eq_true rfl) (Nat.le_of_ble_eq_true rfl) (Nat.le_of_ble_eq_true rfl) (fun _ _ hx => noX_x hx) (fun v68 L1 hp68 => ?_)
          obtain ⟨u0_68, u1_68, rfl, rfl, hu0_68, hu1_68⟩ := hp68
          refine (show Go g κ 71 [some (.ref a), some (.int hh), some (.ref s), some (.null), some (.ref a0), some (.int (hs a0)), none, some (.ref (ky a0)), some (va_rf (lf a0)), some (va_rf (rg a0)), none] [.int (nI 1)] [w0, u0_68, u1_68] 0 0 from ?_)
          refine g_if_eq (tgt := 77) (q := 74) B dJ40_find_71 rfl (by decide) (iff_false_intro (by decide)) (fun z => z.elim) (fun _ => ?_)
          refine g_aload (q := 76) B dJ40_find_74 rfl rfl (rv_r _) ?_
          exact g_aret B E dJ40_find_76 (by first | exact Or.inl ⟨_, rfl⟩ | exact Or.inr ⟨_, rfl⟩) (rv_r _) (⟨u0_68, u1_68, rfl, rfl, hu0_68, hu1_68⟩)
      · skip
        refine g_aload (q := 44) B dJ40_find_42 rfl rfl (rv_o _) ?_
        refine g_astore (q := 46) (lv2 := [some (.ref a), some (.int hh), some (.ref s), some (.null), some (va_rf (rg x)), some (.int (hs x)), none, none, some (va_rf (lf x)), some (va_rf (rg x)), none]) B dJ40_find_44 rfl (Nat.le_of_ble_eq_true rfl) (rv_o _) rfl ?_
        refine g_goto (tgt := 165) B dJ40_find_46 (by decide) ?_
        refine g_aload (q := 167) B dJ40_find_165 rfl rfl (rv_o _) ?_
        refine g_ifnonnull_o (tgt := 3) (q := 170) B dJ40_find_167 rfl (by decide) (fun rgx_a167 c167 => ?_) (fun c167 => ?_)
        · skip
          rw [c167]
          refine (show Go g κ 3 [some (.ref a), some (.int hh), some (.ref s), some (.null), some (.ref rgx_a167), some (.int (hs x)), none, none, some (va_rf (lf x)), some (.ref rgx_a167), none] [] [w0, w1, w2] 0 0 from ?_)
          refine g_fg 5 rfl ?_
          refine g_fg 8 rfl ?_
          refine g_fg 9 rfl ?_
          exact ih3 _ (by rw [← hmu3, ← c167]; first | exact wid_l hT hx | exact wid_r hT hx) rgx_a167 (tr_rm hT hx c167) (by have z := hT.2.2.2.2.2.1 x hx _ c167; have z2 := (not_congr hrk_le).mp c39; exact ⟨z.1, by rw [z.2.2.1]; show hrk (hs x) + 1 ≤ hrk hh; omega, by rw [z.2.2.2]; exact hp.2.2⟩) rfl
        · skip
          rw [c167]
          refine (show Go g κ 170 [some (.ref a), some (.int hh), some (.ref s), some (.null), some (.null), some (.int (hs x)), none, none, some (va_rf (lf x)), some (.null), none] [] [w0, w1, w2] 0 0 from ?_)
          exact absurd (hT.2.2.2.2.1 x hx c167 a0 ha0 (by show hrk (hs x) < hrk (hs a0); rw [ha1]; have := (not_congr hrk_le).mp c39; omega) (by show hrk (hs a0) < hi x; rw [ha1]; exact hp.2.2)) id
    · skip
      refine g_aload (q := 31) B dJ40_find_29 rfl rfl (rv_o _) ?_
      refine g_astore (q := 33) (lv2 := [some (.ref a), some (.int hh), some (.ref s), some (.null), some (va_rf (lf x)), some (.int (hs x)), none, none, some (va_rf (lf x)), some (va_rf (rg x)), none]) B dJ40_find_31 rfl (Nat.le_of_ble_eq_true rfl) (rv_o _) rfl ?_
      refine g_goto (tgt := 165) B dJ40_find_33 (by decide) ?_
      refine g_aload (q := 167) B dJ40_find_165 rfl rfl (rv_o _) ?_
      refine g_ifnonnull_o (tgt := 3) (q := 170) B dJ40_find_167 rfl (by decide) (fun lfx_a167 c167 => ?_) (fun c167 => ?_)
      · skip
        rw [c167]
        refine (show Go g κ 3 [some (.ref a), some (.int hh), some (.ref s), some (.null), some (.ref lfx_a167), some (.int (hs x)), none, none, some (.ref lfx_a167), some (va_rf (rg x)), none] [] [w0, w1, w2] 0 0 from ?_)
        refine g_fg 5 rfl ?_
        refine g_fg 8 rfl ?_
        refine g_fg 9 rfl ?_
        exact ih3 _ (by rw [← hmu3, ← c167]; first | exact wid_l hT hx | exact wid_r hT hx) lfx_a167 (tr_lm hT hx c167) (by have z := hT.2.2.2.1 x hx _ c167; have z2 := (not_congr hrk_le).mp c26; exact ⟨z.1, by rw [z.2.2.1]; exact hp.2.1, by rw [z.2.2.2]; show hrk hh < hrk (hs x); omega⟩) rfl
      · skip
        rw [c167]
        refine (show Go g κ 170 [some (.ref a), some (.int hh), some (.ref s), some (.null), some (.null), some (.int (hs x)), none, none, some (.null), some (va_rf (rg x)), none] [] [w0, w1, w2] 0 0 from ?_)
        exact absurd (hT.2.2.1 x hx c167 a0 ha0 (by show lo x ≤ hrk (hs a0); rw [ha1]; exact hp.2.1) (by show hrk (hs a0) < hrk (hs x); rw [ha1]; have := (not_congr hrk_le).mp c26; omega)) id
  exact lp3 _ a (ha) (by rw [har]; have z := hT.2.2.2.2.2.2.2.2.2 root rfl; exact ⟨z.1, by omega, by rw [z.2.2.2]; exact hrk_lt _⟩) rfl
