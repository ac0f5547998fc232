set_option maxRecDepth 100000
def Vd (g : Gv) (y : Nat) (w : va_W) : Prop := (∃ (ci : Nat) (fs : List Value), ci < 38 ∧ (y, .inr (ci, fs)) ∈ w) ∨ ∃ k : Nat, k < 256 ∧ y = gA g (1000 + k)
/-- the things at these places may lie in an Object array -/
def EltP (g : Gv) (ys : List Nat) (w : va_W) : Prop := ∀ y ∈ ys, Vd g y w
theorem cl_obj : ∀ ci, ci < 38 → ∃ (C : String) (T : u_T) (N : Nat), gCL[ci]? = some (C, T, N) ∧ Cond.castable C "java/lang/Object" ∈ lw_tbl
  | 0, _ => ⟨_, _, _, rfl, q3678⟩
  | 1, _ => ⟨_, _, _, rfl, q3679⟩
  | 2, _ => ⟨_, _, _, rfl, q3685⟩
  | 3, _ => ⟨_, _, _, rfl, q3690⟩
  | 4, _ => ⟨_, _, _, rfl, q3691⟩
  | 5, _ => ⟨_, _, _, rfl, q3702⟩
  | 6, _ => ⟨_, _, _, rfl, q3703⟩
  | 7, _ => ⟨_, _, _, rfl, q3708⟩
  | 8, _ => ⟨_, _, _, rfl, q3714⟩
  | 9, _ => ⟨_, _, _, rfl, q3716⟩
  | 10, _ => ⟨_, _, _, rfl, q3717⟩
  | 11, _ => ⟨_, _, _, rfl, q3723⟩
  | 12, _ => ⟨_, _, _, rfl, q3683⟩
  | 13, _ => ⟨_, _, _, rfl, q3687⟩
  | 14, _ => ⟨_, _, _, rfl, q3699⟩
  | 15, _ => ⟨_, _, _, rfl, q3700⟩
  | 16, _ => ⟨_, _, _, rfl, q3713⟩
  | 17, _ => ⟨_, _, _, rfl, q3677⟩
  | 18, _ => ⟨_, _, _, rfl, q3715⟩
  | 19, _ => ⟨_, _, _, rfl, q3722⟩
  | 20, _ => ⟨_, _, _, rfl, q3724⟩
  | 21, _ => ⟨_, _, _, rfl, q3680⟩
  | 22, _ => ⟨_, _, _, rfl, q3692⟩
  | 23, _ => ⟨_, _, _, rfl, q3681⟩
  | 24, _ => ⟨_, _, _, rfl, q3676⟩
  | 25, _ => ⟨_, _, _, rfl, q3707⟩
  | 26, _ => ⟨_, _, _, rfl, q3682⟩
  | 27, _ => ⟨_, _, _, rfl, q3686⟩
  | 28, _ => ⟨_, _, _, rfl, q3705⟩
  | 29, _ => ⟨_, _, _, rfl, q3697⟩
  | 30, _ => ⟨_, _, _, rfl, q3709⟩
  | 31, _ => ⟨_, _, _, rfl, q3719⟩
  | 32, _ => ⟨_, _, _, rfl, q3710⟩
  | 33, _ => ⟨_, _, _, rfl, q3698⟩
  | 34, _ => ⟨_, _, _, rfl, q3721⟩
  | 35, _ => ⟨_, _, _, rfl, q3701⟩
  | 36, _ => ⟨_, _, _, rfl, q3695⟩
  | 37, _ => ⟨_, _, _, rfl, q3694⟩
  | n + 38, h => absurd h (by omega)
theorem rc_vd {g : Gv} {κ : Kx} {own : String} {cc : ByteArray} {nL : Nat} {ret : Option FieldType} {lvl : Nat} {L : List va_W} (B : Fx g κ own cc nL ret lvl) (J : Jd g) {k y : Nat} {w : va_W} (hL : L[k]? = some w) (h : Vd g y w) : ∃ C, Rec g κ L y C ∧ As g C "java/lang/Object" := by
  rcases h with ⟨ci, fs, hc, hm⟩ | ⟨k, hk, rfl⟩
  · obtain ⟨C, T, N, h1, h2⟩ := cl_obj ci hc
    exact ⟨C, rc_in B h1 hL ⟨fs, hm⟩, as_c h2⟩
  · refine ⟨"java/lang/Integer", rc_O B (fun A U H h => ?_), as_c q3701⟩
    exact (J.2.1.2.2 A U H h).1 k hk
/-- an ArrayList at p holding xs; md: its modCount; cap: its room (0: the empty array that all share) -/
def ListP (g : Gv) (p : Nat) (xs : List Nat) (md : Int32) (cap : Nat) (w : va_W) : Prop :=
  (cap = 0 ∧ xs = [] ∧ w = ([[(p, .inr (21, [.int md, .ref (gA g 0), .int (nI 0)]))]] : List va_W).flatten) ∨
  ∃ arr : Nat, 0 < cap ∧ cap < 16777216 ∧ xs.length ≤ cap ∧ w = ([[(p, .inr (21, [.int md, .ref arr, .int (nI xs.length)]))], [(arr, .inl (g.2.1 1, cap, .inr (.inr (.inr (.inr (fun i => xs[i]?))))))]] : List va_W).flatten
theorem ListP.hm {g : Gv} {p : Nat} {xs : List Nat} {md : Int32} {cap : Nat} {w : va_W} (h : ListP g p xs md cap w) : ∃ fs, (p, .inr (21, fs)) ∈ w := by
  rcases h with ⟨-, -, rfl⟩ | ⟨arr, -, -, -, rfl⟩
  · exact ⟨_, List.mem_cons_self⟩
  · exact ⟨_, List.mem_cons_self⟩
theorem ListP.len {g : Gv} {p : Nat} {xs : List Nat} {md : Int32} {cap : Nat} {w : va_W} (h : ListP g p xs md cap w) : xs.length ≤ cap ∧ cap < 16777216 := by
  rcases h with ⟨rfl, rfl, -⟩ | ⟨arr, h1, h2, h3, -⟩
  · exact ⟨Nat.le_refl _, by decide⟩
  · exact ⟨h3, h2⟩
def growN (cap : Nat) : Nat := if cap = 0 then 10 else cap + max 1 (cap / 2)
theorem up_app (xs : List Nat) (x : Nat) : va_up (fun i => xs[i]?) xs.length (some x) = fun i => (xs ++ [x])[i]? := by
  funext i
  unfold va_up
  by_cases h : i = xs.length
  · rw [if_pos h, h, List.getElem?_append_right (Nat.le_refl _)]; simp
  · rw [if_neg h]
    rcases Nat.lt_or_ge i xs.length with h1 | h1
    · rw [List.getElem?_append_left h1]
    · show xs[i]? = _
      rw [List.getElem?_eq_none h1, List.getElem?_eq_none (by simp; omega)]
theorem ct_J0_init (g : Gv) (J : Jd g) {p : Nat} : Ct g yJ0_init (ws_ yJ0_init cJ0_init 1 none) 1 0 0 [.ref p] [] (fun (v : Option Value) (L : List va_W) => v = none ∧ L = []) noX := by
  refine Ct.ofI "java/util/AbstractCollection" [some (.ref p)] rfl (by decide) rfl (Nat.le_of_ble_eq_true rfl) rfl rfl ?_
  intro κ B E tb ini
  refine g_aload_n (q := 1) B dJ0_init_0 rfl rfl (rv_r _) ?_
  refine g_objInit (q := 4) B q176 q157 q158 dJ0_init_1 rfl rfl (Nat.le_of_ble_eq_true rfl) ?_
  exact g_vret B E dJ0_init_4 (⟨rfl, rfl⟩)
theorem moJ0_init : Mo yJ0_init 0 := by
  refine ⟨by decide, by decide, by decide +kernel⟩
theorem ct_J1_init (g : Gv) (J : Jd g) {p : Nat} {r : Option Nat} {n : Int32} {m : Int32} : Ct g yJ1_init (ws_ yJ1_init cJ1_init 1 none) 2 0 0 [.ref p] [[(p, .inr (21, [.int m, va_rf r, .int n]))]] (fun (v : Option Value) (L : List va_W) => v = none ∧ L = [[(p, .inr (21, [.int (nI 0), va_rf r, .int n]))]]) noX := by
  refine Ct.ofI "java/util/AbstractList" [some (.ref p)] rfl (by decide) rfl (Nat.le_of_ble_eq_true rfl) rfl rfl ?_
  intro κ B E tb ini
  refine g_aload_n (q := 1) B dJ1_init_0 rfl rfl (rv_r _) ?_
  refine g_callI (q := 4) (is := []) (kc2 := 0) (ks2 := 0) B [] (ct_J0_init g J (p := p)  ) dJ1_init_1 rfl rfl q173 q174 q79 q175 rfl rfl moJ0_init rfl rfl (by decide) (by decide) (Nat.le_of_ble_eq_true rfl) (Nat.le_of_ble_eq_true rfl) (Nat.le_of_ble_eq_true rfl) (fun _ _ hx => noX_x hx) (fun v1 L1 hp1 => ?_)
  obtain ⟨rfl, rfl⟩ := hp1
  refine (show Go g κ 4 [some (.ref p)] [] [[(p, .inr (21, [.int m, va_rf r, .int n]))]] 0 0 from ?_)
  refine g_aload_n (q := 5) B dJ1_init_4 rfl rfl (rv_r _) ?_
  refine g_iconst (v := nI 0) (q := 6) B dJ1_init_5 rfl (by decide) ?_
  refine g_put (q := 9) (L2 := [[(p, .inr (21, [.int (nI 0), va_rf r, .int n]))]]) B (ci := 21) (k := 0) (j := 0) in_J2 tyJ2 tyJ2_ok nmJ2 rfl dJ1_init_6 rfl rfl (Nat.le_of_ble_eq_true rfl) q183 rfl rfl rfl rfl (Nat.le_of_ble_eq_true rfl) rfl ?_
  exact g_vret B E dJ1_init_9 (⟨rfl, rfl⟩)
theorem moJ1_init : Mo yJ1_init 0 := by
  refine ⟨by decide, by decide, by decide +kernel⟩
theorem ct_J2_init (g : Gv) (J : Jd g) {p : Nat} : Ct g yJ2_init (ws_ yJ2_init cJ2_init 1 none) 3 0 0 [.ref p] [[(p, .inr (21, [.int (nI 0), .null, .int (nI 0)]))]] (fun (v : Option Value) (L : List va_W) => ∃ (u0 : va_W), v = none ∧ L = [u0] ∧ ListP g p ([]) (nI 0) 0 u0) noX := by
  refine Ct.ofI "java/util/ArrayList" [some (.ref p)] rfl (by decide) rfl (Nat.le_of_ble_eq_true rfl) rfl rfl ?_
  intro κ B E tb ini
  refine g_aload_n (q := 1) B dJ2_init_0 rfl rfl (rv_r _) ?_
  refine g_callI (q := 4) (is := [0]) (kc2 := 0) (ks2 := 0) B [] (ct_J1_init g J (p := p) (r := none) (n := nI 0) (m := nI 0)  ) dJ2_init_1 rfl rfl q170 q171 q80 q172 rfl rfl moJ1_init rfl rfl (by decide) (by decide) (Nat.le_of_ble_eq_true rfl) (Nat.le_of_ble_eq_true rfl) (Nat.le_of_ble_eq_true rfl) (fun _ _ hx => noX_x hx) (fun v1 L1 hp1 => ?_)
  obtain ⟨rfl, rfl⟩ := hp1
  refine (show Go g κ 4 [some (.ref p)] [] [[(p, .inr (21, [.int (nI 0), .null, .int (nI 0)]))]] 0 0 from ?_)
  refine g_aload_n (q := 5) B dJ2_init_4 rfl rfl (rv_r _) ?_
  refine g_gets (q := 8) B J.1.1 dJ2_init_5 rfl q177 ?_
  refine g_put (q := 11) (L2 := [[(p, .inr (21, [.int (nI 0), .ref (gA g 0), .int (nI 0)]))]]) B (ci := 21) (k := 0) (j := 1) in_J2 tyJ2 tyJ2_ok nmJ2 rfl dJ2_init_8 rfl rfl (Nat.le_of_ble_eq_true rfl) q179 rfl rfl rfl rfl (Nat.le_of_ble_eq_true rfl) rfl ?_
  obtain ⟨wc_1, ewc_1⟩ : ∃ w : va_W, w = ([[(p, .inr (21, [.int (nI 0), .ref (gA g 0), .int (nI 0)]))]] : List va_W).flatten := ⟨_, rfl⟩
  have hwc_1 : ListP g p ([]) (nI 0) 0 wc_1 := by
    rw [ewc_1]
    exact Or.inl ⟨rfl, rfl, rfl⟩
  refine g_close (w := wc_1) [0] rfl ewc_1 rfl ?_
  refine (show Go g κ 11 [some (.ref p)] [] [wc_1] 0 0 from ?_)
  exact g_vret B E dJ2_init_11 (⟨wc_1, rfl, rfl, hwc_1⟩)
theorem ListP.cell {g : Gv} {p : Nat} {xs : List Nat} {md : Int32} {cap : Nat} {w : va_W} (h : ListP g p xs md cap w) : ∃ arr : Nat, (p, .inr (21, [.int md, .ref arr, .int (nI xs.length)])) ∈ w ∧ (xs = [] ∧ cap = 0 ∧ arr = gA g 0 ∨ 0 < cap ∧ (arr, .inl (g.2.1 1, cap, .inr (.inr (.inr (.inr (fun i => xs[i]?)))))) ∈ w) := by
  rcases h with ⟨rfl, rfl, rfl⟩ | ⟨arr, h0, -, -, rfl⟩
  · exact ⟨_, List.mem_cons_self, Or.inl ⟨rfl, rfl, rfl⟩⟩
  · exact ⟨_, List.mem_cons_self, Or.inr ⟨h0, List.mem_cons_of_mem _ List.mem_cons_self⟩⟩
theorem ListP.arr {g : Gv} {p : Nat} {xs : List Nat} {md : Int32} {cap i x : Nat} {w : va_W} (h : ListP g p xs md cap w) (hi : xs[i]? = some x) : ∃ arr : Nat, (p, .inr (21, [.int md, .ref arr, .int (nI xs.length)])) ∈ w ∧ (arr, .inl (g.2.1 1, cap, .inr (.inr (.inr (.inr (fun i => xs[i]?)))))) ∈ w := by
  obtain ⟨arr, h1, ⟨rfl, -⟩ | ⟨-, h2⟩⟩ := h.cell
  · simp at hi
  · exact ⟨arr, h1, h2⟩
theorem get_lt {xs : List Nat} {i x : Nat} (h : xs[i]? = some x) : i < xs.length := (List.getElem?_eq_some_iff.mp h).1
theorem ct_J2_size (g : Gv) (J : Jd g) {p : Nat} {xs : List Nat} {md : Int32} {cap : Nat} {w0 : va_W} (hw0 : ListP g p xs md cap w0) : Ct g yJ2_size (ws_ yJ2_size cJ2_size 1 (some .int)) 0 0 0 [.ref p] [w0] (fun (v : Option Value) (L : List va_W) => v = some (.int (nI xs.length)) ∧ L = [w0]) noX := by
  refine Ct.of "java/util/ArrayList" [some (.ref p)] rfl (by decide) rfl (Nat.le_of_ble_eq_true rfl) rfl ?_
  intro κ B E tb
  have hlen := ListP.len hw0
  obtain ⟨arr, hpk, hpa⟩ := ListP.cell hw0
  refine g_aload_n (q := 1) B dJ2_size_0 rfl rfl (rv_r _) ?_
  refine g_getM (q := 4) B (ci := 21) (k := 0) (j := 2) in_J2 rfl dJ2_size_1 rfl rfl (hpk) (Nat.le_of_ble_eq_true rfl) q182 rfl rfl ?_
  exact g_iret B E dJ2_size_4 (⟨rfl, rfl⟩)
theorem ct_J2_isEmpty (g : Gv) (J : Jd g) {p : Nat} {xs : List Nat} {md : Int32} {cap : Nat} {w0 : va_W} (hw0 : ListP g p xs md cap w0) : Ct g yJ2_isEmpty (ws_ yJ2_isEmpty cJ2_isEmpty 1 (some .boolean)) 0 0 0 [.ref p] [w0] (fun (v : Option Value) (L : List va_W) => v = some (.int (nI (if xs.length = 0 then 1 else 0))) ∧ L = [w0]) noX := by
  refine Ct.of "java/util/ArrayList" [some (.ref p)] rfl (by decide) rfl (Nat.le_of_ble_eq_true rfl) rfl ?_
  intro κ B E tb
  have hlen := ListP.len hw0
  obtain ⟨arr, hpk, hpa⟩ := ListP.cell hw0
  refine g_aload_n (q := 1) B dJ2_isEmpty_0 rfl rfl (rv_r _) ?_
  refine g_getM (q := 4) B (ci := 21) (k := 0) (j := 2) in_J2 rfl dJ2_isEmpty_1 rfl rfl (hpk) (Nat.le_of_ble_eq_true rfl) q182 rfl rfl ?_
  refine g_if_ne (tgt := 11) (q := 7) B dJ2_isEmpty_4 rfl (by decide) (nI_ne00 (by omega)) (fun c4 => ?_) (fun c4 => ?_)
  · skip
    refine g_iconst (v := nI 0) (q := 12) B dJ2_isEmpty_11 rfl (by decide) ?_
    exact g_zret B E dJ2_isEmpty_12 (by decide) (⟨bo0 (by first | assumption | omega | (simp_all; done)), rfl⟩)
  · skip
    refine g_iconst (v := nI 1) (q := 8) B dJ2_isEmpty_7 rfl (by decide) ?_
    refine g_goto (tgt := 12) B dJ2_isEmpty_8 (by decide) ?_
    exact g_zret B E dJ2_isEmpty_12 (by decide) (⟨bo1 (by first | assumption | omega | (simp_all; done)), rfl⟩)
theorem ct_J2_elementData (g : Gv) (J : Jd g) {p : Nat} {xs : List Nat} {md : Int32} {cap : Nat} {i : Nat} {x : Nat} {w0 : va_W} (hw0 : ListP g p xs md cap w0) (hi : xs[i]? = some x) : Ct g yJ2_elementData (ws_ yJ2_elementData cJ2_elementData 2 (some (.object "java/lang/Object"))) 0 0 0 [.ref p, .int (nI i)] [w0] (fun (v : Option Value) (L : List va_W) => v = some (.ref x) ∧ L = [w0]) noX := by
  refine Ct.of "java/util/ArrayList" [some (.ref p), some (.int (nI i))] rfl (by decide) rfl (Nat.le_of_ble_eq_true rfl) rfl ?_
  intro κ B E tb
  have hlen := ListP.len hw0
  obtain ⟨arr, hpk, hpa⟩ := ListP.arr hw0 hi
  have hlt := get_lt hi
  refine g_aload_n (q := 1) B dJ2_elementData_0 rfl rfl (rv_r _) ?_
  refine g_getM (q := 4) B (ci := 21) (k := 0) (j := 1) in_J2 rfl dJ2_elementData_1 rfl rfl (hpk) (Nat.le_of_ble_eq_true rfl) q179 rfl rfl ?_
  refine g_iload_n (q := 5) B dJ2_elementData_4 rfl rfl ?_
  refine g_aldM (r := some x) (q := 6) B (k := 0) (t := 1) dJ2_elementData_5 rfl rfl (hpa) rfl (vp_in_nI (by omega) (by omega)) (by rw [nI_clamp (by omega)]; exact hi) ?_
  exact g_aret B E dJ2_elementData_6 (by first | exact Or.inl ⟨_, rfl⟩ | exact Or.inr ⟨_, rfl⟩) (rv_r _) (⟨rfl, rfl⟩)
theorem moJ17_checkIndex : Mo yJ17_checkIndex 2 := by
  refine ⟨by decide, by decide, by decide +kernel⟩
theorem moJ2_elementData : Mo yJ2_elementData 1 := by
  refine ⟨by decide, by decide, by decide +kernel⟩
theorem ct_J2_get (g : Gv) (J : Jd g) {p : Nat} {xs : List Nat} {md : Int32} {cap : Nat} {i : Nat} {x : Nat} {w0 : va_W} (hw0 : ListP g p xs md cap w0) (hi : xs[i]? = some x) : Ct g yJ2_get (ws_ yJ2_get cJ2_get 2 (some (.object "java/lang/Object"))) 2 0 0 [.ref p, .int (nI i)] [w0] (fun (v : Option Value) (L : List va_W) => v = some (.ref x) ∧ L = [w0]) noX := by
  refine Ct.of "java/util/ArrayList" [some (.ref p), some (.int (nI i))] rfl (by decide) rfl (Nat.le_of_ble_eq_true rfl) rfl ?_
  intro κ B E tb
  have hlen := ListP.len hw0
  obtain ⟨arr, hpk, hpa⟩ := ListP.arr hw0 hi
  have hlt := get_lt hi
  refine g_iload_n (q := 1) B dJ2_get_0 rfl rfl ?_
  refine g_aload_n (q := 2) B dJ2_get_1 rfl rfl (rv_r _) ?_
  refine g_getM (q := 5) B (ci := 21) (k := 0) (j := 2) in_J2 rfl dJ2_get_2 rfl rfl (hpk) (Nat.le_of_ble_eq_true rfl) q182 rfl rfl ?_
  refine g_callS (q := 8) (is := []) (kc2 := 0) (ks2 := 0) B [.int (nI i), .int (nI xs.length)] (ct_J17_checkIndex g J (i := i) (n := xs.length)  (by first | assumption | omega | rfl) (by first | assumption | omega | rfl)) dJ2_get_5 rfl q1098 q1099 q100 q1100 rfl rfl moJ17_checkIndex rfl rfl (by decide) (by decide) (Nat.le_of_ble_eq_true rfl) (Nat.le_of_ble_eq_true rfl) (Nat.le_of_ble_eq_true rfl) (fun _ _ hx => noX_x hx) (fun v5 L1 hp5 => ?_)
  obtain ⟨rfl, rfl⟩ := hp5
  refine (show Go g κ 8 [some (.ref p), some (.int (nI i))] [.int (nI i)] [w0] 0 0 from ?_)
  refine g_pop (q := 9) B dJ2_get_8 rfl rfl ?_
  refine g_aload_n (q := 10) B dJ2_get_9 rfl rfl (rv_r _) ?_
  refine g_iload_n (q := 11) B dJ2_get_10 rfl rfl ?_
  refine g_callV (q := 14) (is := [0]) (kc2 := 0) (ks2 := 0) B [.int (nI i)] (ct_J2_elementData g J (p := p) (xs := xs) (md := md) (cap := cap) (i := i) (x := x) hw0 (by first | assumption | omega | rfl)) dJ2_get_11 rfl (rc_in B (ci := 21) rfl (k := 0) rfl (ListP.hm hw0)) rfl q1104 q1105 q1106 q81 q1107 rfl rfl moJ2_elementData rfl rfl (by decide) (by decide) (Nat.le_of_ble_eq_true rfl) (Nat.le_of_ble_eq_true rfl) (Nat.le_of_ble_eq_true rfl) (fun _ _ hx => noX_x hx) (fun v11 L1 hp11 => ?_)
  obtain ⟨rfl, rfl⟩ := hp11
  refine (show Go g κ 14 [some (.ref p), some (.int (nI i))] [.ref x] [w0] 0 0 from ?_)
  exact g_aret B E dJ2_get_14 (by first | exact Or.inl ⟨_, rfl⟩ | exact Or.inr ⟨_, rfl⟩) (rv_r _) (⟨rfl, rfl⟩)
theorem cpy_xs {xs : List Nat} {n : Nat} (h : xs.length ≤ n) : va_cpy (fun i => xs[i]?) (fun _ => none) 0 0 n = fun i => xs[i]? := by
  funext i
  unfold va_cpy
  by_cases h1 : 0 ≤ i ∧ i < 0 + n
  · rw [if_pos h1]; simp
  · rw [if_neg h1, List.getElem?_eq_none (by omega)]
theorem rc_el {g : Gv} {κ : Kx} {own : String} {cc : ByteArray} {nL : Nat} {ret : Option FieldType} {lvl : Nat} {L : List va_W} (B : Fx g κ own cc nL ret lvl) (J : Jd g) {k : Nat} {w : va_W} {xs : List Nat} (hL : L[k]? = some w) (he : EltP g xs w) {i y : Nat} (h : xs[i]? = some y) : ∃ C, Rec g κ L y C ∧ As g C "java/lang/Object" := rc_vd B J hL (he y (List.mem_of_getElem? h))
theorem ct_J13_copyOf_3 (g : Gv) (J : Jd g) {a : Nat} {n : Nat} {m : Nat} {xs : List Nat} {we : va_W} (hn : xs.length ≤ n) (hm : n ≤ m) (hm2 : m < 16777216) (he : EltP g xs we) : Ct g yJ13_copyOf_3 (ws_ yJ13_copyOf_3 cJ13_copyOf_3 4 (some (.array (.object "java/lang/Object")))) 1 1 m [.ref a, .int (nI m), .ref (gA g 5)] [[(a, .inl (g.2.1 1, n, .inr (.inr (.inr (.inr (fun i => xs[i]?))))))], we] (fun (v : Option Value) (L : List va_W) => ∃ (b : Nat), v = some (.ref b) ∧ L = [[(a, .inl (g.2.1 1, n, .inr (.inr (.inr (.inr (fun i => xs[i]?))))))], we, [(b, .inl (g.2.1 1, m, .inr (.inr (.inr (.inr (fun i => xs[i]?))))))]]) noX := by
  refine Ct.of "java/util/Arrays" [some (.ref a), some (.int (nI m)), some (.ref (gA g 5)), none] rfl (by decide) rfl (Nat.le_of_ble_eq_true rfl) rfl ?_
  intro κ B E tb
  refine g_aload_n (q := 1) B dJ13_copyOf_3_0 rfl rfl (rv_r _) ?_
  refine g_ldcM (q := 3) B J.2.2.2.2.1.2 dJ13_copyOf_3_1 rfl q787 ?_
  refine g_acmp_ne (rx := some (gA g 5)) (ry := some (gA g 5)) (tgt := 13) (q := 6) B dJ13_copyOf_3_3 rfl (by decide) rfl rfl (iff_false_intro (fun h => h rfl)) (fun z => z.elim) (fun _ => ?_)
  refine g_iload_n (q := 7) B dJ13_copyOf_3_6 rfl rfl ?_
  refine g_newq (q := 10) (kc2 := 0) (ks2 := m - m) (t := 1) (N := m) B q789 q788 rfl dJ13_copyOf_3_7 rfl (nI_pos (by omega)) (nI_clamp (by omega)) (by omega) (Nat.le_of_ble_eq_true rfl) (by omega) (fun n7 => ?_)
  refine (show Go g κ 10 [some (.ref a), some (.int (nI m)), some (.ref (gA g 5)), none] [.ref n7] [[(a, .inl (g.2.1 1, n, .inr (.inr (.inr (.inr (fun i => xs[i]?))))))], we, [(n7, .inl (g.2.1 1, m, .inr (.inr (.inr (.inr (fun _ => none))))))]] 0 (m - m) from ?_)
  refine g_goto (tgt := 24) B dJ13_copyOf_3_10 (by decide) ?_
  refine g_astore_n (q := 25) (lv2 := [some (.ref a), some (.int (nI m)), some (.ref (gA g 5)), some (.ref n7)]) B dJ13_copyOf_3_24 rfl (Nat.le_of_ble_eq_true rfl) (rv_r _) rfl ?_
  refine g_aload_n (q := 26) B dJ13_copyOf_3_25 rfl rfl (rv_r _) ?_
  refine g_iconst (v := nI 0) (q := 27) B dJ13_copyOf_3_26 rfl (by decide) ?_
  refine g_aload_n (q := 28) B dJ13_copyOf_3_27 rfl rfl (rv_r _) ?_
  refine g_iconst (v := nI 0) (q := 29) B dJ13_copyOf_3_28 rfl (by decide) ?_
  refine g_aload_n (q := 30) B dJ13_copyOf_3_29 rfl rfl (rv_r _) ?_
  refine g_alen (v := nI n) (q := 31) B (k := 0) (t := 1) dJ13_copyOf_3_30 rfl rfl rfl rfl ?_
  refine g_iload_n (q := 32) B dJ13_copyOf_3_31 rfl rfl ?_
  refine g_mmin (q := 35) B q458 dJ13_copyOf_3_32 rfl rfl (Nat.le_of_ble_eq_true rfl) (by omega) (by omega) ?_
  refine g_copyM (q := 38) (L2 := [[(a, .inl (g.2.1 1, n, .inr (.inr (.inr (.inr (fun i => xs[i]?))))))], we, [(n7, .inl (g.2.1 1, m, .inr (.inr (.inr (.inr (fun i => xs[i]?))))))]]) B (k0 := 0) (k1 := 2) (t0 := 1) (t1 := 1) ⟨q461, q463, q462, q95⟩ rfl rfl rfl rfl (by decide) (by decide) (nI_pos (by omega)) (by rw [nI_clamp (by omega), nI_clamp (by omega)]; omega) (by rw [nI_clamp (by omega), nI_clamp (by omega)]; omega) (fun i _ y hy => rc_el B J (k := 1) rfl he hy) dJ13_copyOf_3_35 rfl rfl (Nat.le_of_ble_eq_true rfl) ?_ ?_
  · rw [nI_clamp (by omega), nI_clamp (by omega), Nat.min_eq_left (by omega), cpy_xs hn]
    rfl
  refine (show Go g κ 38 [some (.ref a), some (.int (nI m)), some (.ref (gA g 5)), some (.ref n7)] [] [[(a, .inl (g.2.1 1, n, .inr (.inr (.inr (.inr (fun i => xs[i]?))))))], we, [(n7, .inl (g.2.1 1, m, .inr (.inr (.inr (.inr (fun i => xs[i]?))))))]] 0 (m - m) from ?_)
  refine g_aload_n (q := 39) B dJ13_copyOf_3_38 rfl rfl (rv_r _) ?_
  exact g_aret B E dJ13_copyOf_3_39 (by first | exact Or.inl ⟨_, rfl⟩ | exact Or.inr ⟨_, rfl⟩) (rv_r _) (⟨n7, rfl, rfl⟩)
theorem moJ13_copyOf_3 : Mo yJ13_copyOf_3 3 := by
  refine ⟨by decide, by decide, by decide +kernel⟩
theorem ct_J13_copyOf_2 (g : Gv) (J : Jd g) {a : Nat} {n : Nat} {m : Nat} {xs : List Nat} {we : va_W} (hn : xs.length ≤ n) (hm : n ≤ m) (hm2 : m < 16777216) (he : EltP g xs we) : Ct g yJ13_copyOf_2 (ws_ yJ13_copyOf_2 cJ13_copyOf_2 2 (some (.array (.object "java/lang/Object")))) 2 1 m [.ref a, .int (nI m)] [[(a, .inl (g.2.1 1, n, .inr (.inr (.inr (.inr (fun i => xs[i]?))))))], we] (fun (v : Option Value) (L : List va_W) => ∃ (b : Nat), v = some (.ref b) ∧ L = [[(a, .inl (g.2.1 1, n, .inr (.inr (.inr (.inr (fun i => xs[i]?))))))], we, [(b, .inl (g.2.1 1, m, .inr (.inr (.inr (.inr (fun i => xs[i]?))))))]]) noX := by
  refine Ct.of "java/util/Arrays" [some (.ref a), some (.int (nI m))] rfl (by decide) rfl (Nat.le_of_ble_eq_true rfl) rfl ?_
  intro κ B E tb
  refine g_aload_n (q := 1) B dJ13_copyOf_2_0 rfl rfl (rv_r _) ?_
  refine g_iload_n (q := 2) B dJ13_copyOf_2_1 rfl rfl ?_
  refine g_aload_n (q := 3) B dJ13_copyOf_2_2 rfl rfl (rv_r _) ?_
  refine g_getC (q := 6) B J.2.2.2.2.1.2 (rc_arr B (k := 0) (t := 1) rfl rfl (by decide)) dJ13_copyOf_2_3 rfl rfl (Nat.le_of_ble_eq_true rfl) q730 q3730 q3729 q731 q783 ?_
  refine g_callS (q := 9) (is := [0, 0]) (kc2 := 0) (ks2 := m - m) B [.ref a, .int (nI m), .ref (gA g 5)] (ct_J13_copyOf_3 g J (a := a) (n := n) (m := m) (xs := xs) (we := we)  (by first | assumption | omega | rfl) (by first | assumption | omega | rfl) (by first | assumption | omega | rfl) (by first | assumption | omega | rfl)) dJ13_copyOf_2_6 rfl q784 q785 q94 q786 rfl rfl moJ13_copyOf_3 rfl rfl (by decide) (by decide) (Nat.le_of_ble_eq_true rfl) (Nat.le_of_ble_eq_true rfl) (by omega) (fun _ _ hx => noX_x hx) (fun v6 L1 hp6 => ?_)
  obtain ⟨b6, rfl, rfl⟩ := hp6
  refine (show Go g κ 9 [some (.ref a), some (.int (nI m))] [.ref b6] [[(a, .inl (g.2.1 1, n, .inr (.inr (.inr (.inr (fun i => xs[i]?))))))], we, [(b6, .inl (g.2.1 1, m, .inr (.inr (.inr (.inr (fun i => xs[i]?))))))]] 0 (m - m) from ?_)
  exact g_aret B E dJ13_copyOf_2_9 (by first | exact Or.inl ⟨_, rfl⟩ | exact Or.inr ⟨_, rfl⟩) (rv_r _) (⟨b6, rfl, rfl⟩)
theorem ct_J2_grow_2e (g : Gv) (J : Jd g) {p : Nat} {md : Int32} : Ct g yJ2_grow_2 (ws_ yJ2_grow_2 cJ2_grow_2 4 (some (.array (.object "java/lang/Object")))) 3 1 10 [.ref p, .int (nI 1)] [[(p, .inr (21, [.int md, .ref (gA g 0), .int (nI 0)]))]] (fun (v : Option Value) (L : List va_W) => ∃ (b : Nat), v = some (.ref b) ∧ L = [[(p, .inr (21, [.int md, .ref b, .int (nI 0)]))], [(b, .inl (g.2.1 1, 10, .inr (.inr (.inr (.inr (fun _ => none))))))]]) noX := by
  refine Ct.of "java/util/ArrayList" [some (.ref p), some (.int (nI 1)), none, none] rfl (by decide) rfl (Nat.le_of_ble_eq_true rfl) rfl ?_
  intro κ B E tb
  refine g_aload_n (q := 1) B dJ2_grow_2_0 rfl rfl (rv_r _) ?_
  refine g_get (q := 4) B (ci := 21) (k := 0) (j := 1) in_J2 rfl dJ2_grow_2_1 rfl rfl (Nat.le_of_ble_eq_true rfl) q179 rfl rfl ?_
  refine g_tlen (v := nI 0) (q := 5) B J.1.2 dJ2_grow_2_4 rfl rfl ?_
  refine g_istore_n (q := 6) (lv2 := [some (.ref p), some (.int (nI 1)), some (.int (nI 0)), none]) B dJ2_grow_2_5 rfl (Nat.le_of_ble_eq_true rfl) rfl ?_
  refine g_iload_n (q := 7) B dJ2_grow_2_6 rfl rfl ?_
  refine g_if_gt (tgt := 20) (q := 10) B dJ2_grow_2_7 rfl (by decide) (iff_false_intro (by decide)) (fun z => z.elim) (fun _ => ?_)
  refine g_aload_n (q := 11) B dJ2_grow_2_10 rfl rfl (rv_r _) ?_
  refine g_get (q := 14) B (ci := 21) (k := 0) (j := 1) in_J2 rfl dJ2_grow_2_11 rfl rfl (Nat.le_of_ble_eq_true rfl) q179 rfl rfl ?_
  refine g_gets (q := 17) B J.1.1 dJ2_grow_2_14 rfl q177 ?_
  refine g_acmp_eq (rx := some (gA g 0)) (ry := some (gA g 0)) (tgt := 45) (q := 20) B dJ2_grow_2_17 rfl (by decide) rfl rfl (iff_true_intro (rfl)) (fun _ => ?_) (fun z => absurd trivial z)
  refine g_aload_n (q := 46) B dJ2_grow_2_45 rfl rfl (rv_r _) ?_
  refine g_bipush (v := nI 10) (q := 48) B dJ2_grow_2_46 rfl (by decide) ?_
  refine g_iload_n (q := 49) B dJ2_grow_2_48 rfl rfl ?_
  refine g_mmax (q := 52) B q790 dJ2_grow_2_49 rfl rfl (Nat.le_of_ble_eq_true rfl) (by omega) (by omega) ?_
  refine (show Go g κ 52 [some (.ref p), some (.int (nI 1)), some (.int (nI 0)), none] [.int (nI 10), .ref p] [[(p, .inr (21, [.int md, .ref (gA g 0), .int (nI 0)]))]] 1 10 from ?_)
  refine g_newq (q := 55) (kc2 := 0) (ks2 := 0) (t := 1) (N := 10) B q791 q788 rfl dJ2_grow_2_52 rfl (by decide) rfl (by decide) (Nat.le_of_ble_eq_true rfl) (Nat.le_of_ble_eq_true rfl) (fun n52 => ?_)
  refine (show Go g κ 55 [some (.ref p), some (.int (nI 1)), some (.int (nI 0)), none] [.ref n52, .ref p] [[(p, .inr (21, [.int md, .ref (gA g 0), .int (nI 0)]))], [(n52, .inl (g.2.1 1, 10, .inr (.inr (.inr (.inr (fun _ => none))))))]] 0 0 from ?_)
  refine g_dup_x1 (q := 56) B dJ2_grow_2_55 rfl rfl rfl ?_
  refine g_put (q := 59) (L2 := [[(p, .inr (21, [.int md, .ref n52, .int (nI 0)]))], [(n52, .inl (g.2.1 1, 10, .inr (.inr (.inr (.inr (fun _ => none))))))]]) B (ci := 21) (k := 0) (j := 1) in_J2 tyJ2 tyJ2_ok nmJ2 rfl dJ2_grow_2_56 rfl rfl (Nat.le_of_ble_eq_true rfl) q179 rfl rfl rfl rfl (Nat.le_of_ble_eq_true rfl) rfl ?_
  exact g_aret B E dJ2_grow_2_59 (by first | exact Or.inl ⟨_, rfl⟩ | exact Or.inr ⟨_, rfl⟩) (rv_r _) (⟨n52, rfl, rfl⟩)
theorem moJ11_newLength : Mo yJ11_newLength 3 := by
  refine ⟨by decide, by decide, by decide +kernel⟩
theorem moJ13_copyOf_2 : Mo yJ13_copyOf_2 2 := by
  refine ⟨by decide, by decide, by decide +kernel⟩
theorem ct_J2_grow_2 (g : Gv) (J : Jd g) {p : Nat} {md : Int32} {arr : Nat} {cap : Nat} {xs : List Nat} {we : va_W} (h0 : 0 < cap) (h1 : cap < 8388608) (h2 : xs.length = cap) (he : EltP g xs we) : Ct g yJ2_grow_2 (ws_ yJ2_grow_2 cJ2_grow_2 4 (some (.array (.object "java/lang/Object")))) 3 1 (growN cap) [.ref p, .int (nI (xs.length + 1))] [[(p, .inr (21, [.int md, .ref arr, .int (nI xs.length)]))], [(arr, .inl (g.2.1 1, cap, .inr (.inr (.inr (.inr (fun i => xs[i]?))))))], we] (fun (v : Option Value) (L : List va_W) => ∃ (b : Nat), v = some (.ref b) ∧ L = [[(p, .inr (21, [.int md, .ref b, .int (nI xs.length)]))], [(b, .inl (g.2.1 1, growN cap, .inr (.inr (.inr (.inr (fun i => xs[i]?))))))], we]) noX := by
  refine Ct.of "java/util/ArrayList" [some (.ref p), some (.int (nI (xs.length + 1))), none, none] rfl (by decide) rfl (Nat.le_of_ble_eq_true rfl) rfl ?_
  intro κ B E tb
  refine g_aload_n (q := 1) B dJ2_grow_2_0 rfl rfl (rv_r _) ?_
  refine g_get (q := 4) B (ci := 21) (k := 0) (j := 1) in_J2 rfl dJ2_grow_2_1 rfl rfl (Nat.le_of_ble_eq_true rfl) q179 rfl rfl ?_
  refine g_alen (v := nI cap) (q := 5) B (k := 1) (t := 1) dJ2_grow_2_4 rfl rfl rfl rfl ?_
  refine g_istore_n (q := 6) (lv2 := [some (.ref p), some (.int (nI (xs.length + 1))), some (.int (nI cap)), none]) B dJ2_grow_2_5 rfl (Nat.le_of_ble_eq_true rfl) rfl ?_
  refine g_iload_n (q := 7) B dJ2_grow_2_6 rfl rfl ?_
  refine g_if_gt (tgt := 20) (q := 10) B dJ2_grow_2_7 rfl (by decide) (iff_true_intro ((nI_gt0 (by omega)).mpr h0)) (fun _ => ?_) (fun z => absurd trivial z)
  refine g_iload_n (q := 21) B dJ2_grow_2_20 rfl rfl ?_
  refine g_iload_n (q := 22) B dJ2_grow_2_21 rfl rfl ?_
  refine g_iload_n (q := 23) B dJ2_grow_2_22 rfl rfl ?_
  refine g_isub (v := nI 1) (q := 24) B dJ2_grow_2_23 rfl (by rw [h2, ← nI_add cap 1]; exact (by rw [Int32.add_comm, Int32.add_sub_cancel])) ?_
  refine g_iload_n (q := 25) B dJ2_grow_2_24 rfl rfl ?_
  refine g_iconst (v := nI 1) (q := 26) B dJ2_grow_2_25 rfl (by decide) ?_
  refine g_ishr (v := nI (cap / 2)) (q := 27) B dJ2_grow_2_26 rfl (by rw [show (nI 1 &&& 31 : Int32) = 1 from rfl]; exact pk_shrN (by omega) 1 1 rfl) ?_
  refine g_callS (q := 30) (is := []) (kc2 := 1) (ks2 := growN cap) B [.int (nI cap), .int (nI 1), .int (nI (cap / 2))] (ct_J11_newLength g J (a := cap) (b := 1) (c := cap / 2)  (by first | assumption | omega | rfl) (by first | assumption | omega | rfl) (by first | assumption | omega | rfl) (by first | assumption | omega | rfl)) dJ2_grow_2_27 rfl q726 q438 q92 q439 rfl rfl moJ11_newLength rfl rfl (by decide) (by decide) (Nat.le_of_ble_eq_true rfl) (Nat.le_of_ble_eq_true rfl) (by omega) (fun _ _ hx => noX_x hx) (fun v27 L1 hp27 => ?_)
  obtain ⟨rfl, rfl⟩ := hp27
  refine (show Go g κ 30 [some (.ref p), some (.int (nI (xs.length + 1))), some (.int (nI cap)), none] [.int (nI (cap + max 1 (cap / 2)))] [[(p, .inr (21, [.int md, .ref arr, .int (nI xs.length)]))], [(arr, .inl (g.2.1 1, cap, .inr (.inr (.inr (.inr (fun i => xs[i]?))))))], we] 1 (growN cap) from ?_)
  have hgr : cap + max 1 (cap / 2) = growN cap := by unfold growN; rw [if_neg (by omega)]
  rw [hgr]
  have hg1 : cap ≤ growN cap ∧ growN cap < 16777216 := by unfold growN; rw [if_neg (by omega)]; omega
  refine g_istore_n (q := 31) (lv2 := [some (.ref p), some (.int (nI (xs.length + 1))), some (.int (nI cap)), some (.int (nI (growN cap)))]) B dJ2_grow_2_30 rfl (Nat.le_of_ble_eq_true rfl) rfl ?_
  refine g_aload_n (q := 32) B dJ2_grow_2_31 rfl rfl (rv_r _) ?_
  refine g_aload_n (q := 33) B dJ2_grow_2_32 rfl rfl (rv_r _) ?_
  refine g_get (q := 36) B (ci := 21) (k := 0) (j := 1) in_J2 rfl dJ2_grow_2_33 rfl rfl (Nat.le_of_ble_eq_true rfl) q179 rfl rfl ?_
  refine g_iload_n (q := 37) B dJ2_grow_2_36 rfl rfl ?_
  refine g_callS (q := 40) (is := [1, 1]) (kc2 := 0) (ks2 := (growN cap) - (growN cap)) B [.ref arr, .int (nI (growN cap))] (ct_J13_copyOf_2 g J (a := arr) (n := cap) (m := growN cap) (xs := xs) (we := we)  (by first | assumption | omega | rfl) (by first | assumption | omega | rfl) (by first | assumption | omega | rfl) (by first | assumption | omega | rfl)) dJ2_grow_2_37 rfl q727 q728 q94 q729 rfl rfl moJ13_copyOf_2 rfl rfl (by decide) (by decide) (Nat.le_of_ble_eq_true rfl) (Nat.le_of_ble_eq_true rfl) (by omega) (fun _ _ hx => noX_x hx) (fun v37 L1 hp37 => ?_)
  obtain ⟨b37, rfl, rfl⟩ := hp37
  refine (show Go g κ 40 [some (.ref p), some (.int (nI (xs.length + 1))), some (.int (nI cap)), some (.int (nI (growN cap)))] [.ref b37, .ref p] [[(p, .inr (21, [.int md, .ref arr, .int (nI xs.length)]))], [(arr, .inl (g.2.1 1, cap, .inr (.inr (.inr (.inr (fun i => xs[i]?))))))], we, [(b37, .inl (g.2.1 1, (growN cap), .inr (.inr (.inr (.inr (fun i => xs[i]?))))))]] 0 ((growN cap) - (growN cap)) from ?_)
  refine g_dup_x1 (q := 41) B dJ2_grow_2_40 rfl rfl rfl ?_
  refine g_put (q := 44) (L2 := [[(p, .inr (21, [.int md, .ref b37, .int (nI xs.length)]))], [(arr, .inl (g.2.1 1, cap, .inr (.inr (.inr (.inr (fun i => xs[i]?))))))], we, [(b37, .inl (g.2.1 1, (growN cap), .inr (.inr (.inr (.inr (fun i => xs[i]?))))))]]) B (ci := 21) (k := 0) (j := 1) in_J2 tyJ2 tyJ2_ok nmJ2 rfl dJ2_grow_2_41 rfl rfl (Nat.le_of_ble_eq_true rfl) q179 rfl rfl rfl rfl (Nat.le_of_ble_eq_true rfl) rfl ?_
  refine g_pk [0, 2, 1] rfl rfl ?_
  refine (show Go g κ 44 [some (.ref p), some (.int (nI (xs.length + 1))), some (.int (nI cap)), some (.int (nI (growN cap)))] [.ref b37] [[(p, .inr (21, [.int md, .ref b37, .int (nI xs.length)]))], [(b37, .inl (g.2.1 1, (growN cap), .inr (.inr (.inr (.inr (fun i => xs[i]?))))))], we] 0 ((growN cap) - (growN cap)) from ?_)
  exact g_aret B E dJ2_grow_2_44 (by first | exact Or.inl ⟨_, rfl⟩ | exact Or.inr ⟨_, rfl⟩) (rv_r _) (⟨b37, rfl, rfl⟩)
theorem moJ2_grow_2 : Mo yJ2_grow_2 1 := by
  refine ⟨by decide, by decide, by decide +kernel⟩
theorem ct_J2_grow_e (g : Gv) (J : Jd g) {p : Nat} {md : Int32} : Ct g yJ2_grow (ws_ yJ2_grow cJ2_grow 1 (some (.array (.object "java/lang/Object")))) 4 1 10 [.ref p] [[(p, .inr (21, [.int md, .ref (gA g 0), .int (nI 0)]))]] (fun (v : Option Value) (L : List va_W) => ∃ (b : Nat), v = some (.ref b) ∧ L = [[(p, .inr (21, [.int md, .ref b, .int (nI 0)]))], [(b, .inl (g.2.1 1, 10, .inr (.inr (.inr (.inr (fun _ => none))))))]]) noX := by
  refine Ct.of "java/util/ArrayList" [some (.ref p)] rfl (by decide) rfl (Nat.le_of_ble_eq_true rfl) rfl ?_
  intro κ B E tb
  refine g_aload_n (q := 1) B dJ2_grow_0 rfl rfl (rv_r _) ?_
  refine g_aload_n (q := 2) B dJ2_grow_1 rfl rfl (rv_r _) ?_
  refine g_get (q := 5) B (ci := 21) (k := 0) (j := 2) in_J2 rfl dJ2_grow_2 rfl rfl (Nat.le_of_ble_eq_true rfl) q182 rfl rfl ?_
  refine g_iconst (v := nI 1) (q := 6) B dJ2_grow_5 rfl (by decide) ?_
  refine g_iadd (v := nI 1) (q := 7) B dJ2_grow_6 rfl (nI_add _ _) ?_
  refine g_callV (q := 10) (is := [0]) (kc2 := 0) (ks2 := 0) B [.int (nI 1)] (ct_J2_grow_2e g J (p := p) (md := md)  ) dJ2_grow_7 rfl (rc_at B (ci := 21) rfl (k := 0) rfl) rfl q722 q724 qs5 q81 q725 rfl rfl moJ2_grow_2 rfl rfl (by decide) (by decide) (Nat.le_of_ble_eq_true rfl) (Nat.le_of_ble_eq_true rfl) (Nat.le_of_ble_eq_true rfl) (fun _ _ hx => noX_x hx) (fun v7 L1 hp7 => ?_)
  obtain ⟨b7, rfl, rfl⟩ := hp7
  refine (show Go g κ 10 [some (.ref p)] [.ref b7] [[(p, .inr (21, [.int md, .ref b7, .int (nI 0)]))], [(b7, .inl (g.2.1 1, 10, .inr (.inr (.inr (.inr (fun _ => none))))))]] 0 0 from ?_)
  exact g_aret B E dJ2_grow_10 (by first | exact Or.inl ⟨_, rfl⟩ | exact Or.inr ⟨_, rfl⟩) (rv_r _) (⟨b7, rfl, rfl⟩)
theorem ct_J2_grow (g : Gv) (J : Jd g) {p : Nat} {md : Int32} {arr : Nat} {cap : Nat} {xs : List Nat} {we : va_W} (h0 : 0 < cap) (h1 : cap < 8388608) (h2 : xs.length = cap) (he : EltP g xs we) : Ct g yJ2_grow (ws_ yJ2_grow cJ2_grow 1 (some (.array (.object "java/lang/Object")))) 4 1 (growN cap) [.ref p] [[(p, .inr (21, [.int md, .ref arr, .int (nI xs.length)]))], [(arr, .inl (g.2.1 1, cap, .inr (.inr (.inr (.inr (fun i => xs[i]?))))))], we] (fun (v : Option Value) (L : List va_W) => ∃ (b : Nat), v = some (.ref b) ∧ L = [[(p, .inr (21, [.int md, .ref b, .int (nI xs.length)]))], [(b, .inl (g.2.1 1, growN cap, .inr (.inr (.inr (.inr (fun i => xs[i]?))))))], we]) noX := by
  refine Ct.of "java/util/ArrayList" [some (.ref p)] rfl (by decide) rfl (Nat.le_of_ble_eq_true rfl) rfl ?_
  intro κ B E tb
  refine g_aload_n (q := 1) B dJ2_grow_0 rfl rfl (rv_r _) ?_
  refine g_aload_n (q := 2) B dJ2_grow_1 rfl rfl (rv_r _) ?_
  refine g_get (q := 5) B (ci := 21) (k := 0) (j := 2) in_J2 rfl dJ2_grow_2 rfl rfl (Nat.le_of_ble_eq_true rfl) q182 rfl rfl ?_
  refine g_iconst (v := nI 1) (q := 6) B dJ2_grow_5 rfl (by decide) ?_
  refine g_iadd (v := nI (xs.length + 1)) (q := 7) B dJ2_grow_6 rfl (nI_add _ _) ?_
  refine g_callV (q := 10) (is := [0, 0, 0]) (kc2 := 0) (ks2 := (growN cap) - (growN cap)) B [.int (nI (xs.length + 1))] (ct_J2_grow_2 g J (p := p) (md := md) (arr := arr) (cap := cap) (xs := xs) (we := we)  (by first | assumption | omega | rfl) (by first | assumption | omega | rfl) (by first | assumption | omega | rfl) (by first | assumption | omega | rfl)) dJ2_grow_7 rfl (rc_at B (ci := 21) rfl (k := 0) rfl) rfl q722 q724 qs5 q81 q725 rfl rfl moJ2_grow_2 rfl rfl (by decide) (by decide) (Nat.le_of_ble_eq_true rfl) (Nat.le_of_ble_eq_true rfl) (by omega) (fun _ _ hx => noX_x hx) (fun v7 L1 hp7 => ?_)
  obtain ⟨b7, rfl, rfl⟩ := hp7
  refine (show Go g κ 10 [some (.ref p)] [.ref b7] [[(p, .inr (21, [.int md, .ref b7, .int (nI xs.length)]))], [(b7, .inl (g.2.1 1, growN cap, .inr (.inr (.inr (.inr (fun i => xs[i]?))))))], we] 0 ((growN cap) - (growN cap)) from ?_)
  exact g_aret B E dJ2_grow_10 (by first | exact Or.inl ⟨_, rfl⟩ | exact Or.inr ⟨_, rfl⟩) (rv_r _) (⟨b7, rfl, rfl⟩)
theorem moJ2_grow : Mo yJ2_grow 0 := by
  refine ⟨by decide, by decide, by decide +kernel⟩
theorem ct_J2_add_2e (g : Gv) (J : Jd g) {p : Nat} {md : Int32} {x : Nat} {we : va_W} (hx : Vd g x we) : Ct g yJ2_add_2 (ws_ yJ2_add_2 cJ2_add_2 4 none) 5 1 10 [.ref p, .ref x, .ref (gA g 0), .int (nI 0)] [[(p, .inr (21, [.int md, .ref (gA g 0), .int (nI 0)]))], we] (fun (v : Option Value) (L : List va_W) => ∃ (b : Nat), v = none ∧ L = [[(p, .inr (21, [.int md, .ref b, .int (nI 1)]))], [(b, .inl (g.2.1 1, 10, .inr (.inr (.inr (.inr (fun i => [x][i]?))))))], we]) noX := by
  refine Ct.of "java/util/ArrayList" [some (.ref p), some (.ref x), some (.ref (gA g 0)), some (.int (nI 0))] rfl (by decide) rfl (Nat.le_of_ble_eq_true rfl) rfl ?_
  intro κ B E tb
  refine g_iload_n (q := 1) B dJ2_add_2_0 rfl rfl ?_
  refine g_aload_n (q := 2) B dJ2_add_2_1 rfl rfl (rv_r _) ?_
  refine g_tlen (v := nI 0) (q := 3) B J.1.2 dJ2_add_2_2 rfl rfl ?_
  refine g_icmp_ne (tgt := 11) (q := 6) B dJ2_add_2_3 rfl (by decide) (iff_false_intro (by decide)) (fun z => z.elim) (fun _ => ?_)
  refine g_aload_n (q := 7) B dJ2_add_2_6 rfl rfl (rv_r _) ?_
  refine g_callV (q := 10) (is := [0]) (kc2 := 0) (ks2 := 0) B [] (ct_J2_grow_e g J (p := p) (md := md)  ) dJ2_add_2_7 rfl (rc_at B (ci := 21) rfl (k := 0) rfl) rfl q718 q720 qs4 q81 q721 rfl rfl moJ2_grow rfl rfl (by decide) (by decide) (Nat.le_of_ble_eq_true rfl) (Nat.le_of_ble_eq_true rfl) (Nat.le_of_ble_eq_true rfl) (fun _ _ hx => noX_x hx) (fun v7 L1 hp7 => ?_)
  obtain ⟨b7, rfl, rfl⟩ := hp7
  refine (show Go g κ 10 [some (.ref p), some (.ref x), some (.ref (gA g 0)), some (.int (nI 0))] [.ref b7] [we, [(p, .inr (21, [.int md, .ref b7, .int (nI 0)]))], [(b7, .inl (g.2.1 1, 10, .inr (.inr (.inr (.inr (fun _ => none))))))]] 0 0 from ?_)
  refine g_astore_n (q := 11) (lv2 := [some (.ref p), some (.ref x), some (.ref b7), some (.int (nI 0))]) B dJ2_add_2_10 rfl (Nat.le_of_ble_eq_true rfl) (rv_r _) rfl ?_
  refine g_aload_n (q := 12) B dJ2_add_2_11 rfl rfl (rv_r _) ?_
  refine g_iload_n (q := 13) B dJ2_add_2_12 rfl rfl ?_
  refine g_aload_n (q := 14) B dJ2_add_2_13 rfl rfl (rv_r _) ?_
  obtain ⟨C14, hr14, ha14⟩ := rc_vd B J (L := [we, [(p, .inr (21, [.int md, .ref b7, .int (nI 0)]))], [(b7, .inl (g.2.1 1, 10, .inr (.inr (.inr (.inr (fun _ => none))))))]]) (k := 0) rfl hx
  refine g_astO (q := 15) (L2 := [we, [(p, .inr (21, [.int md, .ref b7, .int (nI 0)]))], [(b7, .inl (g.2.1 1, 10, .inr (.inr (.inr (.inr (fun i => [x][i]?))))))]]) B (k := 2) (t := 1) hr14 ha14 dJ2_add_2_14 rfl rfl rfl (vp_in_nI (by omega) (by omega)) ?_ ?_
  · rw [nI_clamp (by omega), show va_up (fun _ => none) 0 (some x) = fun i => [x][i]? from up_app [] x]
    rfl
  refine (show Go g κ 15 [some (.ref p), some (.ref x), some (.ref b7), some (.int (nI 0))] [] [we, [(p, .inr (21, [.int md, .ref b7, .int (nI 0)]))], [(b7, .inl (g.2.1 1, 10, .inr (.inr (.inr (.inr (fun i => [x][i]?))))))]] 0 0 from ?_)
  refine g_aload_n (q := 16) B dJ2_add_2_15 rfl rfl (rv_r _) ?_
  refine g_iload_n (q := 17) B dJ2_add_2_16 rfl rfl ?_
  refine g_iconst (v := nI 1) (q := 18) B dJ2_add_2_17 rfl (by decide) ?_
  refine g_iadd (v := nI 1) (q := 19) B dJ2_add_2_18 rfl (nI_add _ _) ?_
  refine g_put (q := 22) (L2 := [we, [(p, .inr (21, [.int md, .ref b7, .int (nI 1)]))], [(b7, .inl (g.2.1 1, 10, .inr (.inr (.inr (.inr (fun i => [x][i]?))))))]]) B (ci := 21) (k := 1) (j := 2) in_J2 tyJ2 tyJ2_ok nmJ2 rfl dJ2_add_2_19 rfl rfl (Nat.le_of_ble_eq_true rfl) q182 rfl rfl rfl rfl (Nat.le_of_ble_eq_true rfl) rfl ?_
  refine g_pk [1, 1, 0] rfl rfl ?_
  refine (show Go g κ 22 [some (.ref p), some (.ref x), some (.ref b7), some (.int (nI 0))] [] [[(p, .inr (21, [.int md, .ref b7, .int (nI 1)]))], [(b7, .inl (g.2.1 1, 10, .inr (.inr (.inr (.inr (fun i => [x][i]?))))))], we] 0 0 from ?_)
  exact g_vret B E dJ2_add_2_22 (⟨b7, rfl, rfl⟩)
theorem ct_J2_add_2n (g : Gv) (J : Jd g) {p : Nat} {md : Int32} {arr : Nat} {cap : Nat} {xs : List Nat} {x : Nat} {we : va_W} (h0 : 0 < cap) (h1 : cap < 8388608) (h2 : xs.length < cap) (hx : Vd g x we) : Ct g yJ2_add_2 (ws_ yJ2_add_2 cJ2_add_2 4 none) 5 0 0 [.ref p, .ref x, .ref arr, .int (nI xs.length)] [[(p, .inr (21, [.int md, .ref arr, .int (nI xs.length)]))], [(arr, .inl (g.2.1 1, cap, .inr (.inr (.inr (.inr (fun i => xs[i]?))))))], we] (fun (v : Option Value) (L : List va_W) => v = none ∧ L = [[(p, .inr (21, [.int md, .ref arr, .int (nI (xs.length + 1))]))], [(arr, .inl (g.2.1 1, cap, .inr (.inr (.inr (.inr (fun i => (xs ++ [x])[i]?))))))], we]) noX := by
  refine Ct.of "java/util/ArrayList" [some (.ref p), some (.ref x), some (.ref arr), some (.int (nI xs.length))] rfl (by decide) rfl (Nat.le_of_ble_eq_true rfl) rfl ?_
  intro κ B E tb
  refine g_iload_n (q := 1) B dJ2_add_2_0 rfl rfl ?_
  refine g_aload_n (q := 2) B dJ2_add_2_1 rfl rfl (rv_r _) ?_
  refine g_alen (v := nI cap) (q := 3) B (k := 1) (t := 1) dJ2_add_2_2 rfl rfl rfl rfl ?_
  refine g_icmp_ne (tgt := 11) (q := 6) B dJ2_add_2_3 rfl (by decide) (iff_true_intro (not_congr (nI_eq (by omega) (by omega)) |>.mpr (by omega))) (fun _ => ?_) (fun z => absurd trivial z)
  refine g_aload_n (q := 12) B dJ2_add_2_11 rfl rfl (rv_r _) ?_
  refine g_iload_n (q := 13) B dJ2_add_2_12 rfl rfl ?_
  refine g_aload_n (q := 14) B dJ2_add_2_13 rfl rfl (rv_r _) ?_
  obtain ⟨C14, hr14, ha14⟩ := rc_vd B J (L := [[(p, .inr (21, [.int md, .ref arr, .int (nI xs.length)]))], [(arr, .inl (g.2.1 1, cap, .inr (.inr (.inr (.inr (fun i => xs[i]?))))))], we]) (k := 2) rfl hx
  refine g_astO (q := 15) (L2 := [[(p, .inr (21, [.int md, .ref arr, .int (nI xs.length)]))], [(arr, .inl (g.2.1 1, cap, .inr (.inr (.inr (.inr (fun i => (xs ++ [x])[i]?))))))], we]) B (k := 1) (t := 1) hr14 ha14 dJ2_add_2_14 rfl rfl rfl (vp_in_nI (by omega) (by omega)) ?_ ?_
  · rw [nI_clamp (by omega), up_app xs x]
    rfl
  refine (show Go g κ 15 [some (.ref p), some (.ref x), some (.ref arr), some (.int (nI xs.length))] [] [[(p, .inr (21, [.int md, .ref arr, .int (nI xs.length)]))], [(arr, .inl (g.2.1 1, cap, .inr (.inr (.inr (.inr (fun i => (xs ++ [x])[i]?))))))], we] 0 0 from ?_)
  refine g_aload_n (q := 16) B dJ2_add_2_15 rfl rfl (rv_r _) ?_
  refine g_iload_n (q := 17) B dJ2_add_2_16 rfl rfl ?_
  refine g_iconst (v := nI 1) (q := 18) B dJ2_add_2_17 rfl (by decide) ?_
  refine g_iadd (v := nI (xs.length + 1)) (q := 19) B dJ2_add_2_18 rfl (nI_add _ _) ?_
  refine g_put (q := 22) (L2 := [[(p, .inr (21, [.int md, .ref arr, .int (nI (xs.length + 1))]))], [(arr, .inl (g.2.1 1, cap, .inr (.inr (.inr (.inr (fun i => (xs ++ [x])[i]?))))))], we]) B (ci := 21) (k := 0) (j := 2) in_J2 tyJ2 tyJ2_ok nmJ2 rfl dJ2_add_2_19 rfl rfl (Nat.le_of_ble_eq_true rfl) q182 rfl rfl rfl rfl (Nat.le_of_ble_eq_true rfl) rfl ?_
  exact g_vret B E dJ2_add_2_22 (⟨rfl, rfl⟩)
theorem ct_J2_add_2g (g : Gv) (J : Jd g) {p : Nat} {md : Int32} {arr : Nat} {cap : Nat} {xs : List Nat} {x : Nat} {we : va_W} (h0 : 0 < cap) (h1 : cap < 8388608) (h2 : xs.length = cap) (he : EltP g xs we) (hx : Vd g x we) : Ct g yJ2_add_2 (ws_ yJ2_add_2 cJ2_add_2 4 none) 5 1 (growN cap) [.ref p, .ref x, .ref arr, .int (nI xs.length)] [[(p, .inr (21, [.int md, .ref arr, .int (nI xs.length)]))], [(arr, .inl (g.2.1 1, cap, .inr (.inr (.inr (.inr (fun i => xs[i]?))))))], we] (fun (v : Option Value) (L : List va_W) => ∃ (b : Nat), v = none ∧ L = [[(p, .inr (21, [.int md, .ref b, .int (nI (xs.length + 1))]))], [(b, .inl (g.2.1 1, growN cap, .inr (.inr (.inr (.inr (fun i => (xs ++ [x])[i]?))))))], we]) noX := by
  refine Ct.of "java/util/ArrayList" [some (.ref p), some (.ref x), some (.ref arr), some (.int (nI xs.length))] rfl (by decide) rfl (Nat.le_of_ble_eq_true rfl) rfl ?_
  intro κ B E tb
  refine g_iload_n (q := 1) B dJ2_add_2_0 rfl rfl ?_
  refine g_aload_n (q := 2) B dJ2_add_2_1 rfl rfl (rv_r _) ?_
  refine g_alen (v := nI cap) (q := 3) B (k := 1) (t := 1) dJ2_add_2_2 rfl rfl rfl rfl ?_
  refine g_icmp_ne (tgt := 11) (q := 6) B dJ2_add_2_3 rfl (by decide) (iff_false_intro (fun h => h (by rw [h2]))) (fun z => z.elim) (fun _ => ?_)
  refine g_aload_n (q := 7) B dJ2_add_2_6 rfl rfl (rv_r _) ?_
  refine g_callV (q := 10) (is := [0, 0, 0]) (kc2 := 0) (ks2 := (growN cap) - (growN cap)) B [] (ct_J2_grow g J (p := p) (md := md) (arr := arr) (cap := cap) (xs := xs) (we := we)  (by first | assumption | omega | rfl) (by first | assumption | omega | rfl) (by first | assumption | omega | rfl) (by first | assumption | omega | rfl)) dJ2_add_2_7 rfl (rc_at B (ci := 21) rfl (k := 0) rfl) rfl q718 q720 qs4 q81 q721 rfl rfl moJ2_grow rfl rfl (by decide) (by decide) (Nat.le_of_ble_eq_true rfl) (Nat.le_of_ble_eq_true rfl) (by omega) (fun _ _ hx => noX_x hx) (fun v7 L1 hp7 => ?_)
  obtain ⟨b7, rfl, rfl⟩ := hp7
  refine (show Go g κ 10 [some (.ref p), some (.ref x), some (.ref arr), some (.int (nI xs.length))] [.ref b7] [[(p, .inr (21, [.int md, .ref b7, .int (nI xs.length)]))], [(b7, .inl (g.2.1 1, growN cap, .inr (.inr (.inr (.inr (fun i => xs[i]?))))))], we] 0 ((growN cap) - (growN cap)) from ?_)
  refine g_astore_n (q := 11) (lv2 := [some (.ref p), some (.ref x), some (.ref b7), some (.int (nI xs.length))]) B dJ2_add_2_10 rfl (Nat.le_of_ble_eq_true rfl) (rv_r _) rfl ?_
  have hgl : xs.length < growN cap ∧ growN cap < 16777216 := by unfold growN; rw [if_neg (by omega)]; omega
  refine g_aload_n (q := 12) B dJ2_add_2_11 rfl rfl (rv_r _) ?_
  refine g_iload_n (q := 13) B dJ2_add_2_12 rfl rfl ?_
  refine g_aload_n (q := 14) B dJ2_add_2_13 rfl rfl (rv_r _) ?_
  obtain ⟨C14, hr14, ha14⟩ := rc_vd B J (L := [[(p, .inr (21, [.int md, .ref b7, .int (nI xs.length)]))], [(b7, .inl (g.2.1 1, growN cap, .inr (.inr (.inr (.inr (fun i => xs[i]?))))))], we]) (k := 2) rfl hx
  refine g_astO (q := 15) (L2 := [[(p, .inr (21, [.int md, .ref b7, .int (nI xs.length)]))], [(b7, .inl (g.2.1 1, growN cap, .inr (.inr (.inr (.inr (fun i => (xs ++ [x])[i]?))))))], we]) B (k := 1) (t := 1) hr14 ha14 dJ2_add_2_14 rfl rfl rfl (vp_in_nI (by omega) (by omega)) ?_ ?_
  · rw [nI_clamp (by omega), up_app xs x]
    rfl
  refine (show Go g κ 15 [some (.ref p), some (.ref x), some (.ref b7), some (.int (nI xs.length))] [] [[(p, .inr (21, [.int md, .ref b7, .int (nI xs.length)]))], [(b7, .inl (g.2.1 1, growN cap, .inr (.inr (.inr (.inr (fun i => (xs ++ [x])[i]?))))))], we] 0 ((growN cap) - (growN cap)) from ?_)
  refine g_aload_n (q := 16) B dJ2_add_2_15 rfl rfl (rv_r _) ?_
  refine g_iload_n (q := 17) B dJ2_add_2_16 rfl rfl ?_
  refine g_iconst (v := nI 1) (q := 18) B dJ2_add_2_17 rfl (by decide) ?_
  refine g_iadd (v := nI (xs.length + 1)) (q := 19) B dJ2_add_2_18 rfl (nI_add _ _) ?_
  refine g_put (q := 22) (L2 := [[(p, .inr (21, [.int md, .ref b7, .int (nI (xs.length + 1))]))], [(b7, .inl (g.2.1 1, growN cap, .inr (.inr (.inr (.inr (fun i => (xs ++ [x])[i]?))))))], we]) B (ci := 21) (k := 0) (j := 2) in_J2 tyJ2 tyJ2_ok nmJ2 rfl dJ2_add_2_19 rfl rfl (Nat.le_of_ble_eq_true rfl) q182 rfl rfl rfl rfl (Nat.le_of_ble_eq_true rfl) rfl ?_
  skip
  exact g_vret B E dJ2_add_2_22 (⟨b7, rfl, rfl⟩)
theorem moJ2_add_2 : Mo yJ2_add_2 3 := by
  refine ⟨by decide, by decide, by decide +kernel⟩
theorem ct_J2_add (g : Gv) (J : Jd g) {p : Nat} {xs : List Nat} {md : Int32} {cap : Nat} {x : Nat} {mc : Nat} {ms : Nat} {w0 : va_W} {we : va_W} (hw0 : ListP g p xs md cap w0) (hcap : cap < 8388608) (he : EltP g (xs ++ [x]) we) (hm : xs.length = cap → 1 ≤ mc ∧ growN cap ≤ ms) : Ct g yJ2_add (ws_ yJ2_add cJ2_add 2 (some .boolean)) 6 mc ms [.ref p, .ref x] [w0, we] (fun (v : Option Value) (L : List va_W) => ∃ (md2 : Int32) (u0 : va_W), v = some (.int (nI 1)) ∧ L = [u0, we] ∧ ListP g p (xs ++ [x]) md2 (if xs.length = cap then growN cap else cap) u0) noX := by
  refine Ct.of "java/util/ArrayList" [some (.ref p), some (.ref x)] rfl (by decide) rfl (Nat.le_of_ble_eq_true rfl) rfl ?_
  intro κ B E tb
  rcases hw0 with ⟨rfl, rfl, rfl⟩ | ⟨arr, hc0, hc1, hc2, rfl⟩
  · skip
    refine g_open 0 rfl rfl rfl ?_
    refine (show Go g κ 0 [some (.ref p), some (.ref x)] [] [we, [(p, .inr (21, [.int md, .ref (gA g 0), .int (nI 0)]))]] mc ms from ?_)
    have hx : Vd g x we := he x (by simp)
    have hm : 1 ≤ mc ∧ 10 ≤ ms := hm rfl
    refine g_aload_n (q := 1) B dJ2_add_0 rfl rfl (rv_r _) ?_
    refine g_dup (q := 2) B dJ2_add_1 rfl rfl ?_
    refine g_getS (q := 5) B (ci := 21) (k := 1) (j := 0) in_J2 rfl dJ2_add_2 rfl rfl (Nat.le_of_ble_eq_true rfl) q186 q185 rfl ?_
    refine g_iconst (v := nI 1) (q := 6) B dJ2_add_5 rfl (by decide) ?_
    refine g_iadd (v := md + (nI 1)) (q := 7) B dJ2_add_6 rfl rfl ?_
    refine g_putS (q := 10) (L2 := [we, [(p, .inr (21, [.int (md + (nI 1)), .ref (gA g 0), .int (nI 0)]))]]) B (ci := 21) (k := 1) (j := 0) in_J2 tyJ2 tyJ2_ok nmJ2 rfl dJ2_add_7 rfl rfl (Nat.le_of_ble_eq_true rfl) q186 q185 rfl rfl rfl (Nat.le_of_ble_eq_true rfl) rfl ?_
    refine g_aload_n (q := 11) B dJ2_add_10 rfl rfl (rv_r _) ?_
    refine g_aload_n (q := 12) B dJ2_add_11 rfl rfl (rv_r _) ?_
    refine g_aload_n (q := 13) B dJ2_add_12 rfl rfl (rv_r _) ?_
    refine g_get (q := 16) B (ci := 21) (k := 1) (j := 1) in_J2 rfl dJ2_add_13 rfl rfl (Nat.le_of_ble_eq_true rfl) q179 rfl rfl ?_
    refine g_aload_n (q := 17) B dJ2_add_16 rfl rfl (rv_r _) ?_
    refine g_get (q := 20) B (ci := 21) (k := 1) (j := 2) in_J2 rfl dJ2_add_17 rfl rfl (Nat.le_of_ble_eq_true rfl) q182 rfl rfl ?_
    refine g_callV (q := 23) (is := [1, 0]) (kc2 := mc - 1) (ks2 := ms - 10) B [.ref x, .ref (gA g 0), .int (nI 0)] (ct_J2_add_2e g J (p := p) (md := md + (nI 1)) (x := x) (we := we)  (by first | assumption | omega | rfl)) dJ2_add_20 rfl (rc_at B (ci := 21) rfl (k := 1) rfl) rfl q714 q716 qs3 q81 q717 rfl rfl moJ2_add_2 rfl rfl (by decide) (by decide) (Nat.le_of_ble_eq_true rfl) (by omega) (by omega) (fun _ _ hx => noX_x hx) (fun v20 L1 hp20 => ?_)
    obtain ⟨b20, rfl, rfl⟩ := hp20
    refine (show Go g κ 23 [some (.ref p), some (.ref x)] [] [[(p, .inr (21, [.int (md + (nI 1)), .ref b20, .int (nI 1)]))], [(b20, .inl (g.2.1 1, 10, .inr (.inr (.inr (.inr (fun i => [x][i]?))))))], we] (mc - 1) (ms - 10) from ?_)
    obtain ⟨wc_1, ewc_1⟩ : ∃ w : va_W, w = ([[(p, .inr (21, [.int (md + (nI 1)), .ref b20, .int (nI 1)]))], [(b20, .inl (g.2.1 1, 10, .inr (.inr (.inr (.inr (fun i => [x][i]?))))))]] : List va_W).flatten := ⟨_, rfl⟩
    have hwc_1 : ListP g p ([] ++ [x]) (md + (nI 1)) (if ([] : List Nat).length = 0 then growN 0 else 0) wc_1 := by
      rw [ewc_1]
      exact Or.inr ⟨b20, by decide, by decide, Nat.le_of_ble_eq_true rfl, rfl⟩
    refine g_close (w := wc_1) [0, 0] rfl ewc_1 rfl ?_
    refine (show Go g κ 23 [some (.ref p), some (.ref x)] [] [we, wc_1] (mc - 1) (ms - 10) from ?_)
    refine g_iconst (v := nI 1) (q := 24) B dJ2_add_23 rfl (by decide) ?_
    refine g_pk [1, 0] rfl rfl ?_
    refine (show Go g κ 24 [some (.ref p), some (.ref x)] [.int (nI 1)] [wc_1, we] (mc - 1) (ms - 10) from ?_)
    exact g_zret B E dJ2_add_24 (by decide) (⟨(md + (nI 1)), wc_1, rfl, rfl, hwc_1⟩)
  · skip
    refine g_open 0 rfl rfl rfl ?_
    refine (show Go g κ 0 [some (.ref p), some (.ref x)] [] [we, [(p, .inr (21, [.int md, .ref arr, .int (nI xs.length)]))], [(arr, .inl (g.2.1 1, cap, .inr (.inr (.inr (.inr (fun i => xs[i]?))))))]] mc ms from ?_)
    have hx : Vd g x we := he x (by simp)
    have he : EltP g xs we := fun y hy => he y (List.mem_append_left _ hy)
    rcases Nat.lt_or_ge xs.length cap with hf | hf
    · skip
      refine g_aload_n (q := 1) B dJ2_add_0 rfl rfl (rv_r _) ?_
      refine g_dup (q := 2) B dJ2_add_1 rfl rfl ?_
      refine g_getS (q := 5) B (ci := 21) (k := 1) (j := 0) in_J2 rfl dJ2_add_2 rfl rfl (Nat.le_of_ble_eq_true rfl) q186 q185 rfl ?_
      refine g_iconst (v := nI 1) (q := 6) B dJ2_add_5 rfl (by decide) ?_
      refine g_iadd (v := md + (nI 1)) (q := 7) B dJ2_add_6 rfl rfl ?_
      refine g_putS (q := 10) (L2 := [we, [(p, .inr (21, [.int (md + (nI 1)), .ref arr, .int (nI xs.length)]))], [(arr, .inl (g.2.1 1, cap, .inr (.inr (.inr (.inr (fun i => xs[i]?))))))]]) B (ci := 21) (k := 1) (j := 0) in_J2 tyJ2 tyJ2_ok nmJ2 rfl dJ2_add_7 rfl rfl (Nat.le_of_ble_eq_true rfl) q186 q185 rfl rfl rfl (Nat.le_of_ble_eq_true rfl) rfl ?_
      refine g_aload_n (q := 11) B dJ2_add_10 rfl rfl (rv_r _) ?_
      refine g_aload_n (q := 12) B dJ2_add_11 rfl rfl (rv_r _) ?_
      refine g_aload_n (q := 13) B dJ2_add_12 rfl rfl (rv_r _) ?_
      refine g_get (q := 16) B (ci := 21) (k := 1) (j := 1) in_J2 rfl dJ2_add_13 rfl rfl (Nat.le_of_ble_eq_true rfl) q179 rfl rfl ?_
      refine g_aload_n (q := 17) B dJ2_add_16 rfl rfl (rv_r _) ?_
      refine g_get (q := 20) B (ci := 21) (k := 1) (j := 2) in_J2 rfl dJ2_add_17 rfl rfl (Nat.le_of_ble_eq_true rfl) q182 rfl rfl ?_
      refine g_callV (q := 23) (is := [1, 1, 0]) (kc2 := mc) (ks2 := ms) B [.ref x, .ref arr, .int (nI xs.length)] (ct_J2_add_2n g J (p := p) (md := md + (nI 1)) (arr := arr) (cap := cap) (xs := xs) (x := x) (we := we)  (by first | assumption | omega | rfl) (by first | assumption | omega | rfl) (by first | assumption | omega | rfl) (by first | assumption | omega | rfl)) dJ2_add_20 rfl (rc_at B (ci := 21) rfl (k := 1) rfl) rfl q714 q716 qs3 q81 q717 rfl rfl moJ2_add_2 rfl rfl (by decide) (by decide) (Nat.le_of_ble_eq_true rfl) (by omega) (by omega) (fun _ _ hx => noX_x hx) (fun v20 L1 hp20 => ?_)
      obtain ⟨rfl, rfl⟩ := hp20
      refine (show Go g κ 23 [some (.ref p), some (.ref x)] [] [[(p, .inr (21, [.int (md + (nI 1)), .ref arr, .int (nI (xs.length + 1))]))], [(arr, .inl (g.2.1 1, cap, .inr (.inr (.inr (.inr (fun i => (xs ++ [x])[i]?))))))], we] mc ms from ?_)
      obtain ⟨wc_2, ewc_2⟩ : ∃ w : va_W, w = ([[(p, .inr (21, [.int (md + (nI 1)), .ref arr, .int (nI (xs.length + 1))]))], [(arr, .inl (g.2.1 1, cap, .inr (.inr (.inr (.inr (fun i => (xs ++ [x])[i]?))))))]] : List va_W).flatten := ⟨_, rfl⟩
      have hwc_2 : ListP g p (xs ++ [x]) (md + (nI 1)) (if xs.length = cap then growN cap else cap) wc_2 := by
        rw [ewc_2]
        exact Or.inr ⟨arr, by rw [if_neg (by omega)]; omega, by rw [if_neg (by omega)]; omega, by rw [if_neg (by omega)]; simp; omega, by rw [if_neg (by omega)]; simp⟩
      refine g_close (w := wc_2) [0, 0] rfl ewc_2 rfl ?_
      refine (show Go g κ 23 [some (.ref p), some (.ref x)] [] [we, wc_2] mc ms from ?_)
      refine g_iconst (v := nI 1) (q := 24) B dJ2_add_23 rfl (by decide) ?_
      refine g_pk [1, 0] rfl rfl ?_
      refine (show Go g κ 24 [some (.ref p), some (.ref x)] [.int (nI 1)] [wc_2, we] mc ms from ?_)
      exact g_zret B E dJ2_add_24 (by decide) (⟨(md + (nI 1)), wc_2, rfl, rfl, hwc_2⟩)
    · skip
      have hf : xs.length = cap := by omega
      have hm := hm hf
      refine g_aload_n (q := 1) B dJ2_add_0 rfl rfl (rv_r _) ?_
      refine g_dup (q := 2) B dJ2_add_1 rfl rfl ?_
      refine g_getS (q := 5) B (ci := 21) (k := 1) (j := 0) in_J2 rfl dJ2_add_2 rfl rfl (Nat.le_of_ble_eq_true rfl) q186 q185 rfl ?_
      refine g_iconst (v := nI 1) (q := 6) B dJ2_add_5 rfl (by decide) ?_
      refine g_iadd (v := md + (nI 1)) (q := 7) B dJ2_add_6 rfl rfl ?_
      refine g_putS (q := 10) (L2 := [we, [(p, .inr (21, [.int (md + (nI 1)), .ref arr, .int (nI xs.length)]))], [(arr, .inl (g.2.1 1, cap, .inr (.inr (.inr (.inr (fun i => xs[i]?))))))]]) B (ci := 21) (k := 1) (j := 0) in_J2 tyJ2 tyJ2_ok nmJ2 rfl dJ2_add_7 rfl rfl (Nat.le_of_ble_eq_true rfl) q186 q185 rfl rfl rfl (Nat.le_of_ble_eq_true rfl) rfl ?_
      refine g_aload_n (q := 11) B dJ2_add_10 rfl rfl (rv_r _) ?_
      refine g_aload_n (q := 12) B dJ2_add_11 rfl rfl (rv_r _) ?_
      refine g_aload_n (q := 13) B dJ2_add_12 rfl rfl (rv_r _) ?_
      refine g_get (q := 16) B (ci := 21) (k := 1) (j := 1) in_J2 rfl dJ2_add_13 rfl rfl (Nat.le_of_ble_eq_true rfl) q179 rfl rfl ?_
      refine g_aload_n (q := 17) B dJ2_add_16 rfl rfl (rv_r _) ?_
      refine g_get (q := 20) B (ci := 21) (k := 1) (j := 2) in_J2 rfl dJ2_add_17 rfl rfl (Nat.le_of_ble_eq_true rfl) q182 rfl rfl ?_
      refine g_callV (q := 23) (is := [1, 1, 0]) (kc2 := mc - 1) (ks2 := ms - (growN cap)) B [.ref x, .ref arr, .int (nI xs.length)] (ct_J2_add_2g g J (p := p) (md := md + (nI 1)) (arr := arr) (cap := cap) (xs := xs) (x := x) (we := we)  (by first | assumption | omega | rfl) (by first | assumption | omega | rfl) (by first | assumption | omega | rfl) (by first | assumption | omega | rfl) (by first | assumption | omega | rfl)) dJ2_add_20 rfl (rc_at B (ci := 21) rfl (k := 1) rfl) rfl q714 q716 qs3 q81 q717 rfl rfl moJ2_add_2 rfl rfl (by decide) (by decide) (Nat.le_of_ble_eq_true rfl) (by omega) (by omega) (fun _ _ hx => noX_x hx) (fun v20 L1 hp20 => ?_)
      obtain ⟨b20, rfl, rfl⟩ := hp20
      refine (show Go g κ 23 [some (.ref p), some (.ref x)] [] [[(p, .inr (21, [.int (md + (nI 1)), .ref b20, .int (nI (xs.length + 1))]))], [(b20, .inl (g.2.1 1, growN cap, .inr (.inr (.inr (.inr (fun i => (xs ++ [x])[i]?))))))], we] (mc - 1) (ms - (growN cap)) from ?_)
      have hgl : 0 < growN cap ∧ xs.length + 1 ≤ growN cap ∧ growN cap < 16777216 := by unfold growN; rw [if_neg (by omega)]; omega
      obtain ⟨wc_3, ewc_3⟩ : ∃ w : va_W, w = ([[(p, .inr (21, [.int (md + (nI 1)), .ref b20, .int (nI (xs.length + 1))]))], [(b20, .inl (g.2.1 1, growN cap, .inr (.inr (.inr (.inr (fun i => (xs ++ [x])[i]?))))))]] : List va_W).flatten := ⟨_, rfl⟩
      have hwc_3 : ListP g p (xs ++ [x]) (md + (nI 1)) (if xs.length = cap then growN cap else cap) wc_3 := by
        rw [ewc_3]
        exact Or.inr ⟨b20, by rw [if_pos hf]; omega, by rw [if_pos hf]; omega, by rw [if_pos hf]; simp; omega, by rw [if_pos hf]; simp⟩
      refine g_close (w := wc_3) [0, 0] rfl ewc_3 rfl ?_
      refine (show Go g κ 23 [some (.ref p), some (.ref x)] [] [we, wc_3] (mc - 1) (ms - (growN cap)) from ?_)
      refine g_iconst (v := nI 1) (q := 24) B dJ2_add_23 rfl (by decide) ?_
      refine g_pk [1, 0] rfl rfl ?_
      refine (show Go g κ 24 [some (.ref p), some (.ref x)] [.int (nI 1)] [wc_3, we] (mc - 1) (ms - (growN cap)) from ?_)
      exact g_zret B E dJ2_add_24 (by decide) (⟨(md + (nI 1)), wc_3, rfl, rfl, hwc_3⟩)
theorem ct_J19_init (g : Gv) (J : Jd g) {p : Nat} {xs : List Nat} {md : Int32} {cap : Nat} {it : Nat} {w1 : va_W} (hw1 : ListP g p xs md cap w1) : Ct g yJ19_init (ws_ yJ19_init cJ19_init 2 none) 1 0 0 [.ref it, .ref p] [[(it, .inr (22, [.int (nI 0), .int (nI 0), .int (nI 0), .null]))], w1] (fun (v : Option Value) (L : List va_W) => v = none ∧ L = [[(it, .inr (22, [.int (nI 0), .int (-1), .int md, .ref p]))], w1]) noX := by
  refine Ct.ofI "java/util/ArrayList$Itr" [some (.ref it), some (.ref p)] rfl (by decide) rfl (Nat.le_of_ble_eq_true rfl) rfl rfl ?_
  intro κ B E tb ini
  have hlen := ListP.len hw1
  obtain ⟨arr, hpk, hpa⟩ := ListP.cell hw1
  refine g_aload_n (q := 1) B dJ19_init_0 rfl rfl (rv_r _) ?_
  refine g_aload_n (q := 2) B dJ19_init_1 rfl rfl (rv_r _) ?_
  refine g_putF (q := 5) (L2 := [[(it, .inr (22, [.int (nI 0), .int (nI 0), .int (nI 0), .ref p]))], w1]) B (ci := 22) (k := 0) (j := 3) in_J19 tyJ19 tyJ19_ok nmJ19 rfl dJ19_init_2 rfl rfl (Nat.le_of_ble_eq_true rfl) q817 rfl rfl (ini) rfl rfl rfl (Nat.le_of_ble_eq_true rfl) rfl ?_
  refine g_aload_n (q := 6) B dJ19_init_5 rfl rfl (rv_r _) ?_
  refine g_objInit (q := 9) B q813 q157 q158 dJ19_init_6 rfl rfl (Nat.le_of_ble_eq_true rfl) ?_
  refine g_aload_n (q := 10) B dJ19_init_9 rfl rfl (rv_r _) ?_
  refine g_iconst (v := -1) (q := 11) B dJ19_init_10 rfl (by decide) ?_
  refine g_put (q := 14) (L2 := [[(it, .inr (22, [.int (nI 0), .int (-1), .int (nI 0), .ref p]))], w1]) B (ci := 22) (k := 0) (j := 1) in_J19 tyJ19 tyJ19_ok nmJ19 rfl dJ19_init_11 rfl rfl (Nat.le_of_ble_eq_true rfl) q815 rfl rfl rfl rfl (Nat.le_of_ble_eq_true rfl) rfl ?_
  refine g_aload_n (q := 15) B dJ19_init_14 rfl rfl (rv_r _) ?_
  refine g_aload_n (q := 16) B dJ19_init_15 rfl rfl (rv_r _) ?_
  refine g_get (q := 19) B (ci := 22) (k := 0) (j := 3) in_J19 rfl dJ19_init_16 rfl rfl (Nat.le_of_ble_eq_true rfl) q817 rfl rfl ?_
  refine g_getSM (q := 22) B (ci := 21) (k := 1) (j := 0) in_J2 rfl dJ19_init_19 rfl rfl (hpk) (Nat.le_of_ble_eq_true rfl) q184 q185 rfl ?_
  refine g_put (q := 25) (L2 := [[(it, .inr (22, [.int (nI 0), .int (-1), .int md, .ref p]))], w1]) B (ci := 22) (k := 0) (j := 2) in_J19 tyJ19 tyJ19_ok nmJ19 rfl dJ19_init_22 rfl rfl (Nat.le_of_ble_eq_true rfl) q816 rfl rfl rfl rfl (Nat.le_of_ble_eq_true rfl) rfl ?_
  exact g_vret B E dJ19_init_25 (⟨rfl, rfl⟩)
theorem nwJ19 : ∀ j, j < 4 → defaultValue (tyJ19 j) = vp_V [.int (nI 0), .int (nI 0), .int (nI 0), .null] j := by
  intro j hj
  match j, hj with
  | 0, _ => rfl
  | 1, _ => rfl
  | 2, _ => rfl
  | 3, _ => rfl
  | n + 4, hj => exact absurd hj (by omega)
theorem moJ19_init : Mo yJ19_init 1 := by
  refine ⟨by decide, by decide, by decide +kernel⟩
theorem ct_J2_iterator (g : Gv) (J : Jd g) {p : Nat} {xs : List Nat} {md : Int32} {cap : Nat} {w0 : va_W} (hw0 : ListP g p xs md cap w0) : Ct g yJ2_iterator (ws_ yJ2_iterator cJ2_iterator 1 (some (.object "java/util/Iterator"))) 2 1 4 [.ref p] [w0] (fun (v : Option Value) (L : List va_W) => ∃ (it : Nat), v = some (.ref it) ∧ L = [[(it, .inr (22, [.int (nI 0), .int (-1), .int md, .ref p]))], w0]) noX := by
  refine Ct.of "java/util/ArrayList" [some (.ref p)] rfl (by decide) rfl (Nat.le_of_ble_eq_true rfl) rfl ?_
  intro κ B E tb
  refine g_new (q := 3) (kc2 := 0) (ks2 := 0) (fs := [.int (nI 0), .int (nI 0), .int (nI 0), .null]) B (ci := 22) in_J19 tyJ19_ok rfl dJ2_iterator_0 rfl q808 q809 q104 (nwJ19) (Nat.le_of_ble_eq_true rfl) (Nat.le_of_ble_eq_true rfl) (fun n0 => ?_)
  refine (show Go g κ 3 [some (.ref p)] [.ref n0] [w0, [(n0, .inr (22, [.int (nI 0), .int (nI 0), .int (nI 0), .null]))]] 0 0 from ?_)
  refine g_dup (q := 4) B dJ2_iterator_3 rfl rfl ?_
  refine g_aload_n (q := 5) B dJ2_iterator_4 rfl rfl (rv_r _) ?_
  refine g_callI (q := 8) (is := [1, 0]) (kc2 := 0) (ks2 := 0) B [.ref p] (ct_J19_init g J (p := p) (xs := xs) (md := md) (cap := cap) (it := n0) hw0 ) dJ2_iterator_5 rfl rfl q810 q811 q104 q812 rfl rfl moJ19_init rfl rfl (by decide) (by decide) (Nat.le_of_ble_eq_true rfl) (Nat.le_of_ble_eq_true rfl) (Nat.le_of_ble_eq_true rfl) (fun _ _ hx => noX_x hx) (fun v5 L1 hp5 => ?_)
  obtain ⟨rfl, rfl⟩ := hp5
  refine (show Go g κ 8 [some (.ref p)] [.ref n0] [[(n0, .inr (22, [.int (nI 0), .int (-1), .int md, .ref p]))], w0] 0 0 from ?_)
  exact g_aret B E dJ2_iterator_8 (by first | exact Or.inl ⟨_, rfl⟩ | exact Or.inr ⟨_, rfl⟩) (rv_r _) (⟨n0, rfl, rfl⟩)
theorem ct_J19_hasNext (g : Gv) (J : Jd g) {p : Nat} {xs : List Nat} {md : Int32} {cap : Nat} {it : Nat} {c : Nat} {lr : Int32} {w1 : va_W} (hw1 : ListP g p xs md cap w1) (hc : c ≤ xs.length) : Ct g yJ19_hasNext (ws_ yJ19_hasNext cJ19_hasNext 1 (some .boolean)) 0 0 0 [.ref it] [[(it, .inr (22, [.int (nI c), .int lr, .int md, .ref p]))], w1] (fun (v : Option Value) (L : List va_W) => v = some (.int (nI (if ¬ c = xs.length then 1 else 0))) ∧ L = [[(it, .inr (22, [.int (nI c), .int lr, .int md, .ref p]))], w1]) noX := by
  refine Ct.of "java/util/ArrayList$Itr" [some (.ref it)] rfl (by decide) rfl (Nat.le_of_ble_eq_true rfl) rfl ?_
  intro κ B E tb
  have hlen := ListP.len hw1
  obtain ⟨arr, hpk, hpa⟩ := ListP.cell hw1
  refine g_aload_n (q := 1) B dJ19_hasNext_0 rfl rfl (rv_r _) ?_
  refine g_get (q := 4) B (ci := 22) (k := 0) (j := 0) in_J19 rfl dJ19_hasNext_1 rfl rfl (Nat.le_of_ble_eq_true rfl) q814 rfl rfl ?_
  refine g_aload_n (q := 5) B dJ19_hasNext_4 rfl rfl (rv_r _) ?_
  refine g_get (q := 8) B (ci := 22) (k := 0) (j := 3) in_J19 rfl dJ19_hasNext_5 rfl rfl (Nat.le_of_ble_eq_true rfl) q817 rfl rfl ?_
  refine g_getNM (q := 11) B (ci := 21) (k := 1) (j := 2) in_J2 rfl dJ19_hasNext_8 rfl rfl (hpk) (Nat.le_of_ble_eq_true rfl) q181 rfl rfl ?_
  refine g_icmp_eq (tgt := 18) (q := 14) B dJ19_hasNext_11 rfl (by decide) (nI_eq (by omega) (by omega)) (fun c11 => ?_) (fun c11 => ?_)
  · skip
    refine g_iconst (v := nI 0) (q := 19) B dJ19_hasNext_18 rfl (by decide) ?_
    exact g_zret B E dJ19_hasNext_19 (by decide) (⟨bo0 (by first | assumption | omega | (simp_all; done)), rfl⟩)
  · skip
    refine g_iconst (v := nI 1) (q := 15) B dJ19_hasNext_14 rfl (by decide) ?_
    refine g_goto (tgt := 19) B dJ19_hasNext_15 (by decide) ?_
    exact g_zret B E dJ19_hasNext_19 (by decide) (⟨bo1 (by first | assumption | omega | (simp_all; done)), rfl⟩)
theorem ct_J19_checkForComodification (g : Gv) (J : Jd g) {p : Nat} {xs : List Nat} {md : Int32} {cap : Nat} {it : Nat} {c : Nat} {lr : Int32} {w1 : va_W} (hw1 : ListP g p xs md cap w1) : Ct g yJ19_checkForComodification (ws_ yJ19_checkForComodification cJ19_checkForComodification 1 none) 0 0 0 [.ref it] [[(it, .inr (22, [.int (nI c), .int lr, .int md, .ref p]))], w1] (fun (v : Option Value) (L : List va_W) => v = none ∧ L = [[(it, .inr (22, [.int (nI c), .int lr, .int md, .ref p]))], w1]) noX := by
  refine Ct.of "java/util/ArrayList$Itr" [some (.ref it)] rfl (by decide) rfl (Nat.le_of_ble_eq_true rfl) rfl ?_
  intro κ B E tb
  have hlen := ListP.len hw1
  obtain ⟨arr, hpk, hpa⟩ := ListP.cell hw1
  refine g_aload_n (q := 1) B dJ19_checkForComodification_0 rfl rfl (rv_r _) ?_
  refine g_get (q := 4) B (ci := 22) (k := 0) (j := 3) in_J19 rfl dJ19_checkForComodification_1 rfl rfl (Nat.le_of_ble_eq_true rfl) q817 rfl rfl ?_
  refine g_getSM (q := 7) B (ci := 21) (k := 1) (j := 0) in_J2 rfl dJ19_checkForComodification_4 rfl rfl (hpk) (Nat.le_of_ble_eq_true rfl) q184 q185 rfl ?_
  refine g_aload_n (q := 8) B dJ19_checkForComodification_7 rfl rfl (rv_r _) ?_
  refine g_get (q := 11) B (ci := 22) (k := 0) (j := 2) in_J19 rfl dJ19_checkForComodification_8 rfl rfl (Nat.le_of_ble_eq_true rfl) q816 rfl rfl ?_
  refine g_icmp_eq (tgt := 22) (q := 14) B dJ19_checkForComodification_11 rfl (by decide) (iff_true_intro (rfl)) (fun _ => ?_) (fun z => absurd trivial z)
  exact g_vret B E dJ19_checkForComodification_22 (⟨rfl, rfl⟩)
theorem moJ19_checkForComodification : Mo yJ19_checkForComodification 0 := by
  refine ⟨by decide, by decide, by decide +kernel⟩
theorem ct_J19_next (g : Gv) (J : Jd g) {p : Nat} {xs : List Nat} {md : Int32} {cap : Nat} {it : Nat} {c : Nat} {lr : Int32} {x : Nat} {w1 : va_W} (hw1 : ListP g p xs md cap w1) (hi : xs[c]? = some x) : Ct g yJ19_next (ws_ yJ19_next cJ19_next 3 (some (.object "java/lang/Object"))) 1 0 0 [.ref it] [[(it, .inr (22, [.int (nI c), .int lr, .int md, .ref p]))], w1] (fun (v : Option Value) (L : List va_W) => v = some (.ref x) ∧ L = [[(it, .inr (22, [.int (nI (c + 1)), .int (nI c), .int md, .ref p]))], w1]) noX := by
  refine Ct.of "java/util/ArrayList$Itr" [some (.ref it), none, none] rfl (by decide) rfl (Nat.le_of_ble_eq_true rfl) rfl ?_
  intro κ B E tb
  have hlen := ListP.len hw1
  obtain ⟨arr, hpk, hpa⟩ := ListP.arr hw1 hi
  have hlt := get_lt hi
  refine g_aload_n (q := 1) B dJ19_next_0 rfl rfl (rv_r _) ?_
  refine g_callV (q := 4) (is := [0, 0]) (kc2 := 0) (ks2 := 0) B [] (ct_J19_checkForComodification g J (p := p) (xs := xs) (md := md) (cap := cap) (it := it) (c := c) (lr := lr) hw1 ) dJ19_next_1 rfl (rc_at B (ci := 22) rfl (k := 0) rfl) rfl q972 q973 q974 q104 q975 rfl rfl moJ19_checkForComodification rfl rfl (by decide) (by decide) (Nat.le_of_ble_eq_true rfl) (Nat.le_of_ble_eq_true rfl) (Nat.le_of_ble_eq_true rfl) (fun _ _ hx => noX_x hx) (fun v1 L1 hp1 => ?_)
  obtain ⟨rfl, rfl⟩ := hp1
  refine (show Go g κ 4 [some (.ref it), none, none] [] [[(it, .inr (22, [.int (nI c), .int lr, .int md, .ref p]))], w1] 0 0 from ?_)
  refine g_aload_n (q := 5) B dJ19_next_4 rfl rfl (rv_r _) ?_
  refine g_get (q := 8) B (ci := 22) (k := 0) (j := 0) in_J19 rfl dJ19_next_5 rfl rfl (Nat.le_of_ble_eq_true rfl) q814 rfl rfl ?_
  refine g_istore_n (q := 9) (lv2 := [some (.ref it), some (.int (nI c)), none]) B dJ19_next_8 rfl (Nat.le_of_ble_eq_true rfl) rfl ?_
  refine g_iload_n (q := 10) B dJ19_next_9 rfl rfl ?_
  refine g_aload_n (q := 11) B dJ19_next_10 rfl rfl (rv_r _) ?_
  refine g_get (q := 14) B (ci := 22) (k := 0) (j := 3) in_J19 rfl dJ19_next_11 rfl rfl (Nat.le_of_ble_eq_true rfl) q817 rfl rfl ?_
  refine g_getNM (q := 17) B (ci := 21) (k := 1) (j := 2) in_J2 rfl dJ19_next_14 rfl rfl (hpk) (Nat.le_of_ble_eq_true rfl) q181 rfl rfl ?_
  refine g_icmp_lt (tgt := 28) (q := 20) B dJ19_next_17 rfl (by decide) (iff_true_intro ((nI_ltI (by omega) (by omega)).mpr hlt)) (fun _ => ?_) (fun z => absurd trivial z)
  refine g_aload_n (q := 29) B dJ19_next_28 rfl rfl (rv_r _) ?_
  refine g_get (q := 32) B (ci := 22) (k := 0) (j := 3) in_J19 rfl dJ19_next_29 rfl rfl (Nat.le_of_ble_eq_true rfl) q817 rfl rfl ?_
  refine g_getM (q := 35) B (ci := 21) (k := 1) (j := 1) in_J2 rfl dJ19_next_32 rfl rfl (hpk) (Nat.le_of_ble_eq_true rfl) q180 rfl rfl ?_
  refine g_astore_n (q := 36) (lv2 := [some (.ref it), some (.int (nI c)), some (.ref arr)]) B dJ19_next_35 rfl (Nat.le_of_ble_eq_true rfl) (rv_r _) rfl ?_
  refine g_iload_n (q := 37) B dJ19_next_36 rfl rfl ?_
  refine g_aload_n (q := 38) B dJ19_next_37 rfl rfl (rv_r _) ?_
  refine g_alenM (v := nI cap) (q := 39) B (k := 1) (t := 1) dJ19_next_38 rfl rfl (hpa) rfl rfl ?_
  refine g_icmp_lt (tgt := 50) (q := 42) B dJ19_next_39 rfl (by decide) (iff_true_intro ((nI_ltI (by omega) (by omega)).mpr (by omega))) (fun _ => ?_) (fun z => absurd trivial z)
  refine g_aload_n (q := 51) B dJ19_next_50 rfl rfl (rv_r _) ?_
  refine g_iload_n (q := 52) B dJ19_next_51 rfl rfl ?_
  refine g_iconst (v := nI 1) (q := 53) B dJ19_next_52 rfl (by decide) ?_
  refine g_iadd (v := nI (c + 1)) (q := 54) B dJ19_next_53 rfl (nI_add _ _) ?_
  refine g_put (q := 57) (L2 := [[(it, .inr (22, [.int (nI (c + 1)), .int lr, .int md, .ref p]))], w1]) B (ci := 22) (k := 0) (j := 0) in_J19 tyJ19 tyJ19_ok nmJ19 rfl dJ19_next_54 rfl rfl (Nat.le_of_ble_eq_true rfl) q814 rfl rfl rfl rfl (Nat.le_of_ble_eq_true rfl) rfl ?_
  refine g_aload_n (q := 58) B dJ19_next_57 rfl rfl (rv_r _) ?_
  refine g_aload_n (q := 59) B dJ19_next_58 rfl rfl (rv_r _) ?_
  refine g_iload_n (q := 60) B dJ19_next_59 rfl rfl ?_
  refine g_dup_x1 (q := 61) B dJ19_next_60 rfl rfl rfl ?_
  refine g_put (q := 64) (L2 := [[(it, .inr (22, [.int (nI (c + 1)), .int (nI c), .int md, .ref p]))], w1]) B (ci := 22) (k := 0) (j := 1) in_J19 tyJ19 tyJ19_ok nmJ19 rfl dJ19_next_61 rfl rfl (Nat.le_of_ble_eq_true rfl) q815 rfl rfl rfl rfl (Nat.le_of_ble_eq_true rfl) rfl ?_
  refine g_aldM (r := some x) (q := 65) B (k := 1) (t := 1) dJ19_next_64 rfl rfl (hpa) rfl (vp_in_nI (by omega) (by omega)) (by rw [nI_clamp (by omega)]; exact hi) ?_
  exact g_aret B E dJ19_next_65 (by first | exact Or.inl ⟨_, rfl⟩ | exact Or.inr ⟨_, rfl⟩) (rv_r _) (⟨rfl, rfl⟩)
def clr (xs : List Nat) (k : Nat) : Nat → Option Nat := fun i => if i < k then none else xs[i]?
theorem clr_0 (xs : List Nat) : (fun i => xs[i]?) = clr xs 0 := by funext i; simp [clr]
theorem clr_s (xs : List Nat) (k : Nat) : va_up (clr xs k) k none = clr xs (k + 1) := by
  funext i
  unfold va_up clr
  by_cases h : i = k
  · rw [if_pos h, if_pos (by omega)]
  · rw [if_neg h]
    by_cases h1 : i < k
    · rw [if_pos h1, if_pos (by omega)]
    · rw [if_neg h1, if_neg (by omega)]
theorem clr_n (xs : List Nat) : clr xs xs.length = fun i => ([] : List Nat)[i]? := by
  funext i
  unfold clr
  by_cases h : i < xs.length
  · rw [if_pos h]; simp
  · rw [if_neg h, List.getElem?_eq_none (by omega)]; simp
