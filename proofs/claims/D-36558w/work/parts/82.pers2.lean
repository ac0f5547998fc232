set_option maxRecDepth 100000
theorem PackL.b {g : Gv} {lk : Nat} {pks : List Nat} {Ks : List PkS} {kcap : Nat} {w : va_W} (h : LoP g (PackP g) lk pks Ks kcap w) : ∀ (i : Nat) (q : PkS), Ks[i]? = some q → PkB q := by
  intro i q hq
  obtain ⟨a, ha⟩ := get_ex (xs := pks) (i := i) (by have := get_lt2 hq; have := h.len.1; omega)
  exact (PackP.at (h.el ha hq)).1
theorem helP.b {Ks : List PkS} {r : PeS} {x : Nat} (hP : PeB r) (hK : ∀ (i : Nat) (q : PkS), Ks[i]? = some q → PkB q) (h : helP Ks r x) : x < 1000 := by
  obtain ⟨hp0, hp1, hp2, hp3, hp4, hp5, hp6, hp7, hp8⟩ := hP
  rcases h with ⟨i, -, q, hq, h | h⟩ | ⟨n, h⟩ | ⟨-, h | h | ⟨n, c, hc, h | ⟨m, h⟩⟩⟩ | h
  · rw [h]; exact (hK i q hq).2.1
  · rw [h]; exact (hK i q hq).2.2.1
  · exact hp6 n x h
  · rw [h]; exact hp2
  · rw [h]; exact hp3
  · rw [h]; exact (hp7 n c hc).2.1
  · exact (hp7 n c hc).2.2.2 m x h
  · exact hp5 x h
/-- the persons: places, states; of the Keygrove at x; pks: places of the packages; md: the list's modCount -/
def PersL (g : Gv) (p : Nat) (ps : List Nat) (rs : List PeS) (cap x : Nat) (pks : List Nat) (md : Int32) (w : va_W) : Prop := ∃ (w1 w2 : va_W), ListP g p ps md cap w1 ∧ BigL (fun a r v => PersP g a x pks r v) ps rs w2 ∧ w = ([w1, w2] : List va_W).flatten
section
variable {g : Gv} {p : Nat} {ps : List Nat} {rs : List PeS} {cap x : Nat} {pks : List Nat} {md : Int32} {w : va_W}
theorem PersL.lo (h : PersL g p ps rs cap x pks md w) : LoP g (fun a r v => PersP g a x pks r v) p ps rs cap w := by
  obtain ⟨w1, w2, h⟩ := h
  exact ⟨md, w1, w2, h⟩
theorem PersL.of (h : LoP g (fun a r v => PersP g a x pks r v) p ps rs cap w) : ∃ md, PersL g p ps rs cap x pks md w := by
  obtain ⟨md, w1, w2, h⟩ := h
  exact ⟨md, w1, w2, h⟩
theorem PersL.hm (h : PersL g p ps rs cap x pks md w) : ∃ fs, (p, .inr (21, fs)) ∈ w := h.lo.hm
theorem PersL.at {W : va_W} (h : Sub (PersL g p ps rs cap x pks md) W) : Sub (ListP g p ps md cap) W ∧ (ps.length = rs.length ∧ rs.length ≤ cap ∧ cap < 16777216) ∧ ∀ (i a : Nat) (r : PeS), ps[i]? = some a → rs[i]? = some r → Sub (PersP g a x pks r) W := by
  obtain ⟨w, R, hp, h⟩ := h
  have hl := h.lo
  obtain ⟨w1, w2, h1, h2, rfl⟩ := h
  exact ⟨Sub.in hp rfl 0 rfl h1, hl.len, fun i a r ha hr => (hl.el ha hr).up hp⟩
theorem PersL.opn (h : PersL g p ps rs cap x pks md w) {i a : Nat} {r : PeS} (ha : ps[i]? = some a) (hr : rs[i]? = some r) : ∃ w1 wi w2 : va_W, PersP g a x pks r wi ∧ (∀ (r2 : PeS) (wj : va_W), PersP g a x pks r2 wj → PersL g p ps (rs.set i r2) cap x pks md ([w1, wj, w2] : List va_W).flatten) ∧ w = ([w1, wi, w2] : List va_W).flatten := by
  obtain ⟨wl, wb, h1, h2, rfl⟩ := h
  obtain ⟨w1, wi, w2, h3, h4, rfl⟩ := h2.opn ha hr
  exact ⟨([wl, w1] : List va_W).flatten, wi, w2, h3, fun r2 wj hj => ⟨wl, _, h1, h4 r2 wj hj, by simp⟩, by simp⟩
end
theorem ct_X4_init (g : Gv) (J : Jd g) {a : Nat} {x : Nat} {n : Nat} {pks : List Nat} (hn : n < 16) : Ct g yX4_init (ws_ yX4_init cX4_init 3 none) 4 5 25 [.ref a, .ref x, .int (nI n)] [[(a, .inr (2, [.int (nI 0), .null, .null, .int (nI 0), .int (nI 0), .null, .int (nI 0), .int (nI 0), .null, .int (nI 0), .null]))]] (fun (rv_ : Option Value) (rL_ : List va_W) => ∃ (u0 : va_W), rv_ = none ∧ rL_ = [u0] ∧ PersP g a x pks ((n, fun _ => false, [], none, 0, fun _ => none, 0, 0, fun _ => none, none) : PeS) u0) noX := by
  refine Ct.ofI "Keygrove$Person" [some (.ref a), some (.ref x), some (.int (nI n))] rfl (by decide) rfl (Nat.le_of_ble_eq_true rfl) rfl rfl ?_
  intro κ B E tb ini
  refine g_aload_n (q := 1) B dX4_init_0 rfl rfl (rv_r _) ?_
  refine g_aload_n (q := 2) B dX4_init_1 rfl rfl (rv_r _) ?_
  refine g_putF (q := 5) (L2 := [[(a, .inr (2, [.int (nI 0), .null, .null, .int (nI 0), .int (nI 0), .null, .int (nI 0), .int (nI 0), .null, .int (nI 0), .ref x]))]]) B (ci := 2) (k := 0) (j := 10) in_X4 tyX4 tyX4_ok nmX4 rfl dX4_init_2 rfl rfl (Nat.le_of_ble_eq_true rfl) q1914 rfl rfl (ini) rfl rfl rfl (Nat.le_of_ble_eq_true rfl) rfl ?_
  refine g_aload_n (q := 6) B dX4_init_5 rfl rfl (rv_r _) ?_
  refine g_objInit (q := 9) B q1861 q157 q158 dX4_init_6 rfl rfl (Nat.le_of_ble_eq_true rfl) ?_
  refine g_aload_n (q := 10) B dX4_init_9 rfl rfl (rv_r _) ?_
  refine g_new (q := 13) (kc2 := 4) (ks2 := 22) (fs := [.null, .int (nI 0), .int (nI 0)]) B (ci := 26) in_J5 tyJ5_ok rfl dX4_init_10 rfl q1166 q253 q84 (nwJ5) (Nat.le_of_ble_eq_true rfl) (Nat.le_of_ble_eq_true rfl) (fun n10 => ?_)
  refine (show Go g κ 13 [some (.ref a), some (.ref x), some (.int (nI n))] [.ref n10, .ref a] [[(a, .inr (2, [.int (nI 0), .null, .null, .int (nI 0), .int (nI 0), .null, .int (nI 0), .int (nI 0), .null, .int (nI 0), .ref x]))], [(n10, .inr (26, [.null, .int (nI 0), .int (nI 0)]))]] 4 22 from ?_)
  refine g_dup (q := 14) B dX4_init_13 rfl rfl ?_
  refine g_callI (q := 17) (is := [1]) (kc2 := 3) (ks2 := 21) B [] (ct_J5_init g J (b := n10)  ) dX4_init_14 rfl rfl q1167 q255 q84 q256 rfl rfl moJ5_init rfl rfl (by decide) (by decide) (Nat.le_of_ble_eq_true rfl) (Nat.le_of_ble_eq_true rfl) (Nat.le_of_ble_eq_true rfl) (fun _ _ hx => noX_x hx) (fun v14 L1 hp14 => ?_)
  obtain ⟨u0_14, rfl, rfl, hu0_14⟩ := hp14
  refine (show Go g κ 17 [some (.ref a), some (.ref x), some (.int (nI n))] [.ref n10, .ref a] [[(a, .inr (2, [.int (nI 0), .null, .null, .int (nI 0), .int (nI 0), .null, .int (nI 0), .int (nI 0), .null, .int (nI 0), .ref x]))], u0_14] 3 21 from ?_)
  refine g_putF (q := 20) (L2 := [[(a, .inr (2, [.int (nI 0), .ref n10, .null, .int (nI 0), .int (nI 0), .null, .int (nI 0), .int (nI 0), .null, .int (nI 0), .ref x]))], u0_14]) B (ci := 2) (k := 0) (j := 1) in_X4 tyX4 tyX4_ok nmX4 rfl dX4_init_17 rfl rfl (Nat.le_of_ble_eq_true rfl) q1896 rfl rfl (ini) rfl rfl rfl (Nat.le_of_ble_eq_true rfl) rfl ?_
  refine g_aload_n (q := 21) B dX4_init_20 rfl rfl (rv_r _) ?_
  refine g_new (q := 24) (kc2 := 2) (ks2 := 18) (fs := [.int (nI 0), .null, .int (nI 0)]) B (ci := 21) in_J2 tyJ2_ok rfl dX4_init_21 rfl q1862 q166 q81 (nwJ2) (Nat.le_of_ble_eq_true rfl) (Nat.le_of_ble_eq_true rfl) (fun n21 => ?_)
  refine (show Go g κ 24 [some (.ref a), some (.ref x), some (.int (nI n))] [.ref n21, .ref a] [[(a, .inr (2, [.int (nI 0), .ref n10, .null, .int (nI 0), .int (nI 0), .null, .int (nI 0), .int (nI 0), .null, .int (nI 0), .ref x]))], u0_14, [(n21, .inr (21, [.int (nI 0), .null, .int (nI 0)]))]] 2 18 from ?_)
  refine g_dup (q := 25) B dX4_init_24 rfl rfl ?_
  refine g_callI (q := 28) (is := [2]) (kc2 := 2) (ks2 := 18) B [] (ct_J2_init g J (p := n21)  ) dX4_init_25 rfl rfl q1863 q168 q81 q169 rfl rfl moJ2_init rfl rfl (by decide) (by decide) (Nat.le_of_ble_eq_true rfl) (Nat.le_of_ble_eq_true rfl) (Nat.le_of_ble_eq_true rfl) (fun _ _ hx => noX_x hx) (fun v25 L1 hp25 => ?_)
  obtain ⟨u0_25, rfl, rfl, hu0_25⟩ := hp25
  refine (show Go g κ 28 [some (.ref a), some (.ref x), some (.int (nI n))] [.ref n21, .ref a] [[(a, .inr (2, [.int (nI 0), .ref n10, .null, .int (nI 0), .int (nI 0), .null, .int (nI 0), .int (nI 0), .null, .int (nI 0), .ref x]))], u0_14, u0_25] 2 18 from ?_)
  refine g_putF (q := 31) (L2 := [[(a, .inr (2, [.int (nI 0), .ref n10, .ref n21, .int (nI 0), .int (nI 0), .null, .int (nI 0), .int (nI 0), .null, .int (nI 0), .ref x]))], u0_14, u0_25]) B (ci := 2) (k := 0) (j := 2) in_X4 tyX4 tyX4_ok nmX4 rfl dX4_init_28 rfl rfl (Nat.le_of_ble_eq_true rfl) q1898 rfl rfl (ini) rfl rfl rfl (Nat.le_of_ble_eq_true rfl) rfl ?_
  refine g_aload_n (q := 32) B dX4_init_31 rfl rfl (rv_r _) ?_
  refine g_iconst (v := -1) (q := 33) B dX4_init_32 rfl (by decide) ?_
  refine g_put (q := 36) (L2 := [[(a, .inr (2, [.int (nI 0), .ref n10, .ref n21, .int (-1), .int (nI 0), .null, .int (nI 0), .int (nI 0), .null, .int (nI 0), .ref x]))], u0_14, u0_25]) B (ci := 2) (k := 0) (j := 3) in_X4 tyX4 tyX4_ok nmX4 rfl dX4_init_33 rfl rfl (Nat.le_of_ble_eq_true rfl) q1900 rfl rfl rfl rfl (Nat.le_of_ble_eq_true rfl) rfl ?_
  refine g_aload_n (q := 37) B dX4_init_36 rfl rfl (rv_r _) ?_
  refine g_new (q := 40) (kc2 := 1) (ks2 := 9) (fs := [.null, .null, .null, .null, .int (nI 0), .int (nI 0), .null, .null, .null]) B (ci := 27) in_J10 tyJ10_ok rfl dX4_init_37 rfl q1864 q1865 q91 (nwJ10) (Nat.le_of_ble_eq_true rfl) (Nat.le_of_ble_eq_true rfl) (fun n37 => ?_)
  refine (show Go g κ 40 [some (.ref a), some (.ref x), some (.int (nI n))] [.ref n37, .ref a] [[(a, .inr (2, [.int (nI 0), .ref n10, .ref n21, .int (-1), .int (nI 0), .null, .int (nI 0), .int (nI 0), .null, .int (nI 0), .ref x]))], u0_14, u0_25, [(n37, .inr (27, [.null, .null, .null, .null, .int (nI 0), .int (nI 0), .null, .null, .null]))]] 1 9 from ?_)
  refine g_dup (q := 41) B dX4_init_40 rfl rfl ?_
  refine g_callI (q := 44) (is := [3]) (kc2 := 1) (ks2 := 9) B [] (ct_J10_init g J (t := n37)  ) dX4_init_41 rfl rfl q1866 q1867 q91 q1868 rfl rfl moJ10_init rfl rfl (by decide) (by decide) (Nat.le_of_ble_eq_true rfl) (Nat.le_of_ble_eq_true rfl) (Nat.le_of_ble_eq_true rfl) (fun _ _ hx => noX_x hx) (fun v41 L1 hp41 => ?_)
  obtain ⟨u0_41, rfl, rfl, hu0_41⟩ := hp41
  refine (show Go g κ 44 [some (.ref a), some (.ref x), some (.int (nI n))] [.ref n37, .ref a] [[(a, .inr (2, [.int (nI 0), .ref n10, .ref n21, .int (-1), .int (nI 0), .null, .int (nI 0), .int (nI 0), .null, .int (nI 0), .ref x]))], u0_14, u0_25, u0_41] 1 9 from ?_)
  refine g_putF (q := 47) (L2 := [[(a, .inr (2, [.int (nI 0), .ref n10, .ref n21, .int (-1), .int (nI 0), .ref n37, .int (nI 0), .int (nI 0), .null, .int (nI 0), .ref x]))], u0_14, u0_25, u0_41]) B (ci := 2) (k := 0) (j := 5) in_X4 tyX4 tyX4_ok nmX4 rfl dX4_init_44 rfl rfl (Nat.le_of_ble_eq_true rfl) q1904 rfl rfl (ini) rfl rfl rfl (Nat.le_of_ble_eq_true rfl) rfl ?_
  refine g_aload_n (q := 48) B dX4_init_47 rfl rfl (rv_r _) ?_
  refine g_new (q := 51) (kc2 := 0) (ks2 := 0) (fs := [.null, .null, .null, .null, .int (nI 0), .int (nI 0), .null, .null, .null]) B (ci := 27) in_J10 tyJ10_ok rfl dX4_init_48 rfl q1864 q1865 q91 (nwJ10) (Nat.le_of_ble_eq_true rfl) (Nat.le_of_ble_eq_true rfl) (fun n48 => ?_)
  refine (show Go g κ 51 [some (.ref a), some (.ref x), some (.int (nI n))] [.ref n48, .ref a] [[(a, .inr (2, [.int (nI 0), .ref n10, .ref n21, .int (-1), .int (nI 0), .ref n37, .int (nI 0), .int (nI 0), .null, .int (nI 0), .ref x]))], u0_14, u0_25, u0_41, [(n48, .inr (27, [.null, .null, .null, .null, .int (nI 0), .int (nI 0), .null, .null, .null]))]] 0 0 from ?_)
  refine g_dup (q := 52) B dX4_init_51 rfl rfl ?_
  refine g_callI (q := 55) (is := [4]) (kc2 := 0) (ks2 := 0) B [] (ct_J10_init g J (t := n48)  ) dX4_init_52 rfl rfl q1866 q1867 q91 q1868 rfl rfl moJ10_init rfl rfl (by decide) (by decide) (Nat.le_of_ble_eq_true rfl) (Nat.le_of_ble_eq_true rfl) (Nat.le_of_ble_eq_true rfl) (fun _ _ hx => noX_x hx) (fun v52 L1 hp52 => ?_)
  obtain ⟨u0_52, rfl, rfl, hu0_52⟩ := hp52
  refine (show Go g κ 55 [some (.ref a), some (.ref x), some (.int (nI n))] [.ref n48, .ref a] [[(a, .inr (2, [.int (nI 0), .ref n10, .ref n21, .int (-1), .int (nI 0), .ref n37, .int (nI 0), .int (nI 0), .null, .int (nI 0), .ref x]))], u0_14, u0_25, u0_41, u0_52] 0 0 from ?_)
  refine g_putF (q := 58) (L2 := [[(a, .inr (2, [.int (nI 0), .ref n10, .ref n21, .int (-1), .int (nI 0), .ref n37, .int (nI 0), .int (nI 0), .ref n48, .int (nI 0), .ref x]))], u0_14, u0_25, u0_41, u0_52]) B (ci := 2) (k := 0) (j := 8) in_X4 tyX4 tyX4_ok nmX4 rfl dX4_init_55 rfl rfl (Nat.le_of_ble_eq_true rfl) q1910 rfl rfl (ini) rfl rfl rfl (Nat.le_of_ble_eq_true rfl) rfl ?_
  refine g_aload_n (q := 59) B dX4_init_58 rfl rfl (rv_r _) ?_
  refine g_iconst (v := -1) (q := 60) B dX4_init_59 rfl (by decide) ?_
  refine g_put (q := 63) (L2 := [[(a, .inr (2, [.int (nI 0), .ref n10, .ref n21, .int (-1), .int (nI 0), .ref n37, .int (nI 0), .int (nI 0), .ref n48, .int (-1), .ref x]))], u0_14, u0_25, u0_41, u0_52]) B (ci := 2) (k := 0) (j := 9) in_X4 tyX4 tyX4_ok nmX4 rfl dX4_init_60 rfl rfl (Nat.le_of_ble_eq_true rfl) q1912 rfl rfl rfl rfl (Nat.le_of_ble_eq_true rfl) rfl ?_
  refine g_aload_n (q := 64) B dX4_init_63 rfl rfl (rv_r _) ?_
  refine g_iload_n (q := 65) B dX4_init_64 rfl rfl ?_
  refine g_putF (q := 68) (L2 := [[(a, .inr (2, [.int (nI n), .ref n10, .ref n21, .int (-1), .int (nI 0), .ref n37, .int (nI 0), .int (nI 0), .ref n48, .int (-1), .ref x]))], u0_14, u0_25, u0_41, u0_52]) B (ci := 2) (k := 0) (j := 0) in_X4 tyX4 tyX4_ok nmX4 rfl dX4_init_65 rfl rfl (Nat.le_of_ble_eq_true rfl) q1894 rfl rfl (ini) rfl rfl rfl (Nat.le_of_ble_eq_true rfl) rfl ?_
  obtain ⟨wc_1, ewc_1⟩ : ∃ w : va_W, w = ([[(a, .inr (2, [.int (nI n), .ref n10, .ref n21, .int (-1), .int (nI 0), .ref n37, .int (nI 0), .int (nI 0), .ref n48, .int (-1), .ref x]))], u0_14, u0_25, u0_41, u0_52] : List va_W).flatten := ⟨_, rfl⟩
  have hwc_1 : PersP g a x pks ((n, fun _ => false, [], none, 0, fun _ => none, 0, 0, fun _ => none, none) : PeS) wc_1 := by
    rw [ewc_1]
    exact ⟨n10, n21, n37, n48, 1, 0, 0, 0, ([]), (nI 0), _, _, _, _, ⟨hn, (show 0 < 16 by decide), (show 0 < 1000 by decide), (show 0 < 1000 by decide), (fun n h => by cases h), (fun n h => by cases h), (fun i n h => by cases h), (fun i n h => by cases h), (fun x h => by cases h)⟩, rfl, (by decide), (by decide), hu0_14, hu0_25, (MoP.nil hu0_41), (MoP.nil hu0_52), rfl⟩
  refine g_close (w := wc_1) [0, 0, 0, 0, 0] rfl ewc_1 rfl ?_
  refine (show Go g κ 68 [some (.ref a), some (.ref x), some (.int (nI n))] [] [wc_1] 0 0 from ?_)
  exact g_vret B E dX4_init_68 (⟨wc_1, rfl, rfl, hwc_1⟩)
theorem ct_X4_isIn (g : Gv) (J : Jd g) {a : Nat} {x : Nat} {pks : List Nat} {r : PeS} {w0 : va_W} (hw0 : PersP g a x pks r w0) : Ct g yX4_isIn (ws_ yX4_isIn cX4_isIn 1 (some .boolean)) 0 0 0 [.ref a] [w0] (fun (rv_ : Option Value) (rL_ : List va_W) => rv_ = some (.int (nI (if ¬ pEp r = none then 1 else 0))) ∧ rL_ = [w0]) noX := by
  refine Ct.of "Keygrove$Person" [some (.ref a)] rfl (by decide) rfl (Nat.le_of_ble_eq_true rfl) rfl ?_
  intro κ B E tb
  refine g_aload_n (q := 1) B dX4_isIn_0 rfl rfl (rv_r _) ?_
  obtain ⟨ev_1, pl_1, nd_1, ch_1, ecap_1, pcap_1, nn_1, nc_1, plc_1, md_1, hP_1, hpl_1, hec_1, hpc_1, hc_1_0, hs_1_0, hs_1_1, hs_1_2, hs_1_3⟩ := PersP.at (Sub.self hw0)
  refine g_getM (q := 4) B (ci := 2) (k := 0) (j := 3) in_X4 rfl dX4_isIn_1 rfl rfl (hc_1_0) (Nat.le_of_ble_eq_true rfl) q1900 rfl rfl ?_
  refine g_iconst (v := -1) (q := 5) B dX4_isIn_4 rfl (by decide) ?_
  refine g_icmp_eq (tgt := 12) (q := 8) B dX4_isIn_5 rfl (by decide) (oI_n ((fun n h => by have := hP_1.2.2.2.2.1 _ h; omega))) (fun c5 => ?_) (fun c5 => ?_)
  · skip
    refine g_iconst (v := nI 0) (q := 13) B dX4_isIn_12 rfl (by decide) ?_
    exact g_zret B E dX4_isIn_13 (by decide) (⟨bo0 (by first | assumption | (intro z; exact z c5) | (exact fun z => c5 z)), rfl⟩)
  · skip
    obtain ⟨v5, ev5⟩ := Option.ne_none_iff_exists'.mp c5
    refine g_iconst (v := nI 1) (q := 9) B dX4_isIn_8 rfl (by decide) ?_
    refine g_goto (tgt := 13) B dX4_isIn_9 (by decide) ?_
    exact g_zret B E dX4_isIn_13 (by decide) (⟨bo1 (by first | assumption | (intro z; exact z c5) | (exact fun z => c5 z)), rfl⟩)
theorem ct_X4_isIn_s (g : Gv) (J : Jd g) {a : Nat} {x : Nat} {pks : List Nat} {r : PeS} {W0 : va_W} (hS0 : Sub (PersP g a x pks r) W0) : Ct g yX4_isIn (ws_ yX4_isIn cX4_isIn 1 (some .boolean)) 0 0 0 [.ref a] [W0] (fun (rv_ : Option Value) (rL_ : List va_W) => rv_ = some (.int (nI (if ¬ pEp r = none then 1 else 0))) ∧ rL_ = [W0]) noX := by
  obtain ⟨w_, R_, hp_, hw_⟩ := hS0
  refine Ct.lift (ct_X4_isIn g J (a := a) (x := x) (pks := pks) (r := r) hw_ ) [R_] ?_ ?_
  · refine sub_in 0 rfl hp_ rfl
  · rintro v L ⟨e1, rfl⟩
    exact ⟨_, [], sub_out 0 rfl hp_ rfl, ⟨e1, rfl⟩⟩
theorem moX4_held : Mo yX4_held 0 := by
  refine ⟨by decide, by decide, by decide +kernel⟩
theorem moJ5_or : Mo yJ5_or 1 := by
  refine ⟨by decide, by decide, by decide +kernel⟩
theorem ct_X4_notes (g : Gv) (J : Jd g) {a : Nat} {x : Nat} {pks : List Nat} {r : PeS} {lk : Nat} {Ks : List PkS} {kcap : Nat} {w0 : va_W} {w1 : va_W} (hw0 : PersP g a x pks r w0) (hw1 : LoP g (PackP g) lk pks Ks kcap w1) (hkb : ∀ i ∈ pPk r, i < Ks.length) : Ct g yX4_notes (ws_ yX4_notes cX4_notes 1 none) 7 77 270 [.ref a] [w0, w1] (fun (rv_ : Option Value) (rL_ : List va_W) => ∃ (E : Nat → Bool) (u0 : va_W), rv_ = none ∧ rL_ = [u0, w1] ∧ PersP g a x pks ((r.1, E, r.2.2) : PeS) u0 ∧ (∀ x, E x = true ↔ pEv r x = true ∨ helP Ks r x)) noX := by
  refine Ct.of "Keygrove$Person" [some (.ref a)] rfl (by decide) rfl (Nat.le_of_ble_eq_true rfl) rfl ?_
  intro κ B E tb
  obtain ⟨ev, pl, nd, ch, ecap, pcap, nn, nc, plc, md, v0, v1, v2, v3, hP, hpl, hec, hpc, hv0, hv1, hv2, hv3, rfl⟩ := hw0
  refine g_open 0 rfl rfl rfl ?_
  refine (show Go g κ 0 [some (.ref a)] [] [w1, [(a, .inr (2, [.int (nI (pNo r)), .ref ev, .ref pl, .int (oI (pEp r)), .int (nI (pLf r)), .ref nd, .int (nI (pOn r)), .int (nI (pKy r)), .ref ch, .int (oI (pRn r)), .ref x]))], v0, v1, v2, v3] 77 270 from ?_)
  refine g_aload_n (q := 1) B dX4_notes_0 rfl rfl (rv_r _) ?_
  refine g_get (q := 4) B (ci := 2) (k := 1) (j := 1) in_X4 rfl dX4_notes_1 rfl rfl (Nat.le_of_ble_eq_true rfl) q1896 rfl rfl ?_
  refine g_aload_n (q := 5) B dX4_notes_4 rfl rfl (rv_r _) ?_
  refine g_callV (q := 8) (is := [1, 2, 2, 2, 0]) (kc2 := 1) (ks2 := 60) B [] (ct_X4_held_o g J (a := a) (x := x) (pks := pks) (r := r) (lk := lk) (Ks := Ks) (kcap := kcap) (ev := ev) (pl := pl) (nd := nd) (ch := ch) (pcap := pcap) (nn := nn) (nc := nc) (plc := plc) (md := md) hv1 hv2 hv3 hw1 (by first | assumption | omega | rfl) (by first | assumption | omega | rfl) (by first | assumption | omega | rfl) (by first | assumption | omega | rfl)) dX4_notes_5 rfl (rc_at B (ci := 2) rfl (k := 1) rfl) rfl q2016 q1163 q1164 q90 q1165 rfl rfl moX4_held rfl rfl (by decide) (by decide) (Nat.le_of_ble_eq_true rfl) (Nat.le_of_ble_eq_true rfl) (Nat.le_of_ble_eq_true rfl) (fun _ _ hx => noX_x hx) (fun v5 L1 hp5 => ?_)
  obtain ⟨b5, S5, cap5, u2_5, u3_5, u5_5, rfl, rfl, hu2_5, hu3_5, hu5_5, hS_5, hcap_5⟩ := hp5
  refine (show Go g κ 8 [some (.ref a)] [.ref b5, .ref ev] [v0, [(a, .inr (2, [.int (nI (pNo r)), .ref ev, .ref pl, .int (oI (pEp r)), .int (nI (pLf r)), .ref nd, .int (nI (pOn r)), .int (nI (pKy r)), .ref ch, .int (oI (pRn r)), .ref x]))], v1, u2_5, u3_5, w1, u5_5] 1 60 from ?_)
  refine g_callV (q := 11) (is := [0, 5]) (kc2 := 0) (ks2 := 0) B [.ref b5] (ct_J5_or g J (b := ev) (S := (pEv r)) (cap := ecap) (c := b5) (T := S5) (cap2 := cap5) (mc := 1) (ms := 60) hv0 hu5_5 (by omega) (by omega) (by omega)) dX4_notes_8 rfl (rc_in B (ci := 26) rfl (k := 0) rfl (SetP.hm hv0)) rfl q2017 q2018 q2019 q84 q2020 rfl rfl moJ5_or rfl rfl (by decide) (by decide) (Nat.le_of_ble_eq_true rfl) (Nat.le_of_ble_eq_true rfl) (Nat.le_of_ble_eq_true rfl) (fun _ _ hx => noX_x hx) (fun v8 L1 hp8 => ?_)
  obtain ⟨cap38, u0_8, rfl, rfl, hu0_8, hcap_8⟩ := hp8
  refine (show Go g κ 11 [some (.ref a)] [] [[(a, .inr (2, [.int (nI (pNo r)), .ref ev, .ref pl, .int (oI (pEp r)), .int (nI (pLf r)), .ref nd, .int (nI (pOn r)), .int (nI (pKy r)), .ref ch, .int (oI (pRn r)), .ref x]))], v1, u2_5, u3_5, w1, u0_8, u5_5] 0 0 from ?_)
  have hKb := PackL.b hw1
  have hEe : ∀ x, (pEv r x || S5 x) = true ↔ pEv r x = true ∨ helP Ks r x := fun x => by rw [Bool.or_eq_true, hS_5 x]
  obtain ⟨wc_1, ewc_1⟩ : ∃ w : va_W, w = ([[(a, .inr (2, [.int (nI (pNo r)), .ref ev, .ref pl, .int (oI (pEp r)), .int (nI (pLf r)), .ref nd, .int (nI (pOn r)), .int (nI (pKy r)), .ref ch, .int (oI (pRn r)), .ref x]))], u0_8, v1, u2_5, u3_5] : List va_W).flatten := ⟨_, rfl⟩
  have hwc_1 : PersP g a x pks ((r.1, fun j => pEv r j || S5 j, r.2.2) : PeS) wc_1 := by
    rw [ewc_1]
    exact ⟨ev, pl, nd, ch, cap38, pcap, nn, nc, plc, md, _, _, _, _, (by have hP0 := hP; obtain ⟨hp0, hp1, hp2, hp3, hp4, hp5, hp6, hp7, hp8⟩ := hP0; exact ⟨hp0, hp1, hp2, hp3, hp4, hp5, hp6, hp7, fun x h => ((hEe x).mp h).elim (hp8 x) (helP.b hP hKb)⟩), hpl, (by omega), hpc, hu0_8, hv1, hu2_5, hu3_5, rfl⟩
  refine g_close (w := wc_1) [0, 4, 0, 0, 0] rfl ewc_1 rfl ?_
  refine (show Go g κ 11 [some (.ref a)] [] [w1, u5_5, wc_1] 0 0 from ?_)
  refine g_pk [2, 0] rfl rfl ?_
  refine (show Go g κ 11 [some (.ref a)] [] [wc_1, w1] 0 0 from ?_)
  exact g_vret B E dX4_notes_11 (⟨fun j => pEv r j || S5 j, _, rfl, rfl, hwc_1, hEe⟩)
theorem ct_X4_notes_L (g : Gv) (J : Jd g) {lp : Nat} {pps : List Nat} {Ps : List PeS} {pcp : Nat} {ix : Nat} {pmd : Int32} {a : Nat} {x : Nat} {pks : List Nat} {r : PeS} {lk : Nat} {Ks : List PkS} {kcap : Nat} {w0 : va_W} {w1 : va_W} (hw0 : PersL g lp pps Ps pcp x pks pmd w0) (hw1 : LoP g (PackP g) lk pks Ks kcap w1) (ha : pps[ix]? = some a) (hr : Ps[ix]? = some r) (hkb : ∀ i ∈ pPk r, i < Ks.length) : Ct g yX4_notes (ws_ yX4_notes cX4_notes 1 none) 7 77 270 [.ref a] [w0, w1] (fun (rv_ : Option Value) (rL_ : List va_W) => ∃ (E : Nat → Bool) (u0 : va_W), rv_ = none ∧ rL_ = [u0, w1] ∧ PersL g lp pps (Ps.set ix ((r.1, E, r.2.2) : PeS)) pcp x pks pmd u0 ∧ (∀ x, E x = true ↔ pEv r x = true ∨ helP Ks r x)) noX := by
  obtain ⟨u1_, wi_, u2_, hwi_, hcl_, he_⟩ := PersL.opn hw0 ha hr
  subst he_
  refine Ct.lift (ct_X4_notes g J (a := a) (x := x) (pks := pks) (r := r) (lk := lk) (Ks := Ks) (kcap := kcap) hwi_ hw1 hkb) [u1_, u2_] (perm_cnt fun ct h h0 => by simp only [List.flatten_cons, List.flatten_nil, List.flatten_append, h, h0]; omega) ?_
  rintro v L ⟨E, z0_, e1, rfl, hz0_, hE⟩
  exact ⟨[([u1_, z0_, u2_] : List va_W).flatten, w1], [], (perm_cnt fun ct h h0 => by simp only [List.flatten_cons, List.flatten_nil, List.flatten_append, h, h0]; omega), E, ([u1_, z0_, u2_] : List va_W).flatten, e1, rfl, hcl_ _ _ hz0_, hE⟩
theorem moJ10_clear : Mo yJ10_clear 0 := by
  refine ⟨by decide, by decide, by decide +kernel⟩
theorem ct_X4_leaves (g : Gv) (J : Jd g) {a : Nat} {x : Nat} {pks : List Nat} {r : PeS} {w0 : va_W} (hw0 : PersP g a x pks r w0) : Ct g yX4_leaves (ws_ yX4_leaves cX4_leaves 1 none) 1 0 0 [.ref a] [w0] (fun (rv_ : Option Value) (rL_ : List va_W) => ∃ (u0 : va_W), rv_ = none ∧ rL_ = [u0] ∧ PersP g a x pks ((r.1, r.2.1, r.2.2.1, none, r.2.2.2.2.1, fun _ => none, pOn r, pKy r, fun _ => none, none) : PeS) u0) noX := by
  refine Ct.of "Keygrove$Person" [some (.ref a)] rfl (by decide) rfl (Nat.le_of_ble_eq_true rfl) rfl ?_
  intro κ B E tb
  obtain ⟨ev, pl, nd, ch, ecap, pcap, nn, nc, plc, md, v0, v1, v2, v3, hP, hpl, hec, hpc, hv0, hv1, hv2, hv3, rfl⟩ := hw0
  refine g_open 0 rfl rfl rfl ?_
  refine (show Go g κ 0 [some (.ref a)] [] [[(a, .inr (2, [.int (nI (pNo r)), .ref ev, .ref pl, .int (oI (pEp r)), .int (nI (pLf r)), .ref nd, .int (nI (pOn r)), .int (nI (pKy r)), .ref ch, .int (oI (pRn r)), .ref x]))], v0, v1, v2, v3] 0 0 from ?_)
  refine g_aload_n (q := 1) B dX4_leaves_0 rfl rfl (rv_r _) ?_
  refine g_iconst (v := -1) (q := 2) B dX4_leaves_1 rfl (by decide) ?_
  refine g_put (q := 5) (L2 := [[(a, .inr (2, [.int (nI (pNo r)), .ref ev, .ref pl, .int (-1), .int (nI (pLf r)), .ref nd, .int (nI (pOn r)), .int (nI (pKy r)), .ref ch, .int (oI (pRn r)), .ref x]))], v0, v1, v2, v3]) B (ci := 2) (k := 0) (j := 3) in_X4 tyX4 tyX4_ok nmX4 rfl dX4_leaves_2 rfl rfl (Nat.le_of_ble_eq_true rfl) q1900 rfl rfl rfl rfl (Nat.le_of_ble_eq_true rfl) rfl ?_
  refine g_aload_n (q := 6) B dX4_leaves_5 rfl rfl (rv_r _) ?_
  refine g_iconst (v := -1) (q := 7) B dX4_leaves_6 rfl (by decide) ?_
  refine g_put (q := 10) (L2 := [[(a, .inr (2, [.int (nI (pNo r)), .ref ev, .ref pl, .int (-1), .int (nI (pLf r)), .ref nd, .int (nI (pOn r)), .int (nI (pKy r)), .ref ch, .int (-1), .ref x]))], v0, v1, v2, v3]) B (ci := 2) (k := 0) (j := 9) in_X4 tyX4 tyX4_ok nmX4 rfl dX4_leaves_7 rfl rfl (Nat.le_of_ble_eq_true rfl) q1912 rfl rfl rfl rfl (Nat.le_of_ble_eq_true rfl) rfl ?_
  refine g_aload_n (q := 11) B dX4_leaves_10 rfl rfl (rv_r _) ?_
  refine g_get (q := 14) B (ci := 2) (k := 0) (j := 5) in_X4 rfl dX4_leaves_11 rfl rfl (Nat.le_of_ble_eq_true rfl) q1904 rfl rfl ?_
  refine g_callV (q := 17) (is := [3]) (kc2 := 0) (ks2 := 0) B [] (ct_NmP_clear g J (t := nd) (F := (pNd r)) (n := nn) hv2 ) dX4_leaves_14 rfl (rc_in B (ci := 27) rfl (k := 3) rfl (MoP.hm hv2)) rfl q2177 q2178 q2179 q91 q2180 rfl rfl moJ10_clear rfl rfl (by decide) (by decide) (Nat.le_of_ble_eq_true rfl) (Nat.le_of_ble_eq_true rfl) (Nat.le_of_ble_eq_true rfl) (fun _ _ hx => noX_x hx) (fun v14 L1 hp14 => ?_)
  obtain ⟨u0_14, rfl, rfl, hu0_14⟩ := hp14
  refine (show Go g κ 17 [some (.ref a)] [] [[(a, .inr (2, [.int (nI (pNo r)), .ref ev, .ref pl, .int (-1), .int (nI (pLf r)), .ref nd, .int (nI (pOn r)), .int (nI (pKy r)), .ref ch, .int (-1), .ref x]))], v0, v1, v3, u0_14] 0 0 from ?_)
  refine g_aload_n (q := 18) B dX4_leaves_17 rfl rfl (rv_r _) ?_
  refine g_get (q := 21) B (ci := 2) (k := 0) (j := 8) in_X4 rfl dX4_leaves_18 rfl rfl (Nat.le_of_ble_eq_true rfl) q1910 rfl rfl ?_
  refine g_callV (q := 24) (is := [3]) (kc2 := 0) (ks2 := 0) B [] (ct_CmP_clear g J (t := ch) (F := (pCh r)) (n := nc) hv3 ) dX4_leaves_21 rfl (rc_in B (ci := 27) rfl (k := 3) rfl (MoP.hm hv3)) rfl q2177 q2178 q2179 q91 q2180 rfl rfl moJ10_clear rfl rfl (by decide) (by decide) (Nat.le_of_ble_eq_true rfl) (Nat.le_of_ble_eq_true rfl) (Nat.le_of_ble_eq_true rfl) (fun _ _ hx => noX_x hx) (fun v21 L1 hp21 => ?_)
  obtain ⟨u0_21, rfl, rfl, hu0_21⟩ := hp21
  refine (show Go g κ 24 [some (.ref a)] [] [[(a, .inr (2, [.int (nI (pNo r)), .ref ev, .ref pl, .int (-1), .int (nI (pLf r)), .ref nd, .int (nI (pOn r)), .int (nI (pKy r)), .ref ch, .int (-1), .ref x]))], v0, v1, u0_14, u0_21] 0 0 from ?_)
  obtain ⟨wc_1, ewc_1⟩ : ∃ w : va_W, w = ([[(a, .inr (2, [.int (nI (pNo r)), .ref ev, .ref pl, .int (-1), .int (nI (pLf r)), .ref nd, .int (nI (pOn r)), .int (nI (pKy r)), .ref ch, .int (-1), .ref x]))], v0, v1, u0_14, u0_21] : List va_W).flatten := ⟨_, rfl⟩
  have hwc_1 : PersP g a x pks ((r.1, r.2.1, r.2.2.1, none, r.2.2.2.2.1, fun _ => none, pOn r, pKy r, fun _ => none, none) : PeS) wc_1 := by
    rw [ewc_1]
    exact ⟨ev, pl, nd, ch, ecap, pcap, 0, 0, plc, md, _, _, _, _, (by have hP0 := hP; obtain ⟨hp0, hp1, hp2, hp3, hp4, hp5, hp6, hp7, hp8⟩ := hP0; exact ⟨hp0, hp1, hp2, hp3, (fun n h => by cases h), (fun n h => by cases h), (fun i n h => by cases h), (fun i n h => by cases h), hp8⟩), hpl, hec, hpc, hv0, hv1, hu0_14, hu0_21, rfl⟩
  refine g_close (w := wc_1) [0, 0, 0, 0, 0] rfl ewc_1 rfl ?_
  refine (show Go g κ 24 [some (.ref a)] [] [wc_1] 0 0 from ?_)
  exact g_vret B E dX4_leaves_24 (⟨wc_1, rfl, rfl, hwc_1⟩)
theorem ct_X4_leaves_L (g : Gv) (J : Jd g) {lp : Nat} {pps : List Nat} {Ps : List PeS} {pcp : Nat} {ix : Nat} {pmd : Int32} {a : Nat} {x : Nat} {pks : List Nat} {r : PeS} {w0 : va_W} (hw0 : PersL g lp pps Ps pcp x pks pmd w0) (ha : pps[ix]? = some a) (hr : Ps[ix]? = some r) : Ct g yX4_leaves (ws_ yX4_leaves cX4_leaves 1 none) 1 0 0 [.ref a] [w0] (fun (rv_ : Option Value) (rL_ : List va_W) => ∃ (u0 : va_W), rv_ = none ∧ rL_ = [u0] ∧ PersL g lp pps (Ps.set ix ((r.1, r.2.1, r.2.2.1, none, r.2.2.2.2.1, fun _ => none, pOn r, pKy r, fun _ => none, none) : PeS)) pcp x pks pmd u0) noX := by
  obtain ⟨u1_, wi_, u2_, hwi_, hcl_, he_⟩ := PersL.opn hw0 ha hr
  subst he_
  refine Ct.lift (ct_X4_leaves g J (a := a) (x := x) (pks := pks) (r := r) hwi_ ) [u1_, u2_] (perm_cnt fun ct h h0 => by simp only [List.flatten_cons, List.flatten_nil, List.flatten_append, h, h0]; omega) ?_
  rintro v L ⟨z0_, e1, rfl, hz0_⟩
  exact ⟨[([u1_, z0_, u2_] : List va_W).flatten], [], (perm_cnt fun ct h h0 => by simp only [List.flatten_cons, List.flatten_nil, List.flatten_append, h, h0]; omega), ([u1_, z0_, u2_] : List va_W).flatten, e1, rfl, hcl_ _ _ hz0_⟩
theorem ct_X4_held_L (g : Gv) (J : Jd g) {lp : Nat} {pps : List Nat} {Ps : List PeS} {pcp : Nat} {ix : Nat} {pmd : Int32} {a : Nat} {x : Nat} {pks : List Nat} {r : PeS} {lk : Nat} {Ks : List PkS} {kcap : Nat} {w0 : va_W} {w1 : va_W} (hw0 : PersL g lp pps Ps pcp x pks pmd w0) (hw1 : LoP g (PackP g) lk pks Ks kcap w1) (ha : pps[ix]? = some a) (hr : Ps[ix]? = some r) (hkb : ∀ i ∈ pPk r, i < Ks.length) : Ct g yX4_held (ws_ yX4_held cX4_held 6 (some (.object "java/util/BitSet"))) 6 76 210 [.ref a] [w0, w1] (fun (rv_ : Option Value) (rL_ : List va_W) => ∃ (b : Nat) (S : Nat → Bool) (cap : Nat) (u0 : va_W) (u2 : va_W), rv_ = some (.ref b) ∧ rL_ = [u0, w1, u2] ∧ PersL g lp pps Ps pcp x pks pmd u0 ∧ SetP g b S cap u2 ∧ (∀ x, S x = true ↔ helP Ks r x) ∧ (cap ≤ 30)) noX := by
  obtain ⟨u1_, wi_, u2_, hwi_, hcl_, he_⟩ := PersL.opn hw0 ha hr
  subst he_
  refine Ct.lift (ct_X4_held g J (a := a) (x := x) (pks := pks) (r := r) (lk := lk) (Ks := Ks) (kcap := kcap) hwi_ hw1 hkb) [u1_, u2_] (perm_cnt fun ct h h0 => by simp only [List.flatten_cons, List.flatten_nil, List.flatten_append, h, h0]; omega) ?_
  rintro v L ⟨b, S, cap, z0_, z2_, e1, rfl, hz0_, hz2_, hS, hcap⟩
  exact ⟨[([u1_, z0_, u2_] : List va_W).flatten, w1, z2_], [], (perm_cnt fun ct h h0 => by simp only [List.flatten_cons, List.flatten_nil, List.flatten_append, h, h0]; omega), b, S, cap, ([u1_, z0_, u2_] : List va_W).flatten, z2_, e1, rfl, (by have z_ := hcl_ _ _ hz0_; rw [set_same hr] at z_; exact z_), hz2_, hS, hcap⟩
