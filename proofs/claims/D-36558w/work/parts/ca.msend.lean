set_option maxRecDepth 100000
theorem BgM.getS {α : Type} {E : Nat → α → va_W → Prop} {F : Nat → Option α} {f : Nat → Option Nat} {W : va_W} (h : Sub (BgM E f F) W) (ho : ∀ k, 16 ≤ k → f k = none ∧ F k = none) {k : Nat} {r : α} (hF : F k = some r) : ∃ a, f k = some a ∧ Sub (E a r) W := by
  cases e : f k with
  | none => exact absurd (BgM.noS h ho e) (by rw [hF]; simp)
  | some a =>
    obtain ⟨r2, h1, h2⟩ := BgM.atS h ho e
    rw [hF] at h1; cases h1
    exact ⟨a, rfl, h2⟩
theorem BgM.opnF {α : Type} {E : Nat → α → va_W → Prop} {F : Nat → Option α} {f : Nat → Option Nat} {w : va_W} (h : BgM E f F w) (ho : ∀ k, 16 ≤ k → f k = none ∧ F k = none) {k : Nat} {r : α} (hF : F k = some r) : ∃ (a : Nat) (u1 wi u2 : va_W), f k = some a ∧ E a r wi ∧ (∀ (r2 : α) (wj : va_W), E a r2 wj → BgM E f (fup F k (some r2)) ([u1, wj, u2] : List va_W).flatten) ∧ w = ([u1, wi, u2] : List va_W).flatten := by
  cases e : f k with
  | none => exact absurd ((MoE.iffB h (fun k hk => ho k (by omega)) k).mp e) (by rw [hF]; simp)
  | some a =>
    obtain ⟨r2, u1, wi, u2, h1, h2, h3, -, h5⟩ := BgM.opn h (fun k hk => ho k (by omega)) e
    rw [hF] at h1; cases h1
    exact ⟨a, u1, wi, u2, rfl, h2, h3, h5⟩
theorem Big.era {n : Nat} {P : Nat → va_W → Prop} {w : va_W} (h : Big (n + 1) P w) {i : Nat} (hi : i < n + 1) : ∃ v R : va_W, w.Perm (v ++ R) ∧ ∀ Q : Nat → va_W → Prop, (∀ j, j < n → ∀ u, P (if j < i then j else j + 1) u → Q j u) → Big n Q v := by
  obtain ⟨wk, h1, rfl⟩ := h
  obtain ⟨k, e⟩ : ∃ k, n = i + k := ⟨n - i, by omega⟩
  subst e
  refine ⟨((List.range (i + k)).map (fun j => wk (if j < i then j else j + 1))).flatten, wk i, ?_, fun Q hQ => ⟨_, fun j hj => hQ j hj _ (h1 _ (by split <;> omega)), rfl⟩⟩
  rw [big_rg (show i + k + 1 = i + 1 + k by omega), List.range_add, List.map_append, List.flatten_append]
  have e1 : (List.range i).map (fun j => wk (if j < i then j else j + 1)) = (List.range i).map wk := List.map_congr_left fun j hj => by rw [if_pos (List.mem_range.mp hj)]
  have e2 : ((List.range k).map (fun x => i + x)).map (fun j => wk (if j < i then j else j + 1)) = (List.range k).map (fun x => wk (i + 1 + x)) := by
    rw [List.map_map]
    refine List.map_congr_left fun x _ => ?_
    show wk (if i + x < i then i + x else i + x + 1) = _
    rw [if_neg (by omega), show i + x + 1 = i + 1 + x by omega]
  rw [e1, e2]
  simp only [List.flatten_cons, List.flatten_nil, List.append_nil, List.append_assoc]
  exact List.Perm.append_left _ List.perm_append_comm
theorem BigL.era {α : Type} {F : Nat → α → va_W → Prop} {ps : List Nat} {rs : List α} {w : va_W} (h : BigL F ps rs w) {i : Nat} (hi : i < ps.length) : ∃ v R : va_W, w.Perm (v ++ R) ∧ BigL F (ps.eraseIdx i) (rs.eraseIdx i) v := by
  obtain ⟨hl, hb⟩ := h
  obtain ⟨n, hn⟩ : ∃ n, ps.length = n + 1 := ⟨ps.length - 1, by omega⟩
  rw [hn] at hb
  obtain ⟨v, R, hp, hQ⟩ := hb.era (i := i) (by omega)
  have hn2 : (ps.eraseIdx i).length = n := by rw [List.length_eraseIdx_of_lt hi]; omega
  refine ⟨v, R, hp, by rw [hn2, List.length_eraseIdx_of_lt (by omega)]; omega, ?_⟩
  rw [hn2]
  refine hQ _ fun j hj u hu a r ha hr => ?_
  rw [List.getElem?_eraseIdx] at ha hr
  by_cases z : j < i
  · rw [if_pos z] at ha hr hu; exact hu a r ha hr
  · rw [if_neg z] at ha hr hu; exact hu a r ha hr
theorem map_era {α β : Type} (f : α → β) : ∀ (l : List α) (i : Nat), (l.eraseIdx i).map f = (l.map f).eraseIdx i := fun l i => by
  refine List.ext_getElem? fun j => ?_
  rw [List.getElem?_map, List.getElem?_eraseIdx, List.getElem?_eraseIdx]
  split
  · rw [List.getElem?_map]
  · rw [List.getElem?_map]
theorem ct_J2_remove_I (g : Gv) (J : Jd g) {p : Nat} {rs : List Nat} {cap : Nat} {i : Nat} {v : Nat} {w0 : va_W} (hw0 : LhP g (BxE g) p rs cap w0) (hi : rs[i]? = some v) : Ct g yJ2_remove (ws_ yJ2_remove cJ2_remove 4 (some (.object "java/lang/Object"))) 3 0 0 [.ref p, .int (nI i)] [w0] (fun (rv_ : Option Value) (rL_ : List va_W) => ∃ (x : Nat) (u0 : va_W), rv_ = some (.ref x) ∧ rL_ = [u0] ∧ LhP g (BxE g) p (rs.eraseIdx i) cap u0) noX := by
  obtain ⟨ps, md, w1, w2, h1, h2, rfl⟩ := hw0
  have hps : i < ps.length := by rw [h2.1]; exact get_lt2 hi
  obtain ⟨x, hx⟩ := get_ex (xs := ps) (i := i) hps
  obtain ⟨v2, R, hp, h3⟩ := h2.era hps
  refine Ct.cq (ct_J2_remove g J h1 hx (h2.elt fun _ _ _ z => BoxP.vd z)) (List.Perm.of_eq (by simp)) ?_ noX_cq
  rintro v' R' ⟨md2, u0, rfl, rfl, hu⟩
  refine ⟨[([u0, v2] : List va_W).flatten], R, ?_, x, _, rfl, rfl, ps.eraseIdx i, md2, u0, v2, hu, h3, rfl⟩
  simp only [List.flatten_cons, List.flatten_nil, List.append_nil, List.append_assoc]
  exact List.Perm.append_left _ hp
theorem ct_X3_send_x (g : Gv) (J : Jd g) {m : Nat} {D : MdS} {v : Int32} {w0 : va_W} (hw0 : KdP g m D w0) (hD : MdB D) (hx : ¬ (∃ (i : Nat) (r : MpS), v = nI i ∧ (dPs D)[i]? = some r ∧ ¬ mEp r = none ∧ (dMs D).length < 40)) : Ct g yX3_send (ws_ yX3_send cX3_send 6 (some .int)) 10 10 60 [.ref m, .int v] [w0] (fun (rv_ : Option Value) (rL_ : List va_W) => ∃ (k : Nat) (x : Int32) (u0 : va_W), rv_ = some (.int x) ∧ rL_ = [u0] ∧ KdP g m (dT D k) u0 ∧ ((k = 1 ∧ ¬ inR v (dPs D).length = true) ∨ ∃ (i : Nat) (r : MpS), v = nI i ∧ (dPs D)[i]? = some r ∧ ((k = 2 ∧ mEp r = none) ∨ (k = 3 ∧ ¬ mEp r = none ∧ (dMs D).length = 40)))) noX := by
  refine Ct.of "KeygroveModel" [some (.ref m), some (.int v), none, none, none, none] rfl (by decide) rfl (Nat.le_of_ble_eq_true rfl) rfl ?_
  intro κ B E tb
  have hD0 := hD
  obtain ⟨hd1, hd2, hd3, hd4, hd5, hd6, hd7, hd8, hd9⟩ := hD0
  obtain ⟨ls, lb, lk, lp, lr, le, lm, lo, kcap, pcap, rcap, ecap, mcap, mks, mps, v0, v1, v2, v3, v4, v5, v6, v7, hcap, hv0, hv1, hv2, hv3, hv4, hv5, hv6, hv7, rfl⟩ := hw0
  refine g_open 0 rfl rfl rfl ?_
  refine (show Go g κ 0 [some (.ref m), some (.int v), none, none, none, none] [] [[(m, .inr (12, [.ref ls, .ref lb, .ref lk, .ref lp, .ref lr, .ref le, .ref lm, .ref lo, .int (nI (dTh D)), .int (dZz D), .int (nI (dBn D)), .int (nI (dCm D))]))], v0, v1, v2, v3, v4, v5, v6, v7] 10 60 from ?_)
  obtain ⟨kc1, kc2, kc3, kc4, kc5⟩ := (show capM kcap pcap rcap ecap mcap from hcap)
  refine g_aload_n (q := 1) B dX3_send_0 rfl rfl (rv_r _) ?_
  refine g_aload_n (q := 2) B dX3_send_1 rfl rfl (rv_r _) ?_
  refine g_iload_n (q := 3) B dX3_send_2 rfl rfl ?_
  refine g_callV (q := 6) (is := [0, 3]) (kc2 := 10) (ks2 := 60) B [.int v] (ct_X3_isPerson g J (m := m) (ls := ls) (lb := lb) (lk := lk) (lp := lp) (lr := lr) (le := le) (lm := lm) (lo := lo) (th := dTh D) (z := dZz D) (bo := dBn D) (cm := dCm D) (mps := mps) (Ps := (dPs D)) (pcap := pcap) (v := v) hv3 (by omega)) dX3_send_3 rfl (rc_at B (ci := 12) rfl (k := 0) rfl) rfl q3153 q3155 qs51 q85 q3156 rfl rfl moX3_isPerson rfl rfl (by decide) (by decide) (Nat.le_of_ble_eq_true rfl) (Nat.le_of_ble_eq_true rfl) (Nat.le_of_ble_eq_true rfl) (fun _ _ hx => noX_x hx) (fun v3 L1 hp3 => ?_)
  obtain ⟨rfl, rfl⟩ := hp3
  refine (show Go g κ 6 [some (.ref m), some (.int v), none, none, none, none] [.int (nI (if inR v (dPs D).length = true then 1 else 0)), .ref m] [v0, v1, v2, v4, v5, v6, v7, [(m, .inr (12, [.ref ls, .ref lb, .ref lk, .ref lp, .ref lr, .ref le, .ref lm, .ref lo, .int (nI (dTh D)), .int (dZz D), .int (nI (dBn D)), .int (nI (dCm D))]))], v3] 10 60 from ?_)
  refine g_if_ne (tgt := 13) (q := 9) B dX3_send_6 rfl (by decide) (bo_ne) (fun c6 => ?_) (fun c6 => ?_)
  · skip
    obtain ⟨i, hii, rfl⟩ := inR_t c6
    obtain ⟨r, hr⟩ := get_ex (xs := dPs D) (i := i) hii
    refine (show Go g κ 13 [some (.ref m), some (.int (nI i)), none, none, none, none] [.ref m] [v0, v1, v2, v4, v5, v6, v7, [(m, .inr (12, [.ref ls, .ref lb, .ref lk, .ref lp, .ref lr, .ref le, .ref lm, .ref lo, .int (nI (dTh D)), .int (dZz D), .int (nI (dBn D)), .int (nI (dCm D))]))], v3] 10 60 from ?_)
    refine g_aload_n (q := 14) B dX3_send_13 rfl rfl (rv_r _) ?_
    refine g_get (q := 17) B (ci := 12) (k := 7) (j := 3) in_X3 rfl dX3_send_14 rfl rfl (Nat.le_of_ble_eq_true rfl) q3060 rfl rfl ?_
    refine g_iload_n (q := 18) B dX3_send_17 rfl rfl ?_
    obtain ⟨md_1, hli_1, hln_1, hel_1⟩ := LoP.at (Sub.self hv3)
    obtain ⟨x18, hx18⟩ := get_ex (xs := mps) (i := i) (by have := get_lt2 (show (dPs D)[i]? = some r from hr); have := hln_1.1; omega)
    have hE_2 := hel_1 _ _ _ hx18 (show (dPs D)[i]? = some r from hr)
    refine g_callV (q := 21) (is := [8]) (kc2 := 10) (ks2 := 60) B [.int (nI i)] (ct_J2_get_s g J (p := lp) (xs := mps) (md := md_1) (cap := pcap) (i := i) (x := x18) (W0 := v3)  (hli_1) (hx18)) dX3_send_18 rfl (rc_in B (ci := 21) rfl (k := 8) rfl (LoP.hm hv3)) rfl q3231 q1095 q3667 q81 q1097 rfl rfl moJ2_get rfl rfl (by decide) (by decide) (Nat.le_of_ble_eq_true rfl) (Nat.le_of_ble_eq_true rfl) (Nat.le_of_ble_eq_true rfl) (fun _ _ hx => noX_x hx) (fun v18 L1 hp18 => ?_)
    obtain ⟨rfl, rfl⟩ := hp18
    refine (show Go g κ 21 [some (.ref m), some (.int (nI i)), none, none, none, none] [.ref x18, .ref m] [v0, v1, v2, v4, v5, v6, v7, [(m, .inr (12, [.ref ls, .ref lb, .ref lk, .ref lp, .ref lr, .ref le, .ref lm, .ref lo, .int (nI (dTh D)), .int (dZz D), .int (nI (dBn D)), .int (nI (dCm D))]))], v3] 10 60 from ?_)
    refine g_castRS (ci := 13) (q := 24) B rfl (rc_in B (ci := 13) rfl (k := 8) rfl (Sub.hm (hE_2) fun _ z => MpP.hm z)) dX3_send_21 rfl q3107 ?_
    obtain ⟨nd_3, ch_3, ev_3, cv_3, fn_3, fc_3, hM_3, hfn_3, hoc_3, hcv_3, hc_3_0, hc_3_1, hc_3_2, hs_3_0, hs_3_1⟩ := MpP.at (hE_2)
    refine g_getNM (q := 27) B (ci := 13) (k := 8) (j := 0) in_X5 rfl dX3_send_24 rfl rfl (hc_3_0) (Nat.le_of_ble_eq_true rfl) q3118 rfl rfl ?_
    refine g_iconst (v := -1) (q := 28) B dX3_send_27 rfl (by decide) ?_
    refine g_icmp_ne (tgt := 35) (q := 31) B dX3_send_28 rfl (by decide) (oI_nn ((fun n h => by have := hM_3.1 _ h; omega))) (fun c28 => ?_) (fun c28 => ?_)
    · skip
      obtain ⟨v28, ev28⟩ := Option.ne_none_iff_exists'.mp c28
      refine g_aload_n (q := 36) B dX3_send_35 rfl rfl (rv_r _) ?_
      refine g_get (q := 39) B (ci := 12) (k := 7) (j := 6) in_X3 rfl dX3_send_36 rfl rfl (Nat.le_of_ble_eq_true rfl) q3063 rfl rfl ?_
      obtain ⟨ps_4, md_4, hli_4, hln_4, hel_4⟩ := LhP.at (Sub.self hv6)
      refine g_callV (q := 42) (is := [5]) (kc2 := 10) (ks2 := 60) B [] (ct_J2_size_s g J (p := lm) (xs := ps_4) (md := md_4) (cap := mcap) (W0 := v6)  (hli_4)) dX3_send_39 rfl (rc_in B (ci := 21) rfl (k := 5) rfl (LhP.hm hv6)) rfl q3102 q321 q3665 q81 q323 rfl rfl moJ2_size rfl rfl (by decide) (by decide) (Nat.le_of_ble_eq_true rfl) (Nat.le_of_ble_eq_true rfl) (Nat.le_of_ble_eq_true rfl) (fun _ _ hx => noX_x hx) (fun v39 L1 hp39 => ?_)
      obtain ⟨rfl, rfl⟩ := hp39
      refine (show Go g κ 42 [some (.ref m), some (.int (nI i)), none, none, none, none] [.int (nI ps_4.length), .ref m] [v0, v1, v2, v4, v5, v7, [(m, .inr (12, [.ref ls, .ref lb, .ref lk, .ref lp, .ref lr, .ref le, .ref lm, .ref lo, .int (nI (dTh D)), .int (dZz D), .int (nI (dBn D)), .int (nI (dCm D))]))], v3, v6] 10 60 from ?_)
      rw [hln_4.1]
      refine (show Go g κ 42 [some (.ref m), some (.int (nI i)), none, none, none, none] [.int (nI ((dMs D).length)), .ref m] [v0, v1, v2, v4, v5, v7, [(m, .inr (12, [.ref ls, .ref lb, .ref lk, .ref lp, .ref lr, .ref le, .ref lm, .ref lo, .int (nI (dTh D)), .int (dZz D), .int (nI (dBn D)), .int (nI (dCm D))]))], v3, v6] 10 60 from ?_)
      refine g_bipush (v := nI 40) (q := 44) B dX3_send_42 rfl (by decide) ?_
      refine g_icmp_ne (tgt := 51) (q := 47) B dX3_send_44 rfl (by decide) (not_congr (nI_eq (by omega) (by omega))) (fun c44 => ?_) (fun c44 => ?_)
      · skip
        refine g_iconst (v := nI 0) (q := 52) B dX3_send_51 rfl (by decide) ?_
        refine g_callV (q := 55) (is := [6]) (kc2 := 10) (ks2 := 60) B [.int (nI 0)] (ct_X3_isWrong g J (m := m) (ls := ls) (lb := lb) (lk := lk) (lp := lp) (lr := lr) (le := le) (lm := lm) (lo := lo) (th := (dTh D)) (z := (dZz D)) (bo := (dBn D)) (cm := (dCm D)) (k := 0)  (by decide)) dX3_send_52 rfl (rc_at B (ci := 12) rfl (k := 6) rfl) rfl q3103 q3105 qs49 q85 q3106 rfl rfl moX3_isWrong rfl rfl (by decide) (by decide) (Nat.le_of_ble_eq_true rfl) (Nat.le_of_ble_eq_true rfl) (Nat.le_of_ble_eq_true rfl) (fun _ _ hx => noX_x hx) (fun v52 L1 hp52 => ?_)
        obtain ⟨rfl, rfl⟩ := hp52
        refine (show Go g κ 55 [some (.ref m), some (.int (nI i)), none, none, none, none] [.int (nI (if ¬ 0 = 0 then 1 else 0))] [v0, v1, v2, v4, v5, v7, v3, v6, [(m, .inr (12, [.ref ls, .ref lb, .ref lk, .ref lp, .ref lr, .ref le, .ref lm, .ref lo, .int (nI 0), .int (dZz D), .int (nI (dBn D)), .int (nI (dCm D))]))]] 10 60 from ?_)
        refine g_if_eq (tgt := 60) (q := 58) B dX3_send_55 rfl (by decide) (iff_true_intro (by decide)) (fun _ => ?_) (fun z => absurd trivial z)
        exact absurd ⟨i, r, rfl, hr, (by rw [ev28]; simp), by omega⟩ hx
      · skip
        refine g_iconst (v := nI 3) (q := 48) B dX3_send_47 rfl (by decide) ?_
        refine g_goto (tgt := 52) B dX3_send_48 (by decide) ?_
        refine g_callV (q := 55) (is := [6]) (kc2 := 10) (ks2 := 60) B [.int (nI 3)] (ct_X3_isWrong g J (m := m) (ls := ls) (lb := lb) (lk := lk) (lp := lp) (lr := lr) (le := le) (lm := lm) (lo := lo) (th := (dTh D)) (z := (dZz D)) (bo := (dBn D)) (cm := (dCm D)) (k := 3)  (by decide)) dX3_send_52 rfl (rc_at B (ci := 12) rfl (k := 6) rfl) rfl q3103 q3105 qs49 q85 q3106 rfl rfl moX3_isWrong rfl rfl (by decide) (by decide) (Nat.le_of_ble_eq_true rfl) (Nat.le_of_ble_eq_true rfl) (Nat.le_of_ble_eq_true rfl) (fun _ _ hx => noX_x hx) (fun v52 L1 hp52 => ?_)
        obtain ⟨rfl, rfl⟩ := hp52
        refine (show Go g κ 55 [some (.ref m), some (.int (nI i)), none, none, none, none] [.int (nI (if ¬ 3 = 0 then 1 else 0))] [v0, v1, v2, v4, v5, v7, v3, v6, [(m, .inr (12, [.ref ls, .ref lb, .ref lk, .ref lp, .ref lr, .ref le, .ref lm, .ref lo, .int (nI 3), .int (dZz D), .int (nI (dBn D)), .int (nI (dCm D))]))]] 10 60 from ?_)
        refine g_if_eq (tgt := 60) (q := 58) B dX3_send_55 rfl (by decide) (iff_false_intro (by decide)) (fun z => z.elim) (fun _ => ?_)
        refine g_iconst (v := nI 0) (q := 59) B dX3_send_58 rfl (by decide) ?_
        obtain ⟨wc_5, ewc_5⟩ : ∃ w : va_W, w = ([[(m, .inr (12, [.ref ls, .ref lb, .ref lk, .ref lp, .ref lr, .ref le, .ref lm, .ref lo, .int (nI 3), .int (dZz D), .int (nI (dBn D)), .int (nI (dCm D))]))], v0, v1, v2, v3, v4, v5, v6, v7] : List va_W).flatten := ⟨_, rfl⟩
        have hwc_5 : KdP g m (dT D 3) wc_5 := by
          rw [ewc_5]
          exact ⟨ls, lb, lk, lp, lr, le, lm, lo, kcap, pcap, rcap, ecap, mcap, mks, mps, _, _, _, _, _, _, _, _, hcap, hv0, hv1, hv2, hv3, hv4, hv5, hv6, hv7, rfl⟩
        refine g_close (w := wc_5) [8, 0, 0, 0, 3, 0, 0, 1, 0] rfl ewc_5 rfl ?_
        refine (show Go g κ 59 [some (.ref m), some (.int (nI i)), none, none, none, none] [.int (nI 0)] [wc_5] 10 60 from ?_)
        exact g_iret B E dX3_send_59 (⟨3, nI 0, _, rfl, rfl, hwc_5, Or.inr ⟨i, r, rfl, hr, Or.inr ⟨rfl, (by rw [ev28]; simp), Classical.not_not.mp c44⟩⟩⟩)
    · skip
      have c28 := Classical.not_not.mp c28
      refine g_iconst (v := nI 2) (q := 32) B dX3_send_31 rfl (by decide) ?_
      refine g_goto (tgt := 52) B dX3_send_32 (by decide) ?_
      refine g_callV (q := 55) (is := [7]) (kc2 := 10) (ks2 := 60) B [.int (nI 2)] (ct_X3_isWrong g J (m := m) (ls := ls) (lb := lb) (lk := lk) (lp := lp) (lr := lr) (le := le) (lm := lm) (lo := lo) (th := (dTh D)) (z := (dZz D)) (bo := (dBn D)) (cm := (dCm D)) (k := 2)  (by decide)) dX3_send_52 rfl (rc_at B (ci := 12) rfl (k := 7) rfl) rfl q3103 q3105 qs49 q85 q3106 rfl rfl moX3_isWrong rfl rfl (by decide) (by decide) (Nat.le_of_ble_eq_true rfl) (Nat.le_of_ble_eq_true rfl) (Nat.le_of_ble_eq_true rfl) (fun _ _ hx => noX_x hx) (fun v52 L1 hp52 => ?_)
      obtain ⟨rfl, rfl⟩ := hp52
      refine (show Go g κ 55 [some (.ref m), some (.int (nI i)), none, none, none, none] [.int (nI (if ¬ 2 = 0 then 1 else 0))] [v0, v1, v2, v4, v5, v6, v7, v3, [(m, .inr (12, [.ref ls, .ref lb, .ref lk, .ref lp, .ref lr, .ref le, .ref lm, .ref lo, .int (nI 2), .int (dZz D), .int (nI (dBn D)), .int (nI (dCm D))]))]] 10 60 from ?_)
      refine g_if_eq (tgt := 60) (q := 58) B dX3_send_55 rfl (by decide) (iff_false_intro (by decide)) (fun z => z.elim) (fun _ => ?_)
      refine g_iconst (v := nI 0) (q := 59) B dX3_send_58 rfl (by decide) ?_
      obtain ⟨wc_6, ewc_6⟩ : ∃ w : va_W, w = ([[(m, .inr (12, [.ref ls, .ref lb, .ref lk, .ref lp, .ref lr, .ref le, .ref lm, .ref lo, .int (nI 2), .int (dZz D), .int (nI (dBn D)), .int (nI (dCm D))]))], v0, v1, v2, v3, v4, v5, v6, v7] : List va_W).flatten := ⟨_, rfl⟩
      have hwc_6 : KdP g m (dT D 2) wc_6 := by
        rw [ewc_6]
        exact ⟨ls, lb, lk, lp, lr, le, lm, lo, kcap, pcap, rcap, ecap, mcap, mks, mps, _, _, _, _, _, _, _, _, hcap, hv0, hv1, hv2, hv3, hv4, hv5, hv6, hv7, rfl⟩
      refine g_close (w := wc_6) [8, 0, 0, 0, 4, 0, 0, 0, 0] rfl ewc_6 rfl ?_
      refine (show Go g κ 59 [some (.ref m), some (.int (nI i)), none, none, none, none] [.int (nI 0)] [wc_6] 10 60 from ?_)
      exact g_iret B E dX3_send_59 (⟨2, nI 0, _, rfl, rfl, hwc_6, Or.inr ⟨i, r, rfl, hr, Or.inl ⟨rfl, c28⟩⟩⟩)
  · skip
    refine g_iconst (v := nI 1) (q := 10) B dX3_send_9 rfl (by decide) ?_
    refine g_goto (tgt := 52) B dX3_send_10 (by decide) ?_
    refine g_callV (q := 55) (is := [7]) (kc2 := 10) (ks2 := 60) B [.int (nI 1)] (ct_X3_isWrong g J (m := m) (ls := ls) (lb := lb) (lk := lk) (lp := lp) (lr := lr) (le := le) (lm := lm) (lo := lo) (th := (dTh D)) (z := (dZz D)) (bo := (dBn D)) (cm := (dCm D)) (k := 1)  (by decide)) dX3_send_52 rfl (rc_at B (ci := 12) rfl (k := 7) rfl) rfl q3103 q3105 qs49 q85 q3106 rfl rfl moX3_isWrong rfl rfl (by decide) (by decide) (Nat.le_of_ble_eq_true rfl) (Nat.le_of_ble_eq_true rfl) (Nat.le_of_ble_eq_true rfl) (fun _ _ hx => noX_x hx) (fun v52 L1 hp52 => ?_)
    obtain ⟨rfl, rfl⟩ := hp52
    refine (show Go g κ 55 [some (.ref m), some (.int v), none, none, none, none] [.int (nI (if ¬ 1 = 0 then 1 else 0))] [v0, v1, v2, v4, v5, v6, v7, v3, [(m, .inr (12, [.ref ls, .ref lb, .ref lk, .ref lp, .ref lr, .ref le, .ref lm, .ref lo, .int (nI 1), .int (dZz D), .int (nI (dBn D)), .int (nI (dCm D))]))]] 10 60 from ?_)
    refine g_if_eq (tgt := 60) (q := 58) B dX3_send_55 rfl (by decide) (iff_false_intro (by decide)) (fun z => z.elim) (fun _ => ?_)
    refine g_iconst (v := nI 0) (q := 59) B dX3_send_58 rfl (by decide) ?_
    obtain ⟨wc_7, ewc_7⟩ : ∃ w : va_W, w = ([[(m, .inr (12, [.ref ls, .ref lb, .ref lk, .ref lp, .ref lr, .ref le, .ref lm, .ref lo, .int (nI 1), .int (dZz D), .int (nI (dBn D)), .int (nI (dCm D))]))], v0, v1, v2, v3, v4, v5, v6, v7] : List va_W).flatten := ⟨_, rfl⟩
    have hwc_7 : KdP g m (dT D 1) wc_7 := by
      rw [ewc_7]
      exact ⟨ls, lb, lk, lp, lr, le, lm, lo, kcap, pcap, rcap, ecap, mcap, mks, mps, _, _, _, _, _, _, _, _, hcap, hv0, hv1, hv2, hv3, hv4, hv5, hv6, hv7, rfl⟩
    refine g_close (w := wc_7) [8, 0, 0, 0, 4, 0, 0, 0, 0] rfl ewc_7 rfl ?_
    refine (show Go g κ 59 [some (.ref m), some (.int v), none, none, none, none] [.int (nI 0)] [wc_7] 10 60 from ?_)
    exact g_iret B E dX3_send_59 (⟨1, nI 0, _, rfl, rfl, hwc_7, Or.inl ⟨rfl, c6⟩⟩)
theorem nwX22 : ∀ j, j < 5 → defaultValue (tyX22 j) = vp_V [.int (nI 0), .int (nI 0), .int (nI 0), .int (nI 0), .int (nI 0)] j := by
  intro j hj
  match j, hj with
  | 0, _ => rfl
  | 1, _ => rfl
  | 2, _ => rfl
  | 3, _ => rfl
  | 4, _ => rfl
  | n + 5, hj => exact absurd hj (by omega)
theorem moX22_init : Mo yX22_init 5 := by
  refine ⟨by decide, by decide, by decide +kernel⟩
set_option maxHeartbeats 16000000 in
theorem ct_X3_send_y (g : Gv) (J : Jd g) {m : Nat} {D : MdS} {i : Nat} {r : MpS} {e : Nat} {c : McS} {q1 : List Sec} {k1 : Nat} {q2 : List Sec} {k2 : Nat} {w0 : va_W} (hw0 : KdP g m D w0) (hD : MdB D) (hr : (dPs D)[i]? = some r) (he : mEp r = some e) (hm40 : (dMs D).length < 40) (hc : mCh r (mLf r) = some c) (hcs : c.1 < (dSs D).length) (hcp : c.2.1 < 99) (hq1 : frm (dSs D) (c.1, none, 7) = (q1, k1)) (hq2 : frm (q1 ++ [drw (dZz D)]) (c.1, none, 8) = (q2, k2)) (hql : q2.length ≤ 980) (hN : NtB (dKs D) (dEs D) ((dPs D).set i ((mEp r, mLf r, mLs r, mRn r, mNd r, fup (mCh r) (mLf r) (some ((k2, c.2.1 + 1, c.2.2) : McS)), mEv r) : MpS)) q2.length ((dMs D).length + 1)) : Ct g yX3_send (ws_ yX3_send cX3_send 6 (some .int)) 10 (40 + 10070 + 640 * ((dMs D).length + 1)) (20000 + 130200 + 1600 * ((dMs D).length + 1)) [.ref m, .int (nI i)] [w0] (fun (rv_ : Option Value) (rL_ : List va_W) => ∃ (Qs : List MpS) (u0 : va_W), rv_ = some (.int (nI ((dMs D).length))) ∧ rL_ = [u0] ∧ KdP g m ((q2, dBx D ++ [(k1, q1.length)], dKs D, Qs, dRs D, dEs D, dMs D ++ [((e, mLf r, c.2.1, k1, q1.length) : MmS)], dSo D, 0, lcg (dZz D), dBn D, dCm D) : MdS) u0 ∧ (NtR (dKs D) (dEs D) ((dPs D).set i ((mEp r, mLf r, mLs r, mRn r, mNd r, fup (mCh r) (mLf r) (some ((k2, c.2.1 + 1, c.2.2) : McS)), mEv r) : MpS)) Qs ((dPs D).set i ((mEp r, mLf r, mLs r, mRn r, mNd r, fup (mCh r) (mLf r) (some ((k2, c.2.1 + 1, c.2.2) : McS)), mEv r) : MpS)).length)) noX := by
  refine Ct.of "KeygroveModel" [some (.ref m), some (.int (nI i)), none, none, none, none] rfl (by decide) rfl (Nat.le_of_ble_eq_true rfl) rfl ?_
  intro κ B E tb
  have hD0 := hD
  obtain ⟨hd1, hd2, hd3, hd4, hd5, hd6, hd7, hd8, hd9⟩ := hD0
  obtain ⟨ls, lb, lk, lp, lr, le, lm, lo, kcap, pcap, rcap, ecap, mcap, mks, mps, v0, v1, v2, v3, v4, v5, v6, v7, hcap, hv0, hv1, hv2, hv3, hv4, hv5, hv6, hv7, rfl⟩ := hw0
  refine g_open 0 rfl rfl rfl ?_
  refine (show Go g κ 0 [some (.ref m), some (.int (nI i)), none, none, none, none] [] [[(m, .inr (12, [.ref ls, .ref lb, .ref lk, .ref lp, .ref lr, .ref le, .ref lm, .ref lo, .int (nI (dTh D)), .int (dZz D), .int (nI (dBn D)), .int (nI (dCm D))]))], v0, v1, v2, v3, v4, v5, v6, v7] (40 + 10070 + 640 * ((dMs D).length + 1)) (20000 + 130200 + 1600 * ((dMs D).length + 1)) from ?_)
  obtain ⟨kc1, kc2, kc3, kc4, kc5⟩ := (show capM kcap pcap rcap ecap mcap from hcap)
  refine g_aload_n (q := 1) B dX3_send_0 rfl rfl (rv_r _) ?_
  refine g_aload_n (q := 2) B dX3_send_1 rfl rfl (rv_r _) ?_
  refine g_iload_n (q := 3) B dX3_send_2 rfl rfl ?_
  refine g_callV (q := 6) (is := [0, 3]) (kc2 := 40 + 10070 + 640 * ((dMs D).length + 1)) (ks2 := 20000 + 130200 + 1600 * ((dMs D).length + 1)) B [.int (nI i)] (ct_X3_isPerson g J (m := m) (ls := ls) (lb := lb) (lk := lk) (lp := lp) (lr := lr) (le := le) (lm := lm) (lo := lo) (th := dTh D) (z := dZz D) (bo := dBn D) (cm := dCm D) (mps := mps) (Ps := (dPs D)) (pcap := pcap) (v := nI i) hv3 (by omega)) dX3_send_3 rfl (rc_at B (ci := 12) rfl (k := 0) rfl) rfl q3153 q3155 qs51 q85 q3156 rfl rfl moX3_isPerson rfl rfl (by decide) (by decide) (Nat.le_of_ble_eq_true rfl) (by omega) (by omega) (fun _ _ hx => noX_x hx) (fun v3 L1 hp3 => ?_)
  obtain ⟨rfl, rfl⟩ := hp3
  refine (show Go g κ 6 [some (.ref m), some (.int (nI i)), none, none, none, none] [.int (nI (if inR (nI i) (dPs D).length = true then 1 else 0)), .ref m] [v0, v1, v2, v4, v5, v6, v7, [(m, .inr (12, [.ref ls, .ref lb, .ref lk, .ref lp, .ref lr, .ref le, .ref lm, .ref lo, .int (nI (dTh D)), .int (dZz D), .int (nI (dBn D)), .int (nI (dCm D))]))], v3] (40 + 10070 + 640 * ((dMs D).length + 1)) (20000 + 130200 + 1600 * ((dMs D).length + 1)) from ?_)
  refine g_if_ne (tgt := 13) (q := 9) B dX3_send_6 rfl (by decide) (iff_true_intro (bo_ne.mpr (by rw [inR_k (by have := get_lt2 hr; omega)]; simpa using (get_lt2 hr)))) (fun _ => ?_) (fun z => absurd trivial z)
  have hi := get_lt2 hr
  refine g_aload_n (q := 14) B dX3_send_13 rfl rfl (rv_r _) ?_
  refine g_get (q := 17) B (ci := 12) (k := 7) (j := 3) in_X3 rfl dX3_send_14 rfl rfl (Nat.le_of_ble_eq_true rfl) q3060 rfl rfl ?_
  refine g_iload_n (q := 18) B dX3_send_17 rfl rfl ?_
  obtain ⟨md_1, hli_1, hln_1, hel_1⟩ := LoP.at (Sub.self hv3)
  obtain ⟨x18, hx18⟩ := get_ex (xs := mps) (i := i) (by have := get_lt2 (show (dPs D)[i]? = some r from hr); have := hln_1.1; omega)
  have hE_2 := hel_1 _ _ _ hx18 (show (dPs D)[i]? = some r from hr)
  refine g_callV (q := 21) (is := [8]) (kc2 := 40 + 10070 + 640 * ((dMs D).length + 1)) (ks2 := 20000 + 130200 + 1600 * ((dMs D).length + 1)) B [.int (nI i)] (ct_J2_get_s g J (p := lp) (xs := mps) (md := md_1) (cap := pcap) (i := i) (x := x18) (W0 := v3)  (hli_1) (hx18)) dX3_send_18 rfl (rc_in B (ci := 21) rfl (k := 8) rfl (LoP.hm hv3)) rfl q3231 q1095 q3667 q81 q1097 rfl rfl moJ2_get rfl rfl (by decide) (by decide) (Nat.le_of_ble_eq_true rfl) (by omega) (by omega) (fun _ _ hx => noX_x hx) (fun v18 L1 hp18 => ?_)
  obtain ⟨rfl, rfl⟩ := hp18
  refine (show Go g κ 21 [some (.ref m), some (.int (nI i)), none, none, none, none] [.ref x18, .ref m] [v0, v1, v2, v4, v5, v6, v7, [(m, .inr (12, [.ref ls, .ref lb, .ref lk, .ref lp, .ref lr, .ref le, .ref lm, .ref lo, .int (nI (dTh D)), .int (dZz D), .int (nI (dBn D)), .int (nI (dCm D))]))], v3] (40 + 10070 + 640 * ((dMs D).length + 1)) (20000 + 130200 + 1600 * ((dMs D).length + 1)) from ?_)
  refine g_castRS (ci := 13) (q := 24) B rfl (rc_in B (ci := 13) rfl (k := 8) rfl (Sub.hm (hE_2) fun _ z => MpP.hm z)) dX3_send_21 rfl q3107 ?_
  obtain ⟨nd_3, ch_3, ev_3, cv_3, fn_3, fc_3, hM_3, hfn_3, hoc_3, hcv_3, hc_3_0, hc_3_1, hc_3_2, hs_3_0, hs_3_1⟩ := MpP.at (hE_2)
  refine g_getNM (q := 27) B (ci := 13) (k := 8) (j := 0) in_X5 rfl dX3_send_24 rfl rfl (hc_3_0) (Nat.le_of_ble_eq_true rfl) q3118 rfl rfl ?_
  refine g_stk (y := .int (nI e)) (by rw [he]; rfl) ?_
  have heb8 := (MpP.b2 (hE_2)).1 e he
  refine g_iconst (v := -1) (q := 28) B dX3_send_27 rfl (by decide) ?_
  refine g_icmp_ne (tgt := 35) (q := 31) B dX3_send_28 rfl (by decide) (iff_true_intro (nI_nm1 (by omega))) (fun _ => ?_) (fun z => absurd trivial z)
  refine g_aload_n (q := 36) B dX3_send_35 rfl rfl (rv_r _) ?_
  refine g_get (q := 39) B (ci := 12) (k := 7) (j := 6) in_X3 rfl dX3_send_36 rfl rfl (Nat.le_of_ble_eq_true rfl) q3063 rfl rfl ?_
  obtain ⟨ps_4, md_4, hli_4, hln_4, hel_4⟩ := LhP.at (Sub.self hv6)
  refine g_callV (q := 42) (is := [5]) (kc2 := 40 + 10070 + 640 * ((dMs D).length + 1)) (ks2 := 20000 + 130200 + 1600 * ((dMs D).length + 1)) B [] (ct_J2_size_s g J (p := lm) (xs := ps_4) (md := md_4) (cap := mcap) (W0 := v6)  (hli_4)) dX3_send_39 rfl (rc_in B (ci := 21) rfl (k := 5) rfl (LhP.hm hv6)) rfl q3102 q321 q3665 q81 q323 rfl rfl moJ2_size rfl rfl (by decide) (by decide) (Nat.le_of_ble_eq_true rfl) (by omega) (by omega) (fun _ _ hx => noX_x hx) (fun v39 L1 hp39 => ?_)
  obtain ⟨rfl, rfl⟩ := hp39
  refine (show Go g κ 42 [some (.ref m), some (.int (nI i)), none, none, none, none] [.int (nI ps_4.length), .ref m] [v0, v1, v2, v4, v5, v7, [(m, .inr (12, [.ref ls, .ref lb, .ref lk, .ref lp, .ref lr, .ref le, .ref lm, .ref lo, .int (nI (dTh D)), .int (dZz D), .int (nI (dBn D)), .int (nI (dCm D))]))], v3, v6] (40 + 10070 + 640 * ((dMs D).length + 1)) (20000 + 130200 + 1600 * ((dMs D).length + 1)) from ?_)
  rw [hln_4.1]
  refine (show Go g κ 42 [some (.ref m), some (.int (nI i)), none, none, none, none] [.int (nI ((dMs D).length)), .ref m] [v0, v1, v2, v4, v5, v7, [(m, .inr (12, [.ref ls, .ref lb, .ref lk, .ref lp, .ref lr, .ref le, .ref lm, .ref lo, .int (nI (dTh D)), .int (dZz D), .int (nI (dBn D)), .int (nI (dCm D))]))], v3, v6] (40 + 10070 + 640 * ((dMs D).length + 1)) (20000 + 130200 + 1600 * ((dMs D).length + 1)) from ?_)
  refine g_bipush (v := nI 40) (q := 44) B dX3_send_42 rfl (by decide) ?_
  refine g_icmp_ne (tgt := 51) (q := 47) B dX3_send_44 rfl (by decide) (iff_true_intro ((not_congr (nI_eq (by omega) (by omega))).mpr (by omega))) (fun _ => ?_) (fun z => absurd trivial z)
  refine g_iconst (v := nI 0) (q := 52) B dX3_send_51 rfl (by decide) ?_
  refine g_callV (q := 55) (is := [6]) (kc2 := 40 + 10070 + 640 * ((dMs D).length + 1)) (ks2 := 20000 + 130200 + 1600 * ((dMs D).length + 1)) B [.int (nI 0)] (ct_X3_isWrong g J (m := m) (ls := ls) (lb := lb) (lk := lk) (lp := lp) (lr := lr) (le := le) (lm := lm) (lo := lo) (th := (dTh D)) (z := (dZz D)) (bo := (dBn D)) (cm := (dCm D)) (k := 0)  (by decide)) dX3_send_52 rfl (rc_at B (ci := 12) rfl (k := 6) rfl) rfl q3103 q3105 qs49 q85 q3106 rfl rfl moX3_isWrong rfl rfl (by decide) (by decide) (Nat.le_of_ble_eq_true rfl) (by omega) (by omega) (fun _ _ hx => noX_x hx) (fun v52 L1 hp52 => ?_)
  obtain ⟨rfl, rfl⟩ := hp52
  refine (show Go g κ 55 [some (.ref m), some (.int (nI i)), none, none, none, none] [.int (nI (if ¬ 0 = 0 then 1 else 0))] [v0, v1, v2, v4, v5, v7, v3, v6, [(m, .inr (12, [.ref ls, .ref lb, .ref lk, .ref lp, .ref lr, .ref le, .ref lm, .ref lo, .int (nI 0), .int (dZz D), .int (nI (dBn D)), .int (nI (dCm D))]))]] (40 + 10070 + 640 * ((dMs D).length + 1)) (20000 + 130200 + 1600 * ((dMs D).length + 1)) from ?_)
  refine g_if_eq (tgt := 60) (q := 58) B dX3_send_55 rfl (by decide) (iff_true_intro (by decide)) (fun _ => ?_) (fun z => absurd trivial z)
  refine g_aload_n (q := 61) B dX3_send_60 rfl rfl (rv_r _) ?_
  refine g_get (q := 64) B (ci := 12) (k := 8) (j := 3) in_X3 rfl dX3_send_61 rfl rfl (Nat.le_of_ble_eq_true rfl) q3060 rfl rfl ?_
  refine g_iload_n (q := 65) B dX3_send_64 rfl rfl ?_
  have hE_5 := hel_1 _ _ _ hx18 (show (dPs D)[i]? = some r from hr)
  refine g_callV (q := 68) (is := [6]) (kc2 := 40 + 10070 + 640 * ((dMs D).length + 1)) (ks2 := 20000 + 130200 + 1600 * ((dMs D).length + 1)) B [.int (nI i)] (ct_J2_get_s g J (p := lp) (xs := mps) (md := md_1) (cap := pcap) (i := i) (x := x18) (W0 := v3)  (hli_1) (hx18)) dX3_send_65 rfl (rc_in B (ci := 21) rfl (k := 6) rfl (LoP.hm hv3)) rfl q3231 q1095 q3667 q81 q1097 rfl rfl moJ2_get rfl rfl (by decide) (by decide) (Nat.le_of_ble_eq_true rfl) (by omega) (by omega) (fun _ _ hx => noX_x hx) (fun v65 L1 hp65 => ?_)
  obtain ⟨rfl, rfl⟩ := hp65
  refine (show Go g κ 68 [some (.ref m), some (.int (nI i)), none, none, none, none] [.ref x18] [v0, v1, v2, v4, v5, v7, v6, [(m, .inr (12, [.ref ls, .ref lb, .ref lk, .ref lp, .ref lr, .ref le, .ref lm, .ref lo, .int (nI 0), .int (dZz D), .int (nI (dBn D)), .int (nI (dCm D))]))], v3] (40 + 10070 + 640 * ((dMs D).length + 1)) (20000 + 130200 + 1600 * ((dMs D).length + 1)) from ?_)
  refine g_castRS (ci := 13) (q := 71) B rfl (rc_in B (ci := 13) rfl (k := 8) rfl (Sub.hm (hE_5) fun _ z => MpP.hm z)) dX3_send_68 rfl q3107 ?_
  refine g_astore_n (q := 72) (lv2 := [some (.ref m), some (.int (nI i)), some (.ref x18), none, none, none]) B dX3_send_71 rfl (Nat.le_of_ble_eq_true rfl) (rv_r _) rfl ?_
  obtain ⟨lu1_o, lwi_o, lu2_o, hlwi_o, hlcl_o, hle_o⟩ := LoP.opn hv3 hx18 hr
  refine g_open 8 rfl hle_o rfl ?_
  refine (show Go g κ 72 [some (.ref m), some (.int (nI i)), some (.ref x18), none, none, none] [] [v0, v1, v2, v4, v5, v7, v6, [(m, .inr (12, [.ref ls, .ref lb, .ref lk, .ref lp, .ref lr, .ref le, .ref lm, .ref lo, .int (nI 0), .int (dZz D), .int (nI (dBn D)), .int (nI (dCm D))]))], lu1_o, lwi_o, lu2_o] (40 + 10070 + 640 * ((dMs D).length + 1)) (20000 + 130200 + 1600 * ((dMs D).length + 1)) from ?_)
  obtain ⟨nd_o, ch_o, ev_o, cv_o, fn_o, fc_o, v0_o, v1_o, hM_o, hfn_o, hoc_o, hcv_o, hv0_o, hv1_o, rfl⟩ := hlwi_o
  refine g_open 9 rfl rfl rfl ?_
  refine (show Go g κ 72 [some (.ref m), some (.int (nI i)), some (.ref x18), none, none, none] [] [v0, v1, v2, v4, v5, v7, v6, [(m, .inr (12, [.ref ls, .ref lb, .ref lk, .ref lp, .ref lr, .ref le, .ref lm, .ref lo, .int (nI 0), .int (dZz D), .int (nI (dBn D)), .int (nI (dCm D))]))], lu1_o, lu2_o, [(x18, .inr (13, [.int (oI (mEp r)), .int (nI (mLf r)), .int (nI (mLs r)), .int (oI (mRn r)), .ref nd_o, .ref ch_o, .ref ev_o]))], [(nd_o, .inl (g.2.1 0, 31, .inl fn_o))], [(ch_o, .inl (g.2.1 5, 16, .inr (.inr (.inr (.inr fc_o)))))], v0_o, v1_o] (40 + 10070 + 640 * ((dMs D).length + 1)) (20000 + 130200 + 1600 * ((dMs D).length + 1)) from ?_)
  have hlf9 := hM_o.2.1
  have heb9 := hM_o.1 e he
  have hg1 := Ph_fr hq1
  have hg2 := Ph_fr hq2
  have hqd : (q1 ++ [drw (dZz D)]).length = q1.length + 1 := by simp
  have hcf0 := capF_le (dSs D).length
  have hcf1 := capF_le q1.length
  have hcf2 := capF_le q2.length
  have hcf3 := capF_le (dBx D).length
  have hcf4 := capF_le ((dBx D).length + 1)
  have hcm1 := capF_m hg1.2.1
  have hcm2 := capF_m hg2.2.1
  have hcm3 := capF_mo q1.length
  have hcf5 := capF_le (q1.length + 1)
  have hcq : capF (q1 ++ [drw (dZz D)]).length = capF (q1.length + 1) := by rw [hqd]
  obtain ⟨ca, bu1, bwi, bu2, hca, hbwi, hbcl, hbe⟩ := BgM.opnF hv0_o hoc_o hc
  refine g_open 13 rfl hbe rfl ?_
  refine (show Go g κ 72 [some (.ref m), some (.int (nI i)), some (.ref x18), none, none, none] [] [v0, v1, v2, v4, v5, v7, v6, [(m, .inr (12, [.ref ls, .ref lb, .ref lk, .ref lp, .ref lr, .ref le, .ref lm, .ref lo, .int (nI 0), .int (dZz D), .int (nI (dBn D)), .int (nI (dCm D))]))], lu1_o, lu2_o, [(x18, .inr (13, [.int (oI (mEp r)), .int (nI (mLf r)), .int (nI (mLs r)), .int (oI (mRn r)), .ref nd_o, .ref ch_o, .ref ev_o]))], [(nd_o, .inl (g.2.1 0, 31, .inl fn_o))], [(ch_o, .inl (g.2.1 5, 16, .inr (.inr (.inr (.inr fc_o)))))], v1_o, bu1, bwi, bu2] (40 + 10070 + 640 * ((dMs D).length + 1)) (20000 + 130200 + 1600 * ((dMs D).length + 1)) from ?_)
  obtain ⟨pl_c, ky_c, cp_c, ck_c, v0_c, v1_c, hC_c, hcc_c, hv0_c, hv1_c, rfl⟩ := hbwi
  refine g_open 15 rfl rfl rfl ?_
  refine (show Go g κ 72 [some (.ref m), some (.int (nI i)), some (.ref x18), none, none, none] [] [v0, v1, v2, v4, v5, v7, v6, [(m, .inr (12, [.ref ls, .ref lb, .ref lk, .ref lp, .ref lr, .ref le, .ref lm, .ref lo, .int (nI 0), .int (dZz D), .int (nI (dBn D)), .int (nI (dCm D))]))], lu1_o, lu2_o, [(x18, .inr (13, [.int (oI (mEp r)), .int (nI (mLf r)), .int (nI (mLs r)), .int (oI (mRn r)), .ref nd_o, .ref ch_o, .ref ev_o]))], [(nd_o, .inl (g.2.1 0, 31, .inl fn_o))], [(ch_o, .inl (g.2.1 5, 16, .inr (.inr (.inr (.inr fc_o)))))], v1_o, bu1, bu2, [(ca, .inr (17, [.int (nI c.1), .int (nI c.2.1), .ref pl_c, .ref ky_c]))], v0_c, v1_c] (40 + 10070 + 640 * ((dMs D).length + 1)) (20000 + 130200 + 1600 * ((dMs D).length + 1)) from ?_)
  refine g_aload_n (q := 73) B dX3_send_72 rfl rfl (rv_r _) ?_
  refine g_getN (q := 76) B (ci := 13) (k := 10) (j := 5) in_X5 rfl dX3_send_73 rfl rfl (Nat.le_of_ble_eq_true rfl) q3126 rfl rfl ?_
  refine g_aload_n (q := 77) B dX3_send_76 rfl rfl (rv_r _) ?_
  refine g_getN (q := 80) B (ci := 13) (k := 10) (j := 1) in_X5 rfl dX3_send_77 rfl rfl (Nat.le_of_ble_eq_true rfl) q3119 rfl rfl ?_
  refine g_ald (r := some ca) (q := 81) B (k := 12) (t := 5) dX3_send_80 rfl rfl rfl (vp_in_nI (by omega) (by omega)) (by rw [nI_clamp (by omega)]; exact hca) ?_
  refine g_astore_n (q := 82) (lv2 := [some (.ref m), some (.int (nI i)), some (.ref x18), some (.ref ca), none, none]) B dX3_send_81 rfl (Nat.le_of_ble_eq_true rfl) (rv_r _) rfl ?_
  refine g_aload_n (q := 83) B dX3_send_82 rfl rfl (rv_r _) ?_
  refine g_aload_n (q := 84) B dX3_send_83 rfl rfl (rv_r _) ?_
  refine g_getN (q := 87) B (ci := 17) (k := 16) (j := 0) in_X14 rfl dX3_send_84 rfl rfl (Nat.le_of_ble_eq_true rfl) q3319 rfl rfl ?_
  refine g_iconst (v := -1) (q := 88) B dX3_send_87 rfl (by decide) ?_
  refine g_bipush (v := nI 7) (q := 90) B dX3_send_88 rfl (by decide) ?_
  refine g_callV (q := 93) (is := [7, 0]) (kc2 := 30 + 10070 + 640 * ((dMs D).length + 1)) (ks2 := 19000 - 4 * capF q1.length + 130200 + 1600 * ((dMs D).length + 1)) B [.int (nI c.1), .int (-1), .int (nI 7)] (ct_X3_of g J (m := m) (ls := ls) (lb := lb) (lk := lk) (lp := lp) (lr := lr) (le := le) (lm := lm) (lo := lo) (th := 0) (z := (dZz D)) (bo := (dBn D)) (cm := (dCm D)) (ss := (dSs D)) (o := c.1) (q := none) (l := 7) (s2 := q1) (i := k1) hv0 (by omega) (hcs) (fun n h => by cases h) (by decide) (hq1)) dX3_send_90 rfl (rc_at B (ci := 12) rfl (k := 7) rfl) rfl q3302 q3304 qs57 q85 q3305 rfl rfl moX3_of rfl rfl (by decide) (by decide) (Nat.le_of_ble_eq_true rfl) (by omega) (by omega) (fun _ _ hx => noX_x hx) (fun v90 L1 hp90 => ?_)
  obtain ⟨u1_90, rfl, rfl, hu1_90⟩ := hp90
  refine (show Go g κ 93 [some (.ref m), some (.int (nI i)), some (.ref x18), some (.ref ca), none, none] [.int (nI k1)] [v1, v2, v4, v5, v7, v6, lu1_o, lu2_o, [(x18, .inr (13, [.int (oI (mEp r)), .int (nI (mLf r)), .int (nI (mLs r)), .int (oI (mRn r)), .ref nd_o, .ref ch_o, .ref ev_o]))], [(nd_o, .inl (g.2.1 0, 31, .inl fn_o))], [(ch_o, .inl (g.2.1 5, 16, .inr (.inr (.inr (.inr fc_o)))))], v1_o, bu1, bu2, [(ca, .inr (17, [.int (nI c.1), .int (nI c.2.1), .ref pl_c, .ref ky_c]))], v0_c, v1_c, [(m, .inr (12, [.ref ls, .ref lb, .ref lk, .ref lp, .ref lr, .ref le, .ref lm, .ref lo, .int (nI 0), .int (dZz D), .int (nI (dBn D)), .int (nI (dCm D))]))], u1_90] (30 + 10070 + 640 * ((dMs D).length + 1)) (19000 - 4 * capF q1.length + 130200 + 1600 * ((dMs D).length + 1)) from ?_)
  refine g_istore (q := 95) (lv2 := [some (.ref m), some (.int (nI i)), some (.ref x18), some (.ref ca), some (.int (nI k1)), none]) B dX3_send_93 rfl (Nat.le_of_ble_eq_true rfl) rfl ?_
  refine g_aload_n (q := 96) B dX3_send_95 rfl rfl (rv_r _) ?_
  refine g_callV (q := 99) (is := [17, 17]) (kc2 := 26 + 10070 + 640 * ((dMs D).length + 1)) (ks2 := 18900 - 4 * capF (q1.length + 1) + 130200 + 1600 * ((dMs D).length + 1)) B [] (ct_X3_drawn g J (m := m) (ls := ls) (lb := lb) (lk := lk) (lp := lp) (lr := lr) (le := le) (lm := lm) (lo := lo) (th := 0) (z := (dZz D)) (bo := (dBn D)) (cm := (dCm D)) (ss := q1) hu1_90 (by omega)) dX3_send_96 rfl (rc_at B (ci := 12) rfl (k := 17) rfl) rfl q3160 q3162 qs52 q85 q3163 rfl rfl moX3_drawn rfl rfl (by decide) (by decide) (Nat.le_of_ble_eq_true rfl) (by omega) (by omega) (fun _ _ hx => noX_x hx) (fun v96 L1 hp96 => ?_)
  obtain ⟨u1_96, rfl, rfl, hu1_96⟩ := hp96
  refine (show Go g κ 99 [some (.ref m), some (.int (nI i)), some (.ref x18), some (.ref ca), some (.int (nI k1)), none] [.int (nI q1.length)] [v1, v2, v4, v5, v7, v6, lu1_o, lu2_o, [(x18, .inr (13, [.int (oI (mEp r)), .int (nI (mLf r)), .int (nI (mLs r)), .int (oI (mRn r)), .ref nd_o, .ref ch_o, .ref ev_o]))], [(nd_o, .inl (g.2.1 0, 31, .inl fn_o))], [(ch_o, .inl (g.2.1 5, 16, .inr (.inr (.inr (.inr fc_o)))))], v1_o, bu1, bu2, [(ca, .inr (17, [.int (nI c.1), .int (nI c.2.1), .ref pl_c, .ref ky_c]))], v0_c, v1_c, [(m, .inr (12, [.ref ls, .ref lb, .ref lk, .ref lp, .ref lr, .ref le, .ref lm, .ref lo, .int (nI 0), .int (lcg (dZz D)), .int (nI (dBn D)), .int (nI (dCm D))]))], u1_96] (26 + 10070 + 640 * ((dMs D).length + 1)) (18900 - 4 * capF (q1.length + 1) + 130200 + 1600 * ((dMs D).length + 1)) from ?_)
  refine g_istore (q := 101) (lv2 := [some (.ref m), some (.int (nI i)), some (.ref x18), some (.ref ca), some (.int (nI k1)), some (.int (nI q1.length))]) B dX3_send_99 rfl (Nat.le_of_ble_eq_true rfl) rfl ?_
  refine g_aload_n (q := 102) B dX3_send_101 rfl rfl (rv_r _) ?_
  refine g_get (q := 105) B (ci := 12) (k := 17) (j := 6) in_X3 rfl dX3_send_102 rfl rfl (Nat.le_of_ble_eq_true rfl) q3063 rfl rfl ?_
  refine g_new (q := 108) (kc2 := (26 + 10070 + 640 * ((dMs D).length + 1)) - 1) (ks2 := (18900 - 4 * capF (q1.length + 1) + 130200 + 1600 * ((dMs D).length + 1)) - 5) (fs := [.int (nI 0), .int (nI 0), .int (nI 0), .int (nI 0), .int (nI 0)]) B (ci := 20) in_X22 tyX22_ok rfl dX3_send_105 rfl q3562 q3563 q148 (nwX22) (by omega) (by omega) (fun n105 => ?_)
  refine (show Go g κ 108 [some (.ref m), some (.int (nI i)), some (.ref x18), some (.ref ca), some (.int (nI k1)), some (.int (nI q1.length))] [.ref n105, .ref lm] [v1, v2, v4, v5, v7, v6, lu1_o, lu2_o, [(x18, .inr (13, [.int (oI (mEp r)), .int (nI (mLf r)), .int (nI (mLs r)), .int (oI (mRn r)), .ref nd_o, .ref ch_o, .ref ev_o]))], [(nd_o, .inl (g.2.1 0, 31, .inl fn_o))], [(ch_o, .inl (g.2.1 5, 16, .inr (.inr (.inr (.inr fc_o)))))], v1_o, bu1, bu2, [(ca, .inr (17, [.int (nI c.1), .int (nI c.2.1), .ref pl_c, .ref ky_c]))], v0_c, v1_c, [(m, .inr (12, [.ref ls, .ref lb, .ref lk, .ref lp, .ref lr, .ref le, .ref lm, .ref lo, .int (nI 0), .int (lcg (dZz D)), .int (nI (dBn D)), .int (nI (dCm D))]))], u1_96, [(n105, .inr (20, [.int (nI 0), .int (nI 0), .int (nI 0), .int (nI 0), .int (nI 0)]))]] ((26 + 10070 + 640 * ((dMs D).length + 1)) - 1) ((18900 - 4 * capF (q1.length + 1) + 130200 + 1600 * ((dMs D).length + 1)) - 5) from ?_)
  refine g_dup (q := 109) B dX3_send_108 rfl rfl ?_
  refine g_aload_n (q := 110) B dX3_send_109 rfl rfl (rv_r _) ?_
  refine g_getN (q := 113) B (ci := 13) (k := 8) (j := 0) in_X5 rfl dX3_send_110 rfl rfl (Nat.le_of_ble_eq_true rfl) q3118 rfl rfl ?_
  refine g_stk (y := .int (nI e)) (by rw [he]; rfl) ?_
  refine g_aload_n (q := 114) B dX3_send_113 rfl rfl (rv_r _) ?_
  refine g_getN (q := 117) B (ci := 13) (k := 8) (j := 1) in_X5 rfl dX3_send_114 rfl rfl (Nat.le_of_ble_eq_true rfl) q3119 rfl rfl ?_
  refine g_aload_n (q := 118) B dX3_send_117 rfl rfl (rv_r _) ?_
  refine g_getN (q := 121) B (ci := 17) (k := 14) (j := 1) in_X14 rfl dX3_send_118 rfl rfl (Nat.le_of_ble_eq_true rfl) q3320 rfl rfl ?_
  refine g_iload (q := 123) B dX3_send_121 rfl rfl ?_
  refine g_iload (q := 125) B dX3_send_123 rfl rfl ?_
  refine g_callI (q := 128) (is := [19]) (kc2 := (26 + 10070 + 640 * ((dMs D).length + 1)) - 1) (ks2 := (18900 - 4 * capF (q1.length + 1) + 130200 + 1600 * ((dMs D).length + 1)) - 5) B [.int (nI e), .int (nI (mLf r)), .int (nI c.2.1), .int (nI k1), .int (nI q1.length)] (ct_X22_init g J (a := n105) (e := e) (l := mLf r) (p := c.2.1) (k := k1) (x := q1.length)  ) dX3_send_125 rfl rfl q3564 q3565 q148 q3566 rfl rfl moX22_init rfl rfl (by decide) (by decide) (Nat.le_of_ble_eq_true rfl) (by omega) (by omega) (fun _ _ hx => noX_x hx) (fun v125 L1 hp125 => ?_)
  obtain ⟨rfl, rfl⟩ := hp125
  refine (show Go g κ 128 [some (.ref m), some (.int (nI i)), some (.ref x18), some (.ref ca), some (.int (nI k1)), some (.int (nI q1.length))] [.ref n105, .ref lm] [v1, v2, v4, v5, v7, v6, lu1_o, lu2_o, [(x18, .inr (13, [.int (oI (mEp r)), .int (nI (mLf r)), .int (nI (mLs r)), .int (oI (mRn r)), .ref nd_o, .ref ch_o, .ref ev_o]))], [(nd_o, .inl (g.2.1 0, 31, .inl fn_o))], [(ch_o, .inl (g.2.1 5, 16, .inr (.inr (.inr (.inr fc_o)))))], v1_o, bu1, bu2, [(ca, .inr (17, [.int (nI c.1), .int (nI c.2.1), .ref pl_c, .ref ky_c]))], v0_c, v1_c, [(m, .inr (12, [.ref ls, .ref lb, .ref lk, .ref lp, .ref lr, .ref le, .ref lm, .ref lo, .int (nI 0), .int (lcg (dZz D)), .int (nI (dBn D)), .int (nI (dCm D))]))], u1_96, [(n105, .inr (20, [.int (nI e), .int (nI (mLf r)), .int (nI c.2.1), .int (nI k1), .int (nI q1.length)]))]] ((26 + 10070 + 640 * ((dMs D).length + 1)) - 1) ((18900 - 4 * capF (q1.length + 1) + 130200 + 1600 * ((dMs D).length + 1)) - 5) from ?_)
  obtain ⟨wc_6, ewc_6⟩ : ∃ w : va_W, w = ([[(n105, .inr (20, [.int (nI e), .int (nI (mLf r)), .int (nI c.2.1), .int (nI k1), .int (nI q1.length)]))]] : List va_W).flatten := ⟨_, rfl⟩
  have hwc_6 : MmP g n105 ((e, mLf r, c.2.1, k1, q1.length) : MmS) wc_6 := by
    rw [ewc_6]
    exact rfl
  refine g_close (w := wc_6) [19] rfl ewc_6 rfl ?_
  refine (show Go g κ 128 [some (.ref m), some (.int (nI i)), some (.ref x18), some (.ref ca), some (.int (nI k1)), some (.int (nI q1.length))] [.ref n105, .ref lm] [v1, v2, v4, v5, v7, v6, lu1_o, lu2_o, [(x18, .inr (13, [.int (oI (mEp r)), .int (nI (mLf r)), .int (nI (mLs r)), .int (oI (mRn r)), .ref nd_o, .ref ch_o, .ref ev_o]))], [(nd_o, .inl (g.2.1 0, 31, .inl fn_o))], [(ch_o, .inl (g.2.1 5, 16, .inr (.inr (.inr (.inr fc_o)))))], v1_o, bu1, bu2, [(ca, .inr (17, [.int (nI c.1), .int (nI c.2.1), .ref pl_c, .ref ky_c]))], v0_c, v1_c, [(m, .inr (12, [.ref ls, .ref lb, .ref lk, .ref lp, .ref lr, .ref le, .ref lm, .ref lo, .int (nI 0), .int (lcg (dZz D)), .int (nI (dBn D)), .int (nI (dCm D))]))], u1_96, wc_6] ((26 + 10070 + 640 * ((dMs D).length + 1)) - 1) ((18900 - 4 * capF (q1.length + 1) + 130200 + 1600 * ((dMs D).length + 1)) - 5) from ?_)
  refine g_callV (q := 131) (is := [5, 18]) (kc2 := (26 + 10070 + 640 * ((dMs D).length + 1)) - 2) (ks2 := (18900 - 4 * capF (q1.length + 1) + 130200 + 1600 * ((dMs D).length + 1)) - 65) B [.ref n105] (ct_add_MmL g J (p := lm) (rs := (dMs D)) (cap := mcap) (a := n105) (r := ((e, mLf r, c.2.1, k1, q1.length) : MmS)) (mc := 1) (ms := 60) hv6 hwc_6 (by omega) (fun h => grow_s (by omega) h)) dX3_send_128 rfl (rc_in B (ci := 21) rfl (k := 5) rfl (LhP.hm hv6)) rfl q3144 q711 q3666 q81 q713 rfl rfl moJ2_add rfl rfl (by decide) (by decide) (Nat.le_of_ble_eq_true rfl) (by omega) (by omega) (fun _ _ hx => noX_x hx) (fun v128 L1 hp128 => ?_)
  obtain ⟨u0_128, rfl, rfl, hu0_128⟩ := hp128
  refine (show Go g κ 131 [some (.ref m), some (.int (nI i)), some (.ref x18), some (.ref ca), some (.int (nI k1)), some (.int (nI q1.length))] [.int (nI 1)] [v1, v2, v4, v5, v7, lu1_o, lu2_o, [(x18, .inr (13, [.int (oI (mEp r)), .int (nI (mLf r)), .int (nI (mLs r)), .int (oI (mRn r)), .ref nd_o, .ref ch_o, .ref ev_o]))], [(nd_o, .inl (g.2.1 0, 31, .inl fn_o))], [(ch_o, .inl (g.2.1 5, 16, .inr (.inr (.inr (.inr fc_o)))))], v1_o, bu1, bu2, [(ca, .inr (17, [.int (nI c.1), .int (nI c.2.1), .ref pl_c, .ref ky_c]))], v0_c, v1_c, [(m, .inr (12, [.ref ls, .ref lb, .ref lk, .ref lp, .ref lr, .ref le, .ref lm, .ref lo, .int (nI 0), .int (lcg (dZz D)), .int (nI (dBn D)), .int (nI (dCm D))]))], u1_96, u0_128] ((26 + 10070 + 640 * ((dMs D).length + 1)) - 2) ((18900 - 4 * capF (q1.length + 1) + 130200 + 1600 * ((dMs D).length + 1)) - 65) from ?_)
  refine g_pop (q := 132) B dX3_send_131 rfl rfl ?_
  refine g_aload_n (q := 133) B dX3_send_132 rfl rfl (rv_r _) ?_
  refine g_get (q := 136) B (ci := 12) (k := 16) (j := 1) in_X3 rfl dX3_send_133 rfl rfl (Nat.le_of_ble_eq_true rfl) q3058 rfl rfl ?_
  refine g_new (q := 139) (kc2 := (26 + 10070 + 640 * ((dMs D).length + 1)) - 3) (ks2 := (18900 - 4 * capF (q1.length + 1) + 130200 + 1600 * ((dMs D).length + 1)) - 67) (fs := [.int (nI 0), .int (nI 0)]) B (ci := 19) in_X20 tyX20_ok rfl dX3_send_136 rfl q3476 q3477 q146 (nwX20) (by omega) (by omega) (fun n136 => ?_)
  refine (show Go g κ 139 [some (.ref m), some (.int (nI i)), some (.ref x18), some (.ref ca), some (.int (nI k1)), some (.int (nI q1.length))] [.ref n136, .ref lb] [v1, v2, v4, v5, v7, lu1_o, lu2_o, [(x18, .inr (13, [.int (oI (mEp r)), .int (nI (mLf r)), .int (nI (mLs r)), .int (oI (mRn r)), .ref nd_o, .ref ch_o, .ref ev_o]))], [(nd_o, .inl (g.2.1 0, 31, .inl fn_o))], [(ch_o, .inl (g.2.1 5, 16, .inr (.inr (.inr (.inr fc_o)))))], v1_o, bu1, bu2, [(ca, .inr (17, [.int (nI c.1), .int (nI c.2.1), .ref pl_c, .ref ky_c]))], v0_c, v1_c, [(m, .inr (12, [.ref ls, .ref lb, .ref lk, .ref lp, .ref lr, .ref le, .ref lm, .ref lo, .int (nI 0), .int (lcg (dZz D)), .int (nI (dBn D)), .int (nI (dCm D))]))], u1_96, u0_128, [(n136, .inr (19, [.int (nI 0), .int (nI 0)]))]] ((26 + 10070 + 640 * ((dMs D).length + 1)) - 3) ((18900 - 4 * capF (q1.length + 1) + 130200 + 1600 * ((dMs D).length + 1)) - 67) from ?_)
  refine g_dup (q := 140) B dX3_send_139 rfl rfl ?_
  refine g_iload (q := 142) B dX3_send_140 rfl rfl ?_
  refine g_iload (q := 144) B dX3_send_142 rfl rfl ?_
  refine g_callI (q := 147) (is := [19]) (kc2 := (26 + 10070 + 640 * ((dMs D).length + 1)) - 3) (ks2 := (18900 - 4 * capF (q1.length + 1) + 130200 + 1600 * ((dMs D).length + 1)) - 67) B [.int (nI k1), .int (nI q1.length)] (ct_X20_init g J (a := n136) (o := k1) (i := q1.length)  ) dX3_send_144 rfl rfl q3478 q3479 q146 q3480 rfl rfl moX20_init rfl rfl (by decide) (by decide) (Nat.le_of_ble_eq_true rfl) (by omega) (by omega) (fun _ _ hx => noX_x hx) (fun v144 L1 hp144 => ?_)
  obtain ⟨rfl, rfl⟩ := hp144
  refine (show Go g κ 147 [some (.ref m), some (.int (nI i)), some (.ref x18), some (.ref ca), some (.int (nI k1)), some (.int (nI q1.length))] [.ref n136, .ref lb] [v1, v2, v4, v5, v7, lu1_o, lu2_o, [(x18, .inr (13, [.int (oI (mEp r)), .int (nI (mLf r)), .int (nI (mLs r)), .int (oI (mRn r)), .ref nd_o, .ref ch_o, .ref ev_o]))], [(nd_o, .inl (g.2.1 0, 31, .inl fn_o))], [(ch_o, .inl (g.2.1 5, 16, .inr (.inr (.inr (.inr fc_o)))))], v1_o, bu1, bu2, [(ca, .inr (17, [.int (nI c.1), .int (nI c.2.1), .ref pl_c, .ref ky_c]))], v0_c, v1_c, [(m, .inr (12, [.ref ls, .ref lb, .ref lk, .ref lp, .ref lr, .ref le, .ref lm, .ref lo, .int (nI 0), .int (lcg (dZz D)), .int (nI (dBn D)), .int (nI (dCm D))]))], u1_96, u0_128, [(n136, .inr (19, [.int (nI k1), .int (nI q1.length)]))]] ((26 + 10070 + 640 * ((dMs D).length + 1)) - 3) ((18900 - 4 * capF (q1.length + 1) + 130200 + 1600 * ((dMs D).length + 1)) - 67) from ?_)
  obtain ⟨wc_7, ewc_7⟩ : ∃ w : va_W, w = ([[(n136, .inr (19, [.int (nI k1), .int (nI q1.length)]))]] : List va_W).flatten := ⟨_, rfl⟩
  have hwc_7 : BbP g n136 ((k1, q1.length) : Nat × Nat) wc_7 := by
    rw [ewc_7]
    exact rfl
  refine g_close (w := wc_7) [19] rfl ewc_7 rfl ?_
  refine (show Go g κ 147 [some (.ref m), some (.int (nI i)), some (.ref x18), some (.ref ca), some (.int (nI k1)), some (.int (nI q1.length))] [.ref n136, .ref lb] [v1, v2, v4, v5, v7, lu1_o, lu2_o, [(x18, .inr (13, [.int (oI (mEp r)), .int (nI (mLf r)), .int (nI (mLs r)), .int (oI (mRn r)), .ref nd_o, .ref ch_o, .ref ev_o]))], [(nd_o, .inl (g.2.1 0, 31, .inl fn_o))], [(ch_o, .inl (g.2.1 5, 16, .inr (.inr (.inr (.inr fc_o)))))], v1_o, bu1, bu2, [(ca, .inr (17, [.int (nI c.1), .int (nI c.2.1), .ref pl_c, .ref ky_c]))], v0_c, v1_c, [(m, .inr (12, [.ref ls, .ref lb, .ref lk, .ref lp, .ref lr, .ref le, .ref lm, .ref lo, .int (nI 0), .int (lcg (dZz D)), .int (nI (dBn D)), .int (nI (dCm D))]))], u1_96, u0_128, wc_7] ((26 + 10070 + 640 * ((dMs D).length + 1)) - 3) ((18900 - 4 * capF (q1.length + 1) + 130200 + 1600 * ((dMs D).length + 1)) - 67) from ?_)
  obtain ⟨ps_8, md_8, hli_8, hln_8, hel_8⟩ := LhP.at (Sub.self hv1)
  refine g_callV (q := 150) (is := [0, 18]) (kc2 := 10 + 10070 + 640 * ((dMs D).length + 1)) (ks2 := 6300 - 4 * capF (q1.length + 1) + 130200 + 1600 * ((dMs D).length + 1)) B [.ref n136] (ct_add_BbL g J (p := lb) (rs := (dBx D)) (cap := (capF (dBx D).length)) (a := n136) (r := ((k1, q1.length) : Nat × Nat)) (mc := 1) (ms := (4 * (capF ((dBx D).length + 1) - capF (dBx D).length))) hv1 hwc_7 (by omega) (fun h => ⟨Nat.le_refl _, capF_ms _ h⟩)) dX3_send_147 rfl (rc_in B (ci := 21) rfl (k := 0) rfl (LhP.hm hv1)) rfl q3144 q711 q3666 q81 q713 rfl rfl moJ2_add rfl rfl (by decide) (by decide) (Nat.le_of_ble_eq_true rfl) (by omega) (by omega) (fun _ _ hx => noX_x hx) (fun v147 L1 hp147 => ?_)
  obtain ⟨u0_147, rfl, rfl, hu0_147⟩ := hp147
  refine (show Go g κ 150 [some (.ref m), some (.int (nI i)), some (.ref x18), some (.ref ca), some (.int (nI k1)), some (.int (nI q1.length))] [.int (nI 1)] [v2, v4, v5, v7, lu1_o, lu2_o, [(x18, .inr (13, [.int (oI (mEp r)), .int (nI (mLf r)), .int (nI (mLs r)), .int (oI (mRn r)), .ref nd_o, .ref ch_o, .ref ev_o]))], [(nd_o, .inl (g.2.1 0, 31, .inl fn_o))], [(ch_o, .inl (g.2.1 5, 16, .inr (.inr (.inr (.inr fc_o)))))], v1_o, bu1, bu2, [(ca, .inr (17, [.int (nI c.1), .int (nI c.2.1), .ref pl_c, .ref ky_c]))], v0_c, v1_c, [(m, .inr (12, [.ref ls, .ref lb, .ref lk, .ref lp, .ref lr, .ref le, .ref lm, .ref lo, .int (nI 0), .int (lcg (dZz D)), .int (nI (dBn D)), .int (nI (dCm D))]))], u1_96, u0_128, u0_147] (10 + 10070 + 640 * ((dMs D).length + 1)) (6300 - 4 * capF (q1.length + 1) + 130200 + 1600 * ((dMs D).length + 1)) from ?_)
  have hr_9 : LhP g (BbP g) lb (dBx D ++ [(k1, q1.length)]) (capF (dBx D ++ [(k1, q1.length)]).length) u0_147 := by have z := hu0_147; rw [capF_s] at z; rw [List.length_append]; exact z
  refine g_pop (q := 151) B dX3_send_150 rfl rfl ?_
  refine g_aload_n (q := 152) B dX3_send_151 rfl rfl (rv_r _) ?_
  refine g_aload_n (q := 153) B dX3_send_152 rfl rfl (rv_r _) ?_
  refine g_aload_n (q := 154) B dX3_send_153 rfl rfl (rv_r _) ?_
  refine g_getN (q := 157) B (ci := 17) (k := 12) (j := 0) in_X14 rfl dX3_send_154 rfl rfl (Nat.le_of_ble_eq_true rfl) q3319 rfl rfl ?_
  refine g_iconst (v := -1) (q := 158) B dX3_send_157 rfl (by decide) ?_
  refine g_bipush (v := nI 8) (q := 160) B dX3_send_158 rfl (by decide) ?_
  refine g_callV (q := 163) (is := [15, 15]) (kc2 := 5 + 10070 + 640 * ((dMs D).length + 1)) (ks2 := 100 + 130200 + 1600 * ((dMs D).length + 1)) B [.int (nI c.1), .int (-1), .int (nI 8)] (ct_X3_of g J (m := m) (ls := ls) (lb := lb) (lk := lk) (lp := lp) (lr := lr) (le := le) (lm := lm) (lo := lo) (th := 0) (z := (lcg (dZz D))) (bo := (dBn D)) (cm := (dCm D)) (ss := (q1 ++ [drw (dZz D)])) (o := c.1) (q := none) (l := 8) (s2 := q2) (i := k2) hu1_96 (by omega) (by omega) (fun n h => by cases h) (by decide) (hq2)) dX3_send_160 rfl (rc_at B (ci := 12) rfl (k := 15) rfl) rfl q3302 q3304 qs57 q85 q3305 rfl rfl moX3_of rfl rfl (by decide) (by decide) (Nat.le_of_ble_eq_true rfl) (by omega) (by omega) (fun _ _ hx => noX_x hx) (fun v160 L1 hp160 => ?_)
  obtain ⟨u1_160, rfl, rfl, hu1_160⟩ := hp160
  refine (show Go g κ 163 [some (.ref m), some (.int (nI i)), some (.ref x18), some (.ref ca), some (.int (nI k1)), some (.int (nI q1.length))] [.int (nI k2), .ref ca] [v2, v4, v5, v7, lu1_o, lu2_o, [(x18, .inr (13, [.int (oI (mEp r)), .int (nI (mLf r)), .int (nI (mLs r)), .int (oI (mRn r)), .ref nd_o, .ref ch_o, .ref ev_o]))], [(nd_o, .inl (g.2.1 0, 31, .inl fn_o))], [(ch_o, .inl (g.2.1 5, 16, .inr (.inr (.inr (.inr fc_o)))))], v1_o, bu1, bu2, [(ca, .inr (17, [.int (nI c.1), .int (nI c.2.1), .ref pl_c, .ref ky_c]))], v0_c, v1_c, u0_128, u0_147, [(m, .inr (12, [.ref ls, .ref lb, .ref lk, .ref lp, .ref lr, .ref le, .ref lm, .ref lo, .int (nI 0), .int (lcg (dZz D)), .int (nI (dBn D)), .int (nI (dCm D))]))], u1_160] (5 + 10070 + 640 * ((dMs D).length + 1)) (100 + 130200 + 1600 * ((dMs D).length + 1)) from ?_)
  refine g_putN (q := 166) (L2 := [v2, v4, v5, v7, lu1_o, lu2_o, [(x18, .inr (13, [.int (oI (mEp r)), .int (nI (mLf r)), .int (nI (mLs r)), .int (oI (mRn r)), .ref nd_o, .ref ch_o, .ref ev_o]))], [(nd_o, .inl (g.2.1 0, 31, .inl fn_o))], [(ch_o, .inl (g.2.1 5, 16, .inr (.inr (.inr (.inr fc_o)))))], v1_o, bu1, bu2, [(ca, .inr (17, [.int (nI k2), .int (nI c.2.1), .ref pl_c, .ref ky_c]))], v0_c, v1_c, u0_128, u0_147, [(m, .inr (12, [.ref ls, .ref lb, .ref lk, .ref lp, .ref lr, .ref le, .ref lm, .ref lo, .int (nI 0), .int (lcg (dZz D)), .int (nI (dBn D)), .int (nI (dCm D))]))], u1_160]) B (ci := 17) (k := 12) (j := 0) in_X14 tyX14 tyX14_ok nmX14 rfl dX3_send_163 rfl rfl (Nat.le_of_ble_eq_true rfl) q3319 rfl rfl rfl rfl (Nat.le_of_ble_eq_true rfl) rfl ?_
  refine g_aload_n (q := 167) B dX3_send_166 rfl rfl (rv_r _) ?_
  refine g_dup (q := 168) B dX3_send_167 rfl rfl ?_
  refine g_getN (q := 171) B (ci := 17) (k := 12) (j := 1) in_X14 rfl dX3_send_168 rfl rfl (Nat.le_of_ble_eq_true rfl) q3320 rfl rfl ?_
  refine g_iconst (v := nI 1) (q := 172) B dX3_send_171 rfl (by decide) ?_
  refine g_iadd (v := nI (c.2.1 + 1)) (q := 173) B dX3_send_172 rfl (nI_add _ _) ?_
  refine g_putN (q := 176) (L2 := [v2, v4, v5, v7, lu1_o, lu2_o, [(x18, .inr (13, [.int (oI (mEp r)), .int (nI (mLf r)), .int (nI (mLs r)), .int (oI (mRn r)), .ref nd_o, .ref ch_o, .ref ev_o]))], [(nd_o, .inl (g.2.1 0, 31, .inl fn_o))], [(ch_o, .inl (g.2.1 5, 16, .inr (.inr (.inr (.inr fc_o)))))], v1_o, bu1, bu2, [(ca, .inr (17, [.int (nI k2), .int (nI (c.2.1 + 1)), .ref pl_c, .ref ky_c]))], v0_c, v1_c, u0_128, u0_147, [(m, .inr (12, [.ref ls, .ref lb, .ref lk, .ref lp, .ref lr, .ref le, .ref lm, .ref lo, .int (nI 0), .int (lcg (dZz D)), .int (nI (dBn D)), .int (nI (dCm D))]))], u1_160]) B (ci := 17) (k := 12) (j := 1) in_X14 tyX14 tyX14_ok nmX14 rfl dX3_send_173 rfl rfl (Nat.le_of_ble_eq_true rfl) q3320 rfl rfl rfl rfl (Nat.le_of_ble_eq_true rfl) rfl ?_
  have hC2 : McB ((k2, c.2.1 + 1, c.2.2) : McS) := ⟨(show k2 < 1000 by omega), (show c.2.1 + 1 < 100 by omega), hC_c.2.2⟩
  obtain ⟨wc_10, ewc_10⟩ : ∃ w : va_W, w = ([[(ca, .inr (17, [.int (nI k2), .int (nI (c.2.1 + 1)), .ref pl_c, .ref ky_c]))], v0_c, v1_c] : List va_W).flatten := ⟨_, rfl⟩
  have hwc_10 : McP g ca ((k2, c.2.1 + 1, c.2.2) : McS) wc_10 := by
    rw [ewc_10]
    exact ⟨pl_c, ky_c, cp_c, ck_c, _, _, hC2, hcc_c, hv0_c, hv1_c, rfl⟩
  refine g_close (w := wc_10) [12, 12, 12] rfl ewc_10 rfl ?_
  refine (show Go g κ 176 [some (.ref m), some (.int (nI i)), some (.ref x18), some (.ref ca), some (.int (nI k1)), some (.int (nI q1.length))] [] [v2, v4, v5, v7, lu1_o, lu2_o, [(x18, .inr (13, [.int (oI (mEp r)), .int (nI (mLf r)), .int (nI (mLs r)), .int (oI (mRn r)), .ref nd_o, .ref ch_o, .ref ev_o]))], [(nd_o, .inl (g.2.1 0, 31, .inl fn_o))], [(ch_o, .inl (g.2.1 5, 16, .inr (.inr (.inr (.inr fc_o)))))], v1_o, bu1, bu2, u0_128, u0_147, [(m, .inr (12, [.ref ls, .ref lb, .ref lk, .ref lp, .ref lr, .ref le, .ref lm, .ref lo, .int (nI 0), .int (lcg (dZz D)), .int (nI (dBn D)), .int (nI (dCm D))]))], u1_160, wc_10] (5 + 10070 + 640 * ((dMs D).length + 1)) (100 + 130200 + 1600 * ((dMs D).length + 1)) from ?_)
  obtain ⟨wc_11, ewc_11⟩ : ∃ w : va_W, w = ([bu1, wc_10, bu2] : List va_W).flatten := ⟨_, rfl⟩
  have hwc_11 : BgM (McP g) fc_o (fup (mCh r) (mLf r) (some ((k2, c.2.1 + 1, c.2.2) : McS))) wc_11 := by
    rw [ewc_11]
    exact hbcl _ _ hwc_10
  refine g_close (w := wc_11) [10, 15, 10] rfl ewc_11 rfl ?_
  refine (show Go g κ 176 [some (.ref m), some (.int (nI i)), some (.ref x18), some (.ref ca), some (.int (nI k1)), some (.int (nI q1.length))] [] [v2, v4, v5, v7, lu1_o, lu2_o, [(x18, .inr (13, [.int (oI (mEp r)), .int (nI (mLf r)), .int (nI (mLs r)), .int (oI (mRn r)), .ref nd_o, .ref ch_o, .ref ev_o]))], [(nd_o, .inl (g.2.1 0, 31, .inl fn_o))], [(ch_o, .inl (g.2.1 5, 16, .inr (.inr (.inr (.inr fc_o)))))], v1_o, u0_128, u0_147, [(m, .inr (12, [.ref ls, .ref lb, .ref lk, .ref lp, .ref lr, .ref le, .ref lm, .ref lo, .int (nI 0), .int (lcg (dZz D)), .int (nI (dBn D)), .int (nI (dCm D))]))], u1_160, wc_11] (5 + 10070 + 640 * ((dMs D).length + 1)) (100 + 130200 + 1600 * ((dMs D).length + 1)) from ?_)
  obtain ⟨wc_12, ewc_12⟩ : ∃ w : va_W, w = ([[(x18, .inr (13, [.int (oI (mEp r)), .int (nI (mLf r)), .int (nI (mLs r)), .int (oI (mRn r)), .ref nd_o, .ref ch_o, .ref ev_o]))], [(nd_o, .inl (g.2.1 0, 31, .inl fn_o))], [(ch_o, .inl (g.2.1 5, 16, .inr (.inr (.inr (.inr fc_o)))))], wc_11, v1_o] : List va_W).flatten := ⟨_, rfl⟩
  have hwc_12 : MpP g x18 ((mEp r, mLf r, mLs r, mRn r, mNd r, fup (mCh r) (mLf r) (some ((k2, c.2.1 + 1, c.2.2) : McS)), mEv r) : MpS) wc_12 := by
    rw [ewc_12]
    exact ⟨nd_o, ch_o, ev_o, cv_o, fn_o, fc_o, _, _, (by obtain ⟨m1, m2, m3, m4, m5, m6, m7, m8⟩ := hM_o; exact ⟨m1, m2, m3, m4, m5, (fun i c9 h => by have h : fup (mCh r) (mLf r) (some ((k2, c.2.1 + 1, c.2.2) : McS)) i = some c9 := h; unfold fup at h; split at h; (rename_i e9; cases h; rw [e9]; exact ⟨hlf9, hC2⟩); exact m6 i c9 h), m7, m8⟩), hfn_o, (fun j hj => ⟨(hoc_o j hj).1, by show fup (mCh r) (mLf r) _ j = none; rw [fup_n (by have : (mLf r) < 16 := hlf9; omega)]; exact (hoc_o j hj).2⟩), hcv_o, hwc_11, hv1_o, rfl⟩
  refine g_close (w := wc_12) [6, 6, 6, 11, 6] rfl ewc_12 rfl ?_
  refine (show Go g κ 176 [some (.ref m), some (.int (nI i)), some (.ref x18), some (.ref ca), some (.int (nI k1)), some (.int (nI q1.length))] [] [v2, v4, v5, v7, lu1_o, lu2_o, u0_128, u0_147, [(m, .inr (12, [.ref ls, .ref lb, .ref lk, .ref lp, .ref lr, .ref le, .ref lm, .ref lo, .int (nI 0), .int (lcg (dZz D)), .int (nI (dBn D)), .int (nI (dCm D))]))], u1_160, wc_12] (5 + 10070 + 640 * ((dMs D).length + 1)) (100 + 130200 + 1600 * ((dMs D).length + 1)) from ?_)
  obtain ⟨wc_13, ewc_13⟩ : ∃ w : va_W, w = ([lu1_o, wc_12, lu2_o] : List va_W).flatten := ⟨_, rfl⟩
  have hwc_13 : LoP g (MpP g) lp mps ((dPs D).set i ((mEp r, mLf r, mLs r, mRn r, mNd r, fup (mCh r) (mLf r) (some ((k2, c.2.1 + 1, c.2.2) : McS)), mEv r) : MpS)) pcap wc_13 := by
    rw [ewc_13]
    exact hlcl_o _ _ hwc_12
  refine g_close (w := wc_13) [4, 9, 4] rfl ewc_13 rfl ?_
  refine (show Go g κ 176 [some (.ref m), some (.int (nI i)), some (.ref x18), some (.ref ca), some (.int (nI k1)), some (.int (nI q1.length))] [] [v2, v4, v5, v7, u0_128, u0_147, [(m, .inr (12, [.ref ls, .ref lb, .ref lk, .ref lp, .ref lr, .ref le, .ref lm, .ref lo, .int (nI 0), .int (lcg (dZz D)), .int (nI (dBn D)), .int (nI (dCm D))]))], u1_160, wc_13] (5 + 10070 + 640 * ((dMs D).length + 1)) (100 + 130200 + 1600 * ((dMs D).length + 1)) from ?_)
  have hpl9 : ((dPs D).set i ((mEp r, mLf r, mLs r, mRn r, mNd r, fup (mCh r) (mLf r) (some ((k2, c.2.1 + 1, c.2.2) : McS)), mEv r) : MpS)).length = (dPs D).length := List.length_set
  refine g_aload_n (q := 177) B dX3_send_176 rfl rfl (rv_r _) ?_
  have hnt := nt_r (Q := ((dMs D).length + 1)) (show ((dPs D).set i ((mEp r, mLf r, mLs r, mRn r, mNd r, fup (mCh r) (mLf r) (some ((k2, c.2.1 + 1, c.2.2) : McS)), mEv r) : MpS)).length ≤ 10 from by omega) (show (dKs D).length ≤ 24 from by omega) (show q2.length ≤ 980 from by omega)
  obtain ⟨hnr1, hnr2⟩ := hnt
  refine g_callV (q := 180) (is := [6, 0, 6, 1]) (kc2 := 0) (ks2 := 0) B [] (ct_X3_notes g J (m := m) (ls := ls) (lb := lb) (lk := lk) (lp := lp) (lr := lr) (le := le) (lm := lm) (lo := lo) (th := 0) (z := (lcg (dZz D))) (bo := (dBn D)) (cm := (dCm D)) (mks := mks) (Ks := (dKs D)) (kcap := kcap) (mps := mps) (Ps := ((dPs D).set i ((mEp r, mLf r, mLs r, mRn r, mNd r, fup (mCh r) (mLf r) (some ((k2, c.2.1 + 1, c.2.2) : McS)), mEv r) : MpS))) (pcap := pcap) (Es := (dEs D)) (ecap := ecap) (n := q2.length) (Q := ((dMs D).length + 1)) hv2 hwc_13 hv5 (by omega) (fun i_ r_ e_ h1_ h2_ => (hN i_ r_ h1_).1 e_ h2_) (fun i_ r_ k_ c_ h1_ h2_ => (hN i_ r_ h1_).2.1 k_ c_ h2_) (fun i_ r_ x_ h1_ h2_ => (hN i_ r_ h1_).2.2.1 x_ h2_) (fun i_ r_ h1_ => (hN i_ r_ h1_).2.2.2) (Nat.le_trans (by omega) (by decide : 980 ≤ 1000))) dX3_send_177 rfl (rc_at B (ci := 12) rfl (k := 6) rfl) rfl q3223 q3225 qs54 q85 q3226 rfl rfl moX3_notes rfl rfl (by decide) (by decide) (Nat.le_of_ble_eq_true rfl) (by omega) (by omega) (fun _ _ hx => noX_x hx) (fun v177 L1 hp177 => ?_)
  obtain ⟨Qs177, u2_177, rfl, rfl, hu2_177, hN_177⟩ := hp177
  refine (show Go g κ 180 [some (.ref m), some (.int (nI i)), some (.ref x18), some (.ref ca), some (.int (nI k1)), some (.int (nI q1.length))] [] [v4, v7, u0_128, u0_147, u1_160, [(m, .inr (12, [.ref ls, .ref lb, .ref lk, .ref lp, .ref lr, .ref le, .ref lm, .ref lo, .int (nI 0), .int (lcg (dZz D)), .int (nI (dBn D)), .int (nI (dCm D))]))], v2, u2_177, v5] 0 0 from ?_)
  refine g_aload_n (q := 181) B dX3_send_180 rfl rfl (rv_r _) ?_
  refine g_get (q := 184) B (ci := 12) (k := 5) (j := 6) in_X3 rfl dX3_send_181 rfl rfl (Nat.le_of_ble_eq_true rfl) q3063 rfl rfl ?_
  obtain ⟨ps_14, md_14, hli_14, hln_14, hel_14⟩ := LhP.at (Sub.self hu0_128)
  refine g_callV (q := 187) (is := [2]) (kc2 := 0) (ks2 := 0) B [] (ct_J2_size_s g J (p := lm) (xs := ps_14) (md := md_14) (cap := (if (dMs D).length = mcap then growN mcap else mcap)) (W0 := u0_128)  (hli_14)) dX3_send_184 rfl (rc_in B (ci := 21) rfl (k := 2) rfl (LhP.hm hu0_128)) rfl q3102 q321 q3665 q81 q323 rfl rfl moJ2_size rfl rfl (by decide) (by decide) (Nat.le_of_ble_eq_true rfl) (Nat.le_of_ble_eq_true rfl) (Nat.le_of_ble_eq_true rfl) (fun _ _ hx => noX_x hx) (fun v184 L1 hp184 => ?_)
  obtain ⟨rfl, rfl⟩ := hp184
  refine (show Go g κ 187 [some (.ref m), some (.int (nI i)), some (.ref x18), some (.ref ca), some (.int (nI k1)), some (.int (nI q1.length))] [.int (nI ps_14.length)] [v4, v7, u0_147, u1_160, [(m, .inr (12, [.ref ls, .ref lb, .ref lk, .ref lp, .ref lr, .ref le, .ref lm, .ref lo, .int (nI 0), .int (lcg (dZz D)), .int (nI (dBn D)), .int (nI (dCm D))]))], v2, u2_177, v5, u0_128] 0 0 from ?_)
  rw [hln_14.1]
  refine (show Go g κ 187 [some (.ref m), some (.int (nI i)), some (.ref x18), some (.ref ca), some (.int (nI k1)), some (.int (nI q1.length))] [.int (nI (((dMs D) ++ [((e, mLf r, c.2.1, k1, q1.length) : MmS)]).length))] [v4, v7, u0_147, u1_160, [(m, .inr (12, [.ref ls, .ref lb, .ref lk, .ref lp, .ref lr, .ref le, .ref lm, .ref lo, .int (nI 0), .int (lcg (dZz D)), .int (nI (dBn D)), .int (nI (dCm D))]))], v2, u2_177, v5, u0_128] 0 0 from ?_)
  refine g_iconst (v := nI 1) (q := 188) B dX3_send_187 rfl (by decide) ?_
  refine g_isub (v := nI ((dMs D).length)) (q := 189) B dX3_send_188 rfl (by rw [List.length_append]; exact pk_sub (by simp)) ?_
  obtain ⟨wc_15, ewc_15⟩ : ∃ w : va_W, w = ([[(m, .inr (12, [.ref ls, .ref lb, .ref lk, .ref lp, .ref lr, .ref le, .ref lm, .ref lo, .int (nI 0), .int (lcg (dZz D)), .int (nI (dBn D)), .int (nI (dCm D))]))], u1_160, u0_147, v2, u2_177, v4, v5, u0_128, v7] : List va_W).flatten := ⟨_, rfl⟩
  have hwc_15 : KdP g m ((q2, dBx D ++ [(k1, q1.length)], dKs D, Qs177, dRs D, dEs D, dMs D ++ [((e, mLf r, c.2.1, k1, q1.length) : MmS)], dSo D, 0, lcg (dZz D), dBn D, dCm D) : MdS) wc_15 := by
    rw [ewc_15]
    exact ⟨ls, lb, lk, lp, lr, le, lm, lo, kcap, pcap, rcap, ecap, (if (dMs D).length = mcap then growN mcap else mcap), mks, mps, _, _, _, _, _, _, _, _, (by first | exact hcap | exact ⟨by first | exact kc1 | exact grow_b (by omega) kc1, by first | exact kc2 | exact grow_b (by omega) kc2, by first | exact kc3 | exact grow_b (by omega) kc3, by first | exact kc4 | exact grow_b (by omega) kc4, by first | exact kc5 | (have := grow_b (n := (dMs D).length) (cap := mcap) (by omega); first | omega | (unfold growN; split <;> (try split) <;> omega))⟩), hu1_160, hr_9, hv2, hu2_177, hv4, hv5, hu0_128, hv7, rfl⟩
  refine g_close (w := wc_15) [4, 3, 2, 2, 2, 0, 1, 1, 0] rfl ewc_15 rfl ?_
  refine (show Go g κ 189 [some (.ref m), some (.int (nI i)), some (.ref x18), some (.ref ca), some (.int (nI k1)), some (.int (nI q1.length))] [.int (nI ((dMs D).length))] [wc_15] 0 0 from ?_)
  exact g_iret B E dX3_send_189 (⟨Qs177, _, rfl, rfl, hwc_15, hN_177⟩)
def rdCanM (r : MpS) (q : MmS) : Prop := ∃ c : McS, mEp r = some q.1 ∧ mCh r q.2.1 = some c ∧ q.2.2.1 ≤ c.2.1 + 4
def rdHasM (r : MpS) (q : MmS) : Prop := ∃ c : McS, mCh r q.2.1 = some c ∧ (q.2.2.1 < c.2.1 → q.2.2.1 ∈ c.2.2.map (·.1))
set_option maxHeartbeats 16000000 in
theorem ct_X3_read_x (g : Gv) (J : Jd g) {m : Nat} {D : MdS} {v : Int32} {u : Int32} {w0 : va_W} (hw0 : KdP g m D w0) (hD : MdB D) (hcx : ∀ (i : Nat) (r : MpS) (q : MmS), (dPs D)[i]? = some r → q ∈ dMs D → mEp r = some q.1 → ∃ c : McS, mCh r q.2.1 = some c) (hmb : ∀ q ∈ dMs D, q.1 < 100 ∧ q.2.1 < 16 ∧ q.2.2.1 < 100 ∧ q.2.2.2.2 < (dSs D).length) (hx : ¬ (∃ (i : Nat) (r : MpS) (j : Nat) (q : MmS), v = nI i ∧ (dPs D)[i]? = some r ∧ u = nI j ∧ (dMs D)[j]? = some q ∧ rdCanM r q ∧ rdHasM r q)) : Ct g yX3_read (ws_ yX3_read cX3_read 8 (some .int)) 10 10 60 [.ref m, .int v, .int u] [w0] (fun (rv_ : Option Value) (rL_ : List va_W) => ∃ (k : Nat) (x : Int32) (u0 : va_W), rv_ = some (.int x) ∧ rL_ = [u0] ∧ KdP g m (dT D k) u0 ∧ ((k = 1 ∧ ¬ (inR v (dPs D).length = true ∧ inR u (dMs D).length = true)) ∨ ∃ (i : Nat) (r : MpS) (j : Nat) (q : MmS), v = nI i ∧ (dPs D)[i]? = some r ∧ u = nI j ∧ (dMs D)[j]? = some q ∧ ((k = 2 ∧ ¬ rdCanM r q) ∨ (k = 3 ∧ rdCanM r q ∧ ¬ rdHasM r q)))) noX := by
  refine Ct.of "KeygroveModel" [some (.ref m), some (.int v), some (.int u), none, none, none, none, none] rfl (by decide) rfl (Nat.le_of_ble_eq_true rfl) rfl ?_
  intro κ B E tb
  have hD0 := hD
  obtain ⟨hd1, hd2, hd3, hd4, hd5, hd6, hd7, hd8, hd9⟩ := hD0
  obtain ⟨ls, lb, lk, lp, lr, le, lm, lo, kcap, pcap, rcap, ecap, mcap, mks, mps, v0, v1, v2, v3, v4, v5, v6, v7, hcap, hv0, hv1, hv2, hv3, hv4, hv5, hv6, hv7, rfl⟩ := hw0
  refine g_open 0 rfl rfl rfl ?_
  refine (show Go g κ 0 [some (.ref m), some (.int v), some (.int u), none, none, none, none, none] [] [[(m, .inr (12, [.ref ls, .ref lb, .ref lk, .ref lp, .ref lr, .ref le, .ref lm, .ref lo, .int (nI (dTh D)), .int (dZz D), .int (nI (dBn D)), .int (nI (dCm D))]))], v0, v1, v2, v3, v4, v5, v6, v7] 10 60 from ?_)
  obtain ⟨kc1, kc2, kc3, kc4, kc5⟩ := (show capM kcap pcap rcap ecap mcap from hcap)
  refine g_aload_n (q := 1) B dX3_read_0 rfl rfl (rv_r _) ?_
  refine g_aload_n (q := 2) B dX3_read_1 rfl rfl (rv_r _) ?_
  refine g_iload_n (q := 3) B dX3_read_2 rfl rfl ?_
  refine g_callV (q := 6) (is := [0, 3]) (kc2 := 10) (ks2 := 60) B [.int v] (ct_X3_isPerson g J (m := m) (ls := ls) (lb := lb) (lk := lk) (lp := lp) (lr := lr) (le := le) (lm := lm) (lo := lo) (th := dTh D) (z := dZz D) (bo := dBn D) (cm := dCm D) (mps := mps) (Ps := (dPs D)) (pcap := pcap) (v := v) hv3 (by omega)) dX3_read_3 rfl (rc_at B (ci := 12) rfl (k := 0) rfl) rfl q3153 q3155 qs51 q85 q3156 rfl rfl moX3_isPerson rfl rfl (by decide) (by decide) (Nat.le_of_ble_eq_true rfl) (Nat.le_of_ble_eq_true rfl) (Nat.le_of_ble_eq_true rfl) (fun _ _ hx => noX_x hx) (fun v3 L1 hp3 => ?_)
  obtain ⟨rfl, rfl⟩ := hp3
  refine (show Go g κ 6 [some (.ref m), some (.int v), some (.int u), none, none, none, none, none] [.int (nI (if inR v (dPs D).length = true then 1 else 0)), .ref m] [v0, v1, v2, v4, v5, v6, v7, [(m, .inr (12, [.ref ls, .ref lb, .ref lk, .ref lp, .ref lr, .ref le, .ref lm, .ref lo, .int (nI (dTh D)), .int (dZz D), .int (nI (dBn D)), .int (nI (dCm D))]))], v3] 10 60 from ?_)
  refine g_if_eq (tgt := 21) (q := 9) B dX3_read_6 rfl (by decide) (bo_eq) (fun c6 => ?_) (fun c6 => ?_)
  · skip
    refine g_iconst (v := nI 1) (q := 22) B dX3_read_21 rfl (by decide) ?_
    refine g_callV (q := 25) (is := [7]) (kc2 := 10) (ks2 := 60) B [.int (nI 1)] (ct_X3_isWrong g J (m := m) (ls := ls) (lb := lb) (lk := lk) (lp := lp) (lr := lr) (le := le) (lm := lm) (lo := lo) (th := (dTh D)) (z := (dZz D)) (bo := (dBn D)) (cm := (dCm D)) (k := 1)  (by decide)) dX3_read_22 rfl (rc_at B (ci := 12) rfl (k := 7) rfl) rfl q3103 q3105 qs49 q85 q3106 rfl rfl moX3_isWrong rfl rfl (by decide) (by decide) (Nat.le_of_ble_eq_true rfl) (Nat.le_of_ble_eq_true rfl) (Nat.le_of_ble_eq_true rfl) (fun _ _ hx => noX_x hx) (fun v22 L1 hp22 => ?_)
    obtain ⟨rfl, rfl⟩ := hp22
    refine (show Go g κ 25 [some (.ref m), some (.int v), some (.int u), none, none, none, none, none] [.int (nI (if ¬ 1 = 0 then 1 else 0))] [v0, v1, v2, v4, v5, v6, v7, v3, [(m, .inr (12, [.ref ls, .ref lb, .ref lk, .ref lp, .ref lr, .ref le, .ref lm, .ref lo, .int (nI 1), .int (dZz D), .int (nI (dBn D)), .int (nI (dCm D))]))]] 10 60 from ?_)
    refine g_if_eq (tgt := 30) (q := 28) B dX3_read_25 rfl (by decide) (iff_false_intro (by decide)) (fun z => z.elim) (fun _ => ?_)
    refine g_iconst (v := nI 0) (q := 29) B dX3_read_28 rfl (by decide) ?_
    obtain ⟨wc_1, ewc_1⟩ : ∃ w : va_W, w = ([[(m, .inr (12, [.ref ls, .ref lb, .ref lk, .ref lp, .ref lr, .ref le, .ref lm, .ref lo, .int (nI 1), .int (dZz D), .int (nI (dBn D)), .int (nI (dCm D))]))], v0, v1, v2, v3, v4, v5, v6, v7] : List va_W).flatten := ⟨_, rfl⟩
    have hwc_1 : KdP g m (dT D 1) wc_1 := by
      rw [ewc_1]
      exact ⟨ls, lb, lk, lp, lr, le, lm, lo, kcap, pcap, rcap, ecap, mcap, mks, mps, _, _, _, _, _, _, _, _, hcap, hv0, hv1, hv2, hv3, hv4, hv5, hv6, hv7, rfl⟩
    refine g_close (w := wc_1) [8, 0, 0, 0, 4, 0, 0, 0, 0] rfl ewc_1 rfl ?_
    refine (show Go g κ 29 [some (.ref m), some (.int v), some (.int u), none, none, none, none, none] [.int (nI 0)] [wc_1] 10 60 from ?_)
    exact g_iret B E dX3_read_29 (⟨1, nI 0, _, rfl, rfl, hwc_1, Or.inl ⟨rfl, by rintro ⟨z1, z2⟩; first | exact c6 z1 | exact c14 z2⟩⟩)
  · skip
    have c6 := Classical.not_not.mp c6
    refine g_aload_n (q := 10) B dX3_read_9 rfl rfl (rv_r _) ?_
    refine g_iload_n (q := 11) B dX3_read_10 rfl rfl ?_
    refine g_callV (q := 14) (is := [7, 5]) (kc2 := 10) (ks2 := 60) B [.int u] (ct_X3_isMessage g J (m := m) (ls := ls) (lb := lb) (lk := lk) (lp := lp) (lr := lr) (le := le) (lm := lm) (lo := lo) (th := (dTh D)) (z := (dZz D)) (bo := (dBn D)) (cm := (dCm D)) (Ms := (dMs D)) (mcap := mcap) (v := u) hv6 (by omega)) dX3_read_11 rfl (rc_at B (ci := 12) rfl (k := 7) rfl) rfl q3592 q3594 qs73 q85 q3595 rfl rfl moX3_isMessage rfl rfl (by decide) (by decide) (Nat.le_of_ble_eq_true rfl) (Nat.le_of_ble_eq_true rfl) (Nat.le_of_ble_eq_true rfl) (fun _ _ hx => noX_x hx) (fun v11 L1 hp11 => ?_)
    obtain ⟨rfl, rfl⟩ := hp11
    refine (show Go g κ 14 [some (.ref m), some (.int v), some (.int u), none, none, none, none, none] [.int (nI (if inR u (dMs D).length = true then 1 else 0)), .ref m] [v0, v1, v2, v4, v5, v7, v3, [(m, .inr (12, [.ref ls, .ref lb, .ref lk, .ref lp, .ref lr, .ref le, .ref lm, .ref lo, .int (nI (dTh D)), .int (dZz D), .int (nI (dBn D)), .int (nI (dCm D))]))], v6] 10 60 from ?_)
    refine g_if_eq (tgt := 21) (q := 17) B dX3_read_14 rfl (by decide) (bo_eq) (fun c14 => ?_) (fun c14 => ?_)
    · skip
      refine g_iconst (v := nI 1) (q := 22) B dX3_read_21 rfl (by decide) ?_
      refine g_callV (q := 25) (is := [7]) (kc2 := 10) (ks2 := 60) B [.int (nI 1)] (ct_X3_isWrong g J (m := m) (ls := ls) (lb := lb) (lk := lk) (lp := lp) (lr := lr) (le := le) (lm := lm) (lo := lo) (th := (dTh D)) (z := (dZz D)) (bo := (dBn D)) (cm := (dCm D)) (k := 1)  (by decide)) dX3_read_22 rfl (rc_at B (ci := 12) rfl (k := 7) rfl) rfl q3103 q3105 qs49 q85 q3106 rfl rfl moX3_isWrong rfl rfl (by decide) (by decide) (Nat.le_of_ble_eq_true rfl) (Nat.le_of_ble_eq_true rfl) (Nat.le_of_ble_eq_true rfl) (fun _ _ hx => noX_x hx) (fun v22 L1 hp22 => ?_)
      obtain ⟨rfl, rfl⟩ := hp22
      refine (show Go g κ 25 [some (.ref m), some (.int v), some (.int u), none, none, none, none, none] [.int (nI (if ¬ 1 = 0 then 1 else 0))] [v0, v1, v2, v4, v5, v7, v3, v6, [(m, .inr (12, [.ref ls, .ref lb, .ref lk, .ref lp, .ref lr, .ref le, .ref lm, .ref lo, .int (nI 1), .int (dZz D), .int (nI (dBn D)), .int (nI (dCm D))]))]] 10 60 from ?_)
      refine g_if_eq (tgt := 30) (q := 28) B dX3_read_25 rfl (by decide) (iff_false_intro (by decide)) (fun z => z.elim) (fun _ => ?_)
      refine g_iconst (v := nI 0) (q := 29) B dX3_read_28 rfl (by decide) ?_
      obtain ⟨wc_2, ewc_2⟩ : ∃ w : va_W, w = ([[(m, .inr (12, [.ref ls, .ref lb, .ref lk, .ref lp, .ref lr, .ref le, .ref lm, .ref lo, .int (nI 1), .int (dZz D), .int (nI (dBn D)), .int (nI (dCm D))]))], v0, v1, v2, v3, v4, v5, v6, v7] : List va_W).flatten := ⟨_, rfl⟩
      have hwc_2 : KdP g m (dT D 1) wc_2 := by
        rw [ewc_2]
        exact ⟨ls, lb, lk, lp, lr, le, lm, lo, kcap, pcap, rcap, ecap, mcap, mks, mps, _, _, _, _, _, _, _, _, hcap, hv0, hv1, hv2, hv3, hv4, hv5, hv6, hv7, rfl⟩
      refine g_close (w := wc_2) [8, 0, 0, 0, 3, 0, 0, 1, 0] rfl ewc_2 rfl ?_
      refine (show Go g κ 29 [some (.ref m), some (.int v), some (.int u), none, none, none, none, none] [.int (nI 0)] [wc_2] 10 60 from ?_)
      exact g_iret B E dX3_read_29 (⟨1, nI 0, _, rfl, rfl, hwc_2, Or.inl ⟨rfl, by rintro ⟨z1, z2⟩; first | exact c6 z1 | exact c14 z2⟩⟩)
    · skip
      have c14 := Classical.not_not.mp c14
      refine g_iconst (v := nI 0) (q := 18) B dX3_read_17 rfl (by decide) ?_
      refine g_goto (tgt := 22) B dX3_read_18 (by decide) ?_
      refine g_callV (q := 25) (is := [7]) (kc2 := 10) (ks2 := 60) B [.int (nI 0)] (ct_X3_isWrong g J (m := m) (ls := ls) (lb := lb) (lk := lk) (lp := lp) (lr := lr) (le := le) (lm := lm) (lo := lo) (th := (dTh D)) (z := (dZz D)) (bo := (dBn D)) (cm := (dCm D)) (k := 0)  (by decide)) dX3_read_22 rfl (rc_at B (ci := 12) rfl (k := 7) rfl) rfl q3103 q3105 qs49 q85 q3106 rfl rfl moX3_isWrong rfl rfl (by decide) (by decide) (Nat.le_of_ble_eq_true rfl) (Nat.le_of_ble_eq_true rfl) (Nat.le_of_ble_eq_true rfl) (fun _ _ hx => noX_x hx) (fun v22 L1 hp22 => ?_)
      obtain ⟨rfl, rfl⟩ := hp22
      refine (show Go g κ 25 [some (.ref m), some (.int v), some (.int u), none, none, none, none, none] [.int (nI (if ¬ 0 = 0 then 1 else 0))] [v0, v1, v2, v4, v5, v7, v3, v6, [(m, .inr (12, [.ref ls, .ref lb, .ref lk, .ref lp, .ref lr, .ref le, .ref lm, .ref lo, .int (nI 0), .int (dZz D), .int (nI (dBn D)), .int (nI (dCm D))]))]] 10 60 from ?_)
      refine g_if_eq (tgt := 30) (q := 28) B dX3_read_25 rfl (by decide) (iff_true_intro (by decide)) (fun _ => ?_) (fun z => absurd trivial z)
      obtain ⟨i, hii, rfl⟩ := inR_t c6
      refine (show Go g κ 30 [some (.ref m), some (.int (nI i)), some (.int u), none, none, none, none, none] [] [v0, v1, v2, v4, v5, v7, v3, v6, [(m, .inr (12, [.ref ls, .ref lb, .ref lk, .ref lp, .ref lr, .ref le, .ref lm, .ref lo, .int (nI 0), .int (dZz D), .int (nI (dBn D)), .int (nI (dCm D))]))]] 10 60 from ?_)
      obtain ⟨j, hij, rfl⟩ := inR_t c14
      obtain ⟨r0, hr0⟩ := get_ex (xs := dPs D) (i := i) hii
      refine (show Go g κ 30 [some (.ref m), some (.int (nI i)), some (.int (nI j)), none, none, none, none, none] [] [v0, v1, v2, v4, v5, v7, v3, v6, [(m, .inr (12, [.ref ls, .ref lb, .ref lk, .ref lp, .ref lr, .ref le, .ref lm, .ref lo, .int (nI 0), .int (dZz D), .int (nI (dBn D)), .int (nI (dCm D))]))]] 10 60 from ?_)
      obtain ⟨q, hq⟩ := get_ex (xs := dMs D) (i := j) hij
      obtain ⟨hm1, hm2, hm3, hm4⟩ := hmb _ (List.mem_of_getElem? hq)
      refine g_aload_n (q := 31) B dX3_read_30 rfl rfl (rv_r _) ?_
      refine g_get (q := 34) B (ci := 12) (k := 8) (j := 3) in_X3 rfl dX3_read_31 rfl rfl (Nat.le_of_ble_eq_true rfl) q3060 rfl rfl ?_
      refine g_iload_n (q := 35) B dX3_read_34 rfl rfl ?_
      obtain ⟨md_3, hli_3, hln_3, hel_3⟩ := LoP.at (Sub.self hv3)
      obtain ⟨x35, hx35⟩ := get_ex (xs := mps) (i := i) (by have := get_lt2 (show (dPs D)[i]? = some r0 from hr0); have := hln_3.1; omega)
      have hE_4 := hel_3 _ _ _ hx35 (show (dPs D)[i]? = some r0 from hr0)
      refine g_callV (q := 38) (is := [6]) (kc2 := 10) (ks2 := 60) B [.int (nI i)] (ct_J2_get_s g J (p := lp) (xs := mps) (md := md_3) (cap := pcap) (i := i) (x := x35) (W0 := v3)  (hli_3) (hx35)) dX3_read_35 rfl (rc_in B (ci := 21) rfl (k := 6) rfl (LoP.hm hv3)) rfl q3231 q1095 q3667 q81 q1097 rfl rfl moJ2_get rfl rfl (by decide) (by decide) (Nat.le_of_ble_eq_true rfl) (Nat.le_of_ble_eq_true rfl) (Nat.le_of_ble_eq_true rfl) (fun _ _ hx => noX_x hx) (fun v35 L1 hp35 => ?_)
      obtain ⟨rfl, rfl⟩ := hp35
      refine (show Go g κ 38 [some (.ref m), some (.int (nI i)), some (.int (nI j)), none, none, none, none, none] [.ref x35] [v0, v1, v2, v4, v5, v7, v6, [(m, .inr (12, [.ref ls, .ref lb, .ref lk, .ref lp, .ref lr, .ref le, .ref lm, .ref lo, .int (nI 0), .int (dZz D), .int (nI (dBn D)), .int (nI (dCm D))]))], v3] 10 60 from ?_)
      refine g_castRS (ci := 13) (q := 41) B rfl (rc_in B (ci := 13) rfl (k := 8) rfl (Sub.hm (hE_4) fun _ z => MpP.hm z)) dX3_read_38 rfl q3107 ?_
      refine g_astore_n (q := 42) (lv2 := [some (.ref m), some (.int (nI i)), some (.int (nI j)), some (.ref x35), none, none, none, none]) B dX3_read_41 rfl (Nat.le_of_ble_eq_true rfl) (rv_r _) rfl ?_
      refine g_aload_n (q := 43) B dX3_read_42 rfl rfl (rv_r _) ?_
      refine g_get (q := 46) B (ci := 12) (k := 7) (j := 6) in_X3 rfl dX3_read_43 rfl rfl (Nat.le_of_ble_eq_true rfl) q3063 rfl rfl ?_
      refine g_iload_n (q := 47) B dX3_read_46 rfl rfl ?_
      obtain ⟨ps_5, md_5, hli_5, hln_5, hel_5⟩ := LhP.at (Sub.self hv6)
      obtain ⟨x47, hx47⟩ := get_ex (xs := ps_5) (i := j) (by have := get_lt2 (show (dMs D)[j]? = some q from hq); have := hln_5.1; omega)
      have hE_6 := hel_5 _ _ _ hx47 (show (dMs D)[j]? = some q from hq)
      refine g_callV (q := 50) (is := [6]) (kc2 := 10) (ks2 := 60) B [.int (nI j)] (ct_J2_get_s g J (p := lm) (xs := ps_5) (md := md_5) (cap := mcap) (i := j) (x := x47) (W0 := v6)  (hli_5) (hx47)) dX3_read_47 rfl (rc_in B (ci := 21) rfl (k := 6) rfl (LhP.hm hv6)) rfl q3231 q1095 q3667 q81 q1097 rfl rfl moJ2_get rfl rfl (by decide) (by decide) (Nat.le_of_ble_eq_true rfl) (Nat.le_of_ble_eq_true rfl) (Nat.le_of_ble_eq_true rfl) (fun _ _ hx => noX_x hx) (fun v47 L1 hp47 => ?_)
      obtain ⟨rfl, rfl⟩ := hp47
      refine (show Go g κ 50 [some (.ref m), some (.int (nI i)), some (.int (nI j)), some (.ref x35), none, none, none, none] [.ref x47] [v0, v1, v2, v4, v5, v7, [(m, .inr (12, [.ref ls, .ref lb, .ref lk, .ref lp, .ref lr, .ref le, .ref lm, .ref lo, .int (nI 0), .int (dZz D), .int (nI (dBn D)), .int (nI (dCm D))]))], v3, v6] 10 60 from ?_)
      refine g_castRS (ci := 20) (q := 53) B rfl (rc_in B (ci := 20) rfl (k := 8) rfl (Sub.hm (hE_6) fun _ z => MmP.hm z)) dX3_read_50 rfl q3562 ?_
      refine g_astore (q := 55) (lv2 := [some (.ref m), some (.int (nI i)), some (.int (nI j)), some (.ref x35), some (.ref x47), none, none, none]) B dX3_read_53 rfl (Nat.le_of_ble_eq_true rfl) (rv_r _) rfl ?_
      refine g_aload_n (q := 56) B dX3_read_55 rfl rfl (rv_r _) ?_
      refine g_aload_n (q := 57) B dX3_read_56 rfl rfl (rv_r _) ?_
      obtain ⟨nd_7, ch_7, ev_7, cv_7, fn_7, fc_7, hM_7, hfn_7, hoc_7, hcv_7, hc_7_0, hc_7_1, hc_7_2, hs_7_0, hs_7_1⟩ := MpP.at (hE_4)
      refine g_getNM (q := 60) B (ci := 13) (k := 7) (j := 0) in_X5 rfl dX3_read_57 rfl rfl (hc_7_0) (Nat.le_of_ble_eq_true rfl) q3118 rfl rfl ?_
      refine g_aload (q := 62) B dX3_read_60 rfl rfl (rv_r _) ?_
      have hc_8_0 := MmP.at (hE_6)
      refine g_getNM (q := 65) B (ci := 20) (k := 8) (j := 0) in_X22 rfl dX3_read_62 rfl rfl (hc_8_0) (Nat.le_of_ble_eq_true rfl) q3569 rfl rfl ?_
      refine g_icmp_ne (tgt := 91) (q := 68) B dX3_read_65 rfl (by decide) (oI_ne ((fun n h => by have := hM_7.1 _ h; omega)) (by omega)) (fun c65 => ?_) (fun c65 => ?_)
      · skip
        refine g_iconst (v := nI 2) (q := 92) B dX3_read_91 rfl (by decide) ?_
        refine g_goto (tgt := 96) B dX3_read_92 (by decide) ?_
        refine g_callV (q := 99) (is := [6]) (kc2 := 10) (ks2 := 60) B [.int (nI 2)] (ct_X3_isWrong g J (m := m) (ls := ls) (lb := lb) (lk := lk) (lp := lp) (lr := lr) (le := le) (lm := lm) (lo := lo) (th := 0) (z := (dZz D)) (bo := (dBn D)) (cm := (dCm D)) (k := 2)  (by decide)) dX3_read_96 rfl (rc_at B (ci := 12) rfl (k := 6) rfl) rfl q3103 q3105 qs49 q85 q3106 rfl rfl moX3_isWrong rfl rfl (by decide) (by decide) (Nat.le_of_ble_eq_true rfl) (Nat.le_of_ble_eq_true rfl) (Nat.le_of_ble_eq_true rfl) (fun _ _ hx => noX_x hx) (fun v96 L1 hp96 => ?_)
        obtain ⟨rfl, rfl⟩ := hp96
        refine (show Go g κ 99 [some (.ref m), some (.int (nI i)), some (.int (nI j)), some (.ref x35), some (.ref x47), none, none, none] [.int (nI (if ¬ 2 = 0 then 1 else 0))] [v0, v1, v2, v4, v5, v7, v3, v6, [(m, .inr (12, [.ref ls, .ref lb, .ref lk, .ref lp, .ref lr, .ref le, .ref lm, .ref lo, .int (nI 2), .int (dZz D), .int (nI (dBn D)), .int (nI (dCm D))]))]] 10 60 from ?_)
        refine g_if_eq (tgt := 104) (q := 102) B dX3_read_99 rfl (by decide) (iff_false_intro (by decide)) (fun z => z.elim) (fun _ => ?_)
        refine g_iconst (v := nI 0) (q := 103) B dX3_read_102 rfl (by decide) ?_
        obtain ⟨wc_9, ewc_9⟩ : ∃ w : va_W, w = ([[(m, .inr (12, [.ref ls, .ref lb, .ref lk, .ref lp, .ref lr, .ref le, .ref lm, .ref lo, .int (nI 2), .int (dZz D), .int (nI (dBn D)), .int (nI (dCm D))]))], v0, v1, v2, v3, v4, v5, v6, v7] : List va_W).flatten := ⟨_, rfl⟩
        have hwc_9 : KdP g m (dT D 2) wc_9 := by
          rw [ewc_9]
          exact ⟨ls, lb, lk, lp, lr, le, lm, lo, kcap, pcap, rcap, ecap, mcap, mks, mps, _, _, _, _, _, _, _, _, hcap, hv0, hv1, hv2, hv3, hv4, hv5, hv6, hv7, rfl⟩
        refine g_close (w := wc_9) [8, 0, 0, 0, 3, 0, 0, 1, 0] rfl ewc_9 rfl ?_
        refine (show Go g κ 103 [some (.ref m), some (.int (nI i)), some (.int (nI j)), some (.ref x35), some (.ref x47), none, none, none] [.int (nI 0)] [wc_9] 10 60 from ?_)
        exact g_iret B E dX3_read_103 (⟨2, nI 0, _, rfl, rfl, hwc_9, Or.inr ⟨i, r0, j, q, rfl, hr0, rfl, hq, Or.inl ⟨rfl, by rintro ⟨c9, z1, z2, z3⟩; first | (exact c65 z1) | (rw [hc] at z2; cases z2; exact c88 z3)⟩⟩⟩)
      · skip
        have c65 := Classical.not_not.mp c65
        obtain ⟨c, hc⟩ := hcx _ _ _ hr0 (List.mem_of_getElem? hq) c65
        obtain ⟨ca, hca, hsca⟩ := BgM.getS (hs_7_0) hoc_7 hc
        have hMB := MpP.b2 (hE_4)
        have hCB := (hMB.2.2.2.2.2.1 _ _ hc).2
        obtain ⟨hcb1, hcb2, hcb3, hcb4⟩ := hCB
        refine g_aload (q := 70) B dX3_read_68 rfl rfl (rv_r _) ?_
        refine g_getNM (q := 73) B (ci := 20) (k := 8) (j := 2) in_X22 rfl dX3_read_70 rfl rfl (hc_8_0) (Nat.le_of_ble_eq_true rfl) q3573 rfl rfl ?_
        refine g_aload_n (q := 74) B dX3_read_73 rfl rfl (rv_r _) ?_
        refine g_getNM (q := 77) B (ci := 13) (k := 7) (j := 5) in_X5 rfl dX3_read_74 rfl rfl (hc_7_0) (Nat.le_of_ble_eq_true rfl) q3126 rfl rfl ?_
        refine g_aload (q := 79) B dX3_read_77 rfl rfl (rv_r _) ?_
        refine g_getNM (q := 82) B (ci := 20) (k := 8) (j := 1) in_X22 rfl dX3_read_79 rfl rfl (hc_8_0) (Nat.le_of_ble_eq_true rfl) q3571 rfl rfl ?_
        refine g_aldM (r := some ca) (q := 83) B (k := 7) (t := 5) dX3_read_82 rfl rfl (hc_7_2) rfl (vp_in_nI (by omega) (by omega)) (by rw [nI_clamp (by omega)]; exact hca) ?_
        obtain ⟨pl_10, ky_10, cp_10, ck_10, hC_10, hcc_10, hc_10_0, hs_10_0, hs_10_1⟩ := McP.at (hsca)
        refine g_getNM (q := 86) B (ci := 17) (k := 7) (j := 1) in_X14 rfl dX3_read_83 rfl rfl (hc_10_0) (Nat.le_of_ble_eq_true rfl) q3320 rfl rfl ?_
        refine g_iconst (v := nI 4) (q := 87) B dX3_read_86 rfl (by decide) ?_
        refine g_iadd (v := nI (c.2.1 + 4)) (q := 88) B dX3_read_87 rfl (nI_add _ _) ?_
        refine g_icmp_le (tgt := 95) (q := 91) B dX3_read_88 rfl (by decide) (nI_leI (by omega) (by omega)) (fun c88 => ?_) (fun c88 => ?_)
        · skip
          refine g_iconst (v := nI 0) (q := 96) B dX3_read_95 rfl (by decide) ?_
          refine g_callV (q := 99) (is := [6]) (kc2 := 10) (ks2 := 60) B [.int (nI 0)] (ct_X3_isWrong g J (m := m) (ls := ls) (lb := lb) (lk := lk) (lp := lp) (lr := lr) (le := le) (lm := lm) (lo := lo) (th := 0) (z := (dZz D)) (bo := (dBn D)) (cm := (dCm D)) (k := 0)  (by decide)) dX3_read_96 rfl (rc_at B (ci := 12) rfl (k := 6) rfl) rfl q3103 q3105 qs49 q85 q3106 rfl rfl moX3_isWrong rfl rfl (by decide) (by decide) (Nat.le_of_ble_eq_true rfl) (Nat.le_of_ble_eq_true rfl) (Nat.le_of_ble_eq_true rfl) (fun _ _ hx => noX_x hx) (fun v96 L1 hp96 => ?_)
          obtain ⟨rfl, rfl⟩ := hp96
          refine (show Go g κ 99 [some (.ref m), some (.int (nI i)), some (.int (nI j)), some (.ref x35), some (.ref x47), none, none, none] [.int (nI (if ¬ 0 = 0 then 1 else 0))] [v0, v1, v2, v4, v5, v7, v3, v6, [(m, .inr (12, [.ref ls, .ref lb, .ref lk, .ref lp, .ref lr, .ref le, .ref lm, .ref lo, .int (nI 0), .int (dZz D), .int (nI (dBn D)), .int (nI (dCm D))]))]] 10 60 from ?_)
          refine g_if_eq (tgt := 104) (q := 102) B dX3_read_99 rfl (by decide) (iff_true_intro (by decide)) (fun _ => ?_) (fun z => absurd trivial z)
          refine g_aload_n (q := 105) B dX3_read_104 rfl rfl (rv_r _) ?_
          refine g_getNM (q := 108) B (ci := 13) (k := 6) (j := 5) in_X5 rfl dX3_read_105 rfl rfl (hc_7_0) (Nat.le_of_ble_eq_true rfl) q3126 rfl rfl ?_
          refine g_aload (q := 110) B dX3_read_108 rfl rfl (rv_r _) ?_
          refine g_getNM (q := 113) B (ci := 20) (k := 7) (j := 1) in_X22 rfl dX3_read_110 rfl rfl (hc_8_0) (Nat.le_of_ble_eq_true rfl) q3571 rfl rfl ?_
          refine g_aldM (r := some ca) (q := 114) B (k := 6) (t := 5) dX3_read_113 rfl rfl (hc_7_2) rfl (vp_in_nI (by omega) (by omega)) (by rw [nI_clamp (by omega)]; exact hca) ?_
          refine g_astore (q := 116) (lv2 := [some (.ref m), some (.int (nI i)), some (.int (nI j)), some (.ref x35), some (.ref x47), some (.ref ca), none, none]) B dX3_read_114 rfl (Nat.le_of_ble_eq_true rfl) (rv_r _) rfl ?_
          refine g_iconst (v := -1) (q := 117) B dX3_read_116 rfl (by decide) ?_
          refine g_istore (q := 119) (lv2 := [some (.ref m), some (.int (nI i)), some (.int (nI j)), some (.ref x35), some (.ref x47), some (.ref ca), some (.int (-1)), none]) B dX3_read_117 rfl (Nat.le_of_ble_eq_true rfl) rfl ?_
          refine g_iconst (v := nI 0) (q := 120) B dX3_read_119 rfl (by decide) ?_
          refine g_istore (q := 122) (lv2 := [some (.ref m), some (.int (nI i)), some (.int (nI j)), some (.ref x35), some (.ref x47), some (.ref ca), some (.int (-1)), some (.int (nI 0))]) B dX3_read_120 rfl (Nat.le_of_ble_eq_true rfl) rfl ?_
          have lp122 : ∀ (n122 : Nat) (k : Nat) (ho : Option Nat) , (k ≤ (c.2.2.map (·.1)).length) → (ho = none → ∀ n, n < k → ¬ (c.2.2.map (·.1))[n]? = some q.2.2.1) → (∀ n, ho = some n → n < k ∧ (c.2.2.map (·.1))[n]? = some q.2.2.1) → (c.2.2.map (·.1)).length - k = n122 → Go g κ 122 [some (.ref m), some (.int (nI i)), some (.int (nI j)), some (.ref x35), some (.ref x47), some (.ref ca), some (.int (oI ho)), some (.int (nI k))] [] [v0, v1, v2, v4, v5, v7, v3, v6, [(m, .inr (12, [.ref ls, .ref lb, .ref lk, .ref lp, .ref lr, .ref le, .ref lm, .ref lo, .int (nI 0), .int (dZz D), .int (nI (dBn D)), .int (nI (dCm D))]))]] 10 60 := by
            intro n122
            induction n122 using Nat.strongRecOn with
            | _ n122 ih122 =>
            intro k ho  hk hho1 hho2 hmu122
            have hml : (c.2.2.map (·.1)).length = c.2.2.length := by simp
            refine g_iload (q := 124) B dX3_read_122 rfl rfl ?_
            refine g_aload (q := 126) B dX3_read_124 rfl rfl (rv_r _) ?_
            refine g_getNM (q := 129) B (ci := 17) (k := 6) (j := 2) in_X14 rfl dX3_read_126 rfl rfl (hc_10_0) (Nat.le_of_ble_eq_true rfl) q3322 rfl rfl ?_
            obtain ⟨ps_11, md_11, hli_11, hln_11, hel_11⟩ := LhP.at (hs_10_0)
            refine g_callV (q := 132) (is := [6]) (kc2 := 10) (ks2 := 60) B [] (ct_J2_size_s g J (p := pl_10) (xs := ps_11) (md := md_11) (cap := cp_10) (W0 := v3)  (hli_11)) dX3_read_129 rfl (rc_in B (ci := 21) rfl (k := 6) rfl (Sub.hm (hs_10_0) fun _ z => LhP.hm z)) rfl q3102 q321 q3665 q81 q323 rfl rfl moJ2_size rfl rfl (by decide) (by decide) (Nat.le_of_ble_eq_true rfl) (Nat.le_of_ble_eq_true rfl) (Nat.le_of_ble_eq_true rfl) (fun _ _ hx => noX_x hx) (fun v129 L1 hp129 => ?_)
            obtain ⟨rfl, rfl⟩ := hp129
            refine (show Go g κ 132 [some (.ref m), some (.int (nI i)), some (.int (nI j)), some (.ref x35), some (.ref x47), some (.ref ca), some (.int (oI ho)), some (.int (nI k))] [.int (nI ps_11.length), .int (nI k)] [v0, v1, v2, v4, v5, v7, v6, [(m, .inr (12, [.ref ls, .ref lb, .ref lk, .ref lp, .ref lr, .ref le, .ref lm, .ref lo, .int (nI 0), .int (dZz D), .int (nI (dBn D)), .int (nI (dCm D))]))], v3] 10 60 from ?_)
            rw [hln_11.1]
            refine (show Go g κ 132 [some (.ref m), some (.int (nI i)), some (.int (nI j)), some (.ref x35), some (.ref x47), some (.ref ca), some (.int (oI ho)), some (.int (nI k))] [.int (nI ((c.2.2.map (·.1)).length)), .int (nI k)] [v0, v1, v2, v4, v5, v7, v6, [(m, .inr (12, [.ref ls, .ref lb, .ref lk, .ref lp, .ref lr, .ref le, .ref lm, .ref lo, .int (nI 0), .int (dZz D), .int (nI (dBn D)), .int (nI (dCm D))]))], v3] 10 60 from ?_)
            refine g_icmp_ge (tgt := 174) (q := 135) B dX3_read_132 rfl (by decide) (nI_leI (by omega) (by omega)) (fun c132 => ?_) (fun c132 => ?_)
            · skip
              refine g_aload_n (q := 175) B dX3_read_174 rfl rfl (rv_r _) ?_
              refine g_aload (q := 177) B dX3_read_175 rfl rfl (rv_r _) ?_
              refine g_getNM (q := 180) B (ci := 20) (k := 6) (j := 2) in_X22 rfl dX3_read_177 rfl rfl (hc_8_0) (Nat.le_of_ble_eq_true rfl) q3573 rfl rfl ?_
              refine g_aload (q := 182) B dX3_read_180 rfl rfl (rv_r _) ?_
              refine g_getNM (q := 185) B (ci := 17) (k := 8) (j := 1) in_X14 rfl dX3_read_182 rfl rfl (hc_10_0) (Nat.le_of_ble_eq_true rfl) q3320 rfl rfl ?_
              refine g_icmp_ge (tgt := 198) (q := 188) B dX3_read_185 rfl (by decide) (nI_leI (by omega) (by omega)) (fun c185 => ?_) (fun c185 => ?_)
              · skip
                refine g_iconst (v := nI 0) (q := 199) B dX3_read_198 rfl (by decide) ?_
                refine g_callV (q := 202) (is := [7]) (kc2 := 10) (ks2 := 60) B [.int (nI 0)] (ct_X3_isWrong g J (m := m) (ls := ls) (lb := lb) (lk := lk) (lp := lp) (lr := lr) (le := le) (lm := lm) (lo := lo) (th := 0) (z := (dZz D)) (bo := (dBn D)) (cm := (dCm D)) (k := 0)  (by decide)) dX3_read_199 rfl (rc_at B (ci := 12) rfl (k := 7) rfl) rfl q3103 q3105 qs49 q85 q3106 rfl rfl moX3_isWrong rfl rfl (by decide) (by decide) (Nat.le_of_ble_eq_true rfl) (Nat.le_of_ble_eq_true rfl) (Nat.le_of_ble_eq_true rfl) (fun _ _ hx => noX_x hx) (fun v199 L1 hp199 => ?_)
                obtain ⟨rfl, rfl⟩ := hp199
                refine (show Go g κ 202 [some (.ref m), some (.int (nI i)), some (.int (nI j)), some (.ref x35), some (.ref x47), some (.ref ca), some (.int (oI ho)), some (.int (nI k))] [.int (nI (if ¬ 0 = 0 then 1 else 0))] [v0, v1, v2, v4, v5, v7, v6, v3, [(m, .inr (12, [.ref ls, .ref lb, .ref lk, .ref lp, .ref lr, .ref le, .ref lm, .ref lo, .int (nI 0), .int (dZz D), .int (nI (dBn D)), .int (nI (dCm D))]))]] 10 60 from ?_)
                refine g_if_eq (tgt := 207) (q := 205) B dX3_read_202 rfl (by decide) (iff_true_intro (by decide)) (fun _ => ?_) (fun z => absurd trivial z)
                exact absurd ⟨i, r0, j, q, rfl, hr0, rfl, hq, ⟨c, c65, hc, c88⟩, c, hc, fun z9 => absurd z9 (by omega)⟩ hx
              · skip
                refine g_iload (q := 190) B dX3_read_188 rfl rfl ?_
                refine g_iconst (v := -1) (q := 191) B dX3_read_190 rfl (by decide) ?_
                refine g_icmp_ne (tgt := 198) (q := 194) B dX3_read_191 rfl (by decide) (oI_nn ((fun n h => by have := hho2 n h; omega))) (fun c191 => ?_) (fun c191 => ?_)
                · skip
                  obtain ⟨v191, ev191⟩ := Option.ne_none_iff_exists'.mp c191
                  refine g_lvs (lv2 := [some (.ref m), some (.int (nI i)), some (.int (nI j)), some (.ref x35), some (.ref x47), some (.ref ca), some (.int (nI v191)), some (.int (nI k))]) (st2 := [.ref m]) (by rw [(show oI ho = nI v191 from by rw [ev191]; rfl)]) (by first | rfl | rw [(show oI ho = nI v191 from by rw [ev191]; rfl)]) ?_
                  refine g_iconst (v := nI 0) (q := 199) B dX3_read_198 rfl (by decide) ?_
                  refine g_callV (q := 202) (is := [7]) (kc2 := 10) (ks2 := 60) B [.int (nI 0)] (ct_X3_isWrong g J (m := m) (ls := ls) (lb := lb) (lk := lk) (lp := lp) (lr := lr) (le := le) (lm := lm) (lo := lo) (th := 0) (z := (dZz D)) (bo := (dBn D)) (cm := (dCm D)) (k := 0)  (by decide)) dX3_read_199 rfl (rc_at B (ci := 12) rfl (k := 7) rfl) rfl q3103 q3105 qs49 q85 q3106 rfl rfl moX3_isWrong rfl rfl (by decide) (by decide) (Nat.le_of_ble_eq_true rfl) (Nat.le_of_ble_eq_true rfl) (Nat.le_of_ble_eq_true rfl) (fun _ _ hx => noX_x hx) (fun v199 L1 hp199 => ?_)
                  obtain ⟨rfl, rfl⟩ := hp199
                  refine (show Go g κ 202 [some (.ref m), some (.int (nI i)), some (.int (nI j)), some (.ref x35), some (.ref x47), some (.ref ca), some (.int (nI v191)), some (.int (nI k))] [.int (nI (if ¬ 0 = 0 then 1 else 0))] [v0, v1, v2, v4, v5, v7, v6, v3, [(m, .inr (12, [.ref ls, .ref lb, .ref lk, .ref lp, .ref lr, .ref le, .ref lm, .ref lo, .int (nI 0), .int (dZz D), .int (nI (dBn D)), .int (nI (dCm D))]))]] 10 60 from ?_)
                  refine g_if_eq (tgt := 207) (q := 205) B dX3_read_202 rfl (by decide) (iff_true_intro (by decide)) (fun _ => ?_) (fun z => absurd trivial z)
                  exact absurd ⟨i, r0, j, q, rfl, hr0, rfl, hq, ⟨c, c65, hc, c88⟩, c, hc, fun z9 => List.mem_of_getElem? (hho2 v191 ev191).2⟩ hx
                · skip
                  have c191 := Classical.not_not.mp c191
                  refine g_lvs (lv2 := [some (.ref m), some (.int (nI i)), some (.int (nI j)), some (.ref x35), some (.ref x47), some (.ref ca), some (.int (-1)), some (.int (nI k))]) (st2 := [.ref m]) (by rw [(show oI ho = -1 from by rw [c191]; rfl)]) (by first | rfl | rw [(show oI ho = -1 from by rw [c191]; rfl)]) ?_
                  refine g_iconst (v := nI 3) (q := 195) B dX3_read_194 rfl (by decide) ?_
                  refine g_goto (tgt := 199) B dX3_read_195 (by decide) ?_
                  refine g_callV (q := 202) (is := [7]) (kc2 := 10) (ks2 := 60) B [.int (nI 3)] (ct_X3_isWrong g J (m := m) (ls := ls) (lb := lb) (lk := lk) (lp := lp) (lr := lr) (le := le) (lm := lm) (lo := lo) (th := 0) (z := (dZz D)) (bo := (dBn D)) (cm := (dCm D)) (k := 3)  (by decide)) dX3_read_199 rfl (rc_at B (ci := 12) rfl (k := 7) rfl) rfl q3103 q3105 qs49 q85 q3106 rfl rfl moX3_isWrong rfl rfl (by decide) (by decide) (Nat.le_of_ble_eq_true rfl) (Nat.le_of_ble_eq_true rfl) (Nat.le_of_ble_eq_true rfl) (fun _ _ hx => noX_x hx) (fun v199 L1 hp199 => ?_)
                  obtain ⟨rfl, rfl⟩ := hp199
                  refine (show Go g κ 202 [some (.ref m), some (.int (nI i)), some (.int (nI j)), some (.ref x35), some (.ref x47), some (.ref ca), some (.int (-1)), some (.int (nI k))] [.int (nI (if ¬ 3 = 0 then 1 else 0))] [v0, v1, v2, v4, v5, v7, v6, v3, [(m, .inr (12, [.ref ls, .ref lb, .ref lk, .ref lp, .ref lr, .ref le, .ref lm, .ref lo, .int (nI 3), .int (dZz D), .int (nI (dBn D)), .int (nI (dCm D))]))]] 10 60 from ?_)
                  refine g_if_eq (tgt := 207) (q := 205) B dX3_read_202 rfl (by decide) (iff_false_intro (by decide)) (fun z => z.elim) (fun _ => ?_)
                  refine g_iconst (v := nI 0) (q := 206) B dX3_read_205 rfl (by decide) ?_
                  obtain ⟨wc_12, ewc_12⟩ : ∃ w : va_W, w = ([[(m, .inr (12, [.ref ls, .ref lb, .ref lk, .ref lp, .ref lr, .ref le, .ref lm, .ref lo, .int (nI 3), .int (dZz D), .int (nI (dBn D)), .int (nI (dCm D))]))], v0, v1, v2, v3, v4, v5, v6, v7] : List va_W).flatten := ⟨_, rfl⟩
                  have hwc_12 : KdP g m (dT D 3) wc_12 := by
                    rw [ewc_12]
                    exact ⟨ls, lb, lk, lp, lr, le, lm, lo, kcap, pcap, rcap, ecap, mcap, mks, mps, _, _, _, _, _, _, _, _, hcap, hv0, hv1, hv2, hv3, hv4, hv5, hv6, hv7, rfl⟩
                  refine g_close (w := wc_12) [8, 0, 0, 0, 4, 0, 0, 1, 0] rfl ewc_12 rfl ?_
                  refine (show Go g κ 206 [some (.ref m), some (.int (nI i)), some (.int (nI j)), some (.ref x35), some (.ref x47), some (.ref ca), some (.int (-1)), some (.int (nI k))] [.int (nI 0)] [wc_12] 10 60 from ?_)
                  exact g_iret B E dX3_read_206 (⟨3, nI 0, _, rfl, rfl, hwc_12, Or.inr ⟨i, r0, j, q, rfl, hr0, rfl, hq, Or.inr ⟨rfl, ⟨c, c65, hc, c88⟩, fun ⟨c9, z1, z2⟩ => by rw [hc] at z1; cases z1; obtain ⟨n, hn⟩ := List.getElem?_of_mem (z2 (by omega)); exact hho1 c191 n (by have := get_lt2 hn; omega) hn⟩⟩⟩)
            · skip
              refine g_aload (q := 137) B dX3_read_135 rfl rfl (rv_r _) ?_
              refine g_getNM (q := 140) B (ci := 17) (k := 8) (j := 2) in_X14 rfl dX3_read_137 rfl rfl (hc_10_0) (Nat.le_of_ble_eq_true rfl) q3322 rfl rfl ?_
              refine g_iload (q := 142) B dX3_read_140 rfl rfl ?_
              obtain ⟨r142, hr142⟩ := get_ex (xs := (c.2.2.map (·.1))) (i := k) (by omega)
              obtain ⟨x142, hx142⟩ := get_ex (xs := ps_11) (i := k) (by have := get_lt2 hr142; have := hln_11.1; omega)
              have hb_13 := Sub.box (hel_11 _ _ _ hx142 hr142)
              refine g_callV (q := 145) (is := [8]) (kc2 := 10) (ks2 := 60) B [.int (nI k)] (ct_J2_get_s g J (p := pl_10) (xs := ps_11) (md := md_11) (cap := cp_10) (i := k) (x := x142) (W0 := v3)  (hli_11) (hx142)) dX3_read_142 rfl (rc_in B (ci := 21) rfl (k := 8) rfl (Sub.hm (hs_10_0) fun _ z => LhP.hm z)) rfl q3231 q1095 q3667 q81 q1097 rfl rfl moJ2_get rfl rfl (by decide) (by decide) (Nat.le_of_ble_eq_true rfl) (Nat.le_of_ble_eq_true rfl) (Nat.le_of_ble_eq_true rfl) (fun _ _ hx => noX_x hx) (fun v142 L1 hp142 => ?_)
              obtain ⟨rfl, rfl⟩ := hp142
              refine (show Go g κ 145 [some (.ref m), some (.int (nI i)), some (.int (nI j)), some (.ref x35), some (.ref x47), some (.ref ca), some (.int (oI ho)), some (.int (nI k))] [.ref x142] [v0, v1, v2, v4, v5, v7, v6, [(m, .inr (12, [.ref ls, .ref lb, .ref lk, .ref lp, .ref lr, .ref le, .ref lm, .ref lo, .int (nI 0), .int (dZz D), .int (nI (dBn D)), .int (nI (dCm D))]))], v3] 10 60 from ?_)
              refine g_castRS (ci := 35) (q := 148) B rfl (rc_bxat B J (k := 8) rfl hb_13) dX3_read_145 rfl q3240 ?_
              refine g_callV (q := 151) (is := [8]) (kc2 := 10) (ks2 := 60) B [] (ct_J26_intValue_b g J (a := x142) (v := nI r142) (wb := v3)  (hb_13)) dX3_read_148 rfl (rc_bxat B J (k := 8) rfl hb_13) rfl q3241 q1052 q1053 q111 q1054 rfl rfl moJ26_intValue rfl rfl (by decide) (by decide) (Nat.le_of_ble_eq_true rfl) (Nat.le_of_ble_eq_true rfl) (Nat.le_of_ble_eq_true rfl) (fun _ _ hx => noX_x hx) (fun v148 L1 hp148 => ?_)
              obtain ⟨rfl, rfl⟩ := hp148
              refine (show Go g κ 151 [some (.ref m), some (.int (nI i)), some (.int (nI j)), some (.ref x35), some (.ref x47), some (.ref ca), some (.int (oI ho)), some (.int (nI k))] [.int (nI r142)] [v0, v1, v2, v4, v5, v7, v6, [(m, .inr (12, [.ref ls, .ref lb, .ref lk, .ref lp, .ref lr, .ref le, .ref lm, .ref lo, .int (nI 0), .int (dZz D), .int (nI (dBn D)), .int (nI (dCm D))]))], v3] 10 60 from ?_)
              have hr9 : r142 < 100 := by
                obtain ⟨y, y1, y2⟩ := List.mem_map.mp (List.mem_of_getElem? hr142)
                rw [← y2]; exact (hcb4 y y1).1
              refine g_aload (q := 153) B dX3_read_151 rfl rfl (rv_r _) ?_
              refine g_getNM (q := 156) B (ci := 20) (k := 6) (j := 2) in_X22 rfl dX3_read_153 rfl rfl (hc_8_0) (Nat.le_of_ble_eq_true rfl) q3573 rfl rfl ?_
              refine g_icmp_ne (tgt := 164) (q := 159) B dX3_read_156 rfl (by decide) (not_congr (nI_eq (by omega) (by omega))) (fun c156 => ?_) (fun c156 => ?_)
              · skip
                refine g_iload (q := 166) B dX3_read_164 rfl rfl ?_
                refine g_istore (q := 168) (lv2 := [some (.ref m), some (.int (nI i)), some (.int (nI j)), some (.ref x35), some (.ref x47), some (.ref ca), some (.int (oI ho)), some (.int (nI k))]) B dX3_read_166 rfl (Nat.le_of_ble_eq_true rfl) rfl ?_
                refine g_iinc (v := nI (k + 1)) (q := 171) (lv2 := [some (.ref m), some (.int (nI i)), some (.int (nI j)), some (.ref x35), some (.ref x47), some (.ref ca), some (.int (oI ho)), some (.int (nI (k + 1)))]) B dX3_read_168 rfl rfl (nI_add _ 1) (Nat.le_of_ble_eq_true rfl) rfl ?_
                refine g_goto (tgt := 122) B dX3_read_171 (by decide) ?_
                refine g_pk [0, 0, 0, 0, 0, 0, 2, 0, 0] rfl rfl ?_
                refine (show Go g κ 122 [some (.ref m), some (.int (nI i)), some (.int (nI j)), some (.ref x35), some (.ref x47), some (.ref ca), some (.int (oI ho)), some (.int (nI (k + 1)))] [] [v0, v1, v2, v4, v5, v7, v3, v6, [(m, .inr (12, [.ref ls, .ref lb, .ref lk, .ref lp, .ref lr, .ref le, .ref lm, .ref lo, .int (nI 0), .int (dZz D), .int (nI (dBn D)), .int (nI (dCm D))]))]] 10 60 from ?_)
                exact ih122 _ (by omega) (k + 1) ho (by omega) (fun z n h => by rcases Nat.lt_or_ge n k with y | y; exact hho1 z n y; rw [show n = k by omega, hr142]; intro w; cases w; exact c156 rfl) (fun n h => by have := hho2 n h; exact ⟨by omega, this.2⟩) rfl
              · skip
                have c156 := Classical.not_not.mp c156
                refine g_iload (q := 161) B dX3_read_159 rfl rfl ?_
                refine g_goto (tgt := 166) B dX3_read_161 (by decide) ?_
                refine g_istore (q := 168) (lv2 := [some (.ref m), some (.int (nI i)), some (.int (nI j)), some (.ref x35), some (.ref x47), some (.ref ca), some (.int (nI k)), some (.int (nI k))]) B dX3_read_166 rfl (Nat.le_of_ble_eq_true rfl) rfl ?_
                refine g_iinc (v := nI (k + 1)) (q := 171) (lv2 := [some (.ref m), some (.int (nI i)), some (.int (nI j)), some (.ref x35), some (.ref x47), some (.ref ca), some (.int (nI k)), some (.int (nI (k + 1)))]) B dX3_read_168 rfl rfl (nI_add _ 1) (Nat.le_of_ble_eq_true rfl) rfl ?_
                refine g_goto (tgt := 122) B dX3_read_171 (by decide) ?_
                refine g_pk [0, 0, 0, 0, 0, 0, 2, 0, 0] rfl rfl ?_
                refine (show Go g κ 122 [some (.ref m), some (.int (nI i)), some (.int (nI j)), some (.ref x35), some (.ref x47), some (.ref ca), some (.int (nI k)), some (.int (nI (k + 1)))] [] [v0, v1, v2, v4, v5, v7, v3, v6, [(m, .inr (12, [.ref ls, .ref lb, .ref lk, .ref lp, .ref lr, .ref le, .ref lm, .ref lo, .int (nI 0), .int (dZz D), .int (nI (dBn D)), .int (nI (dCm D))]))]] 10 60 from ?_)
                exact ih122 _ (by omega) (k + 1) (some k) (by omega) (fun z => by cases z) (fun n h => by cases h; exact ⟨by omega, by rw [hr142, c156]⟩) rfl
          exact lp122 _ 0 none (Nat.zero_le _) (fun _ n h => absurd h (Nat.not_lt_zero n)) (fun n h => by cases h) rfl
        · skip
          refine g_iconst (v := nI 2) (q := 92) B dX3_read_91 rfl (by decide) ?_
          refine g_goto (tgt := 96) B dX3_read_92 (by decide) ?_
          refine g_callV (q := 99) (is := [6]) (kc2 := 10) (ks2 := 60) B [.int (nI 2)] (ct_X3_isWrong g J (m := m) (ls := ls) (lb := lb) (lk := lk) (lp := lp) (lr := lr) (le := le) (lm := lm) (lo := lo) (th := 0) (z := (dZz D)) (bo := (dBn D)) (cm := (dCm D)) (k := 2)  (by decide)) dX3_read_96 rfl (rc_at B (ci := 12) rfl (k := 6) rfl) rfl q3103 q3105 qs49 q85 q3106 rfl rfl moX3_isWrong rfl rfl (by decide) (by decide) (Nat.le_of_ble_eq_true rfl) (Nat.le_of_ble_eq_true rfl) (Nat.le_of_ble_eq_true rfl) (fun _ _ hx => noX_x hx) (fun v96 L1 hp96 => ?_)
          obtain ⟨rfl, rfl⟩ := hp96
          refine (show Go g κ 99 [some (.ref m), some (.int (nI i)), some (.int (nI j)), some (.ref x35), some (.ref x47), none, none, none] [.int (nI (if ¬ 2 = 0 then 1 else 0))] [v0, v1, v2, v4, v5, v7, v3, v6, [(m, .inr (12, [.ref ls, .ref lb, .ref lk, .ref lp, .ref lr, .ref le, .ref lm, .ref lo, .int (nI 2), .int (dZz D), .int (nI (dBn D)), .int (nI (dCm D))]))]] 10 60 from ?_)
          refine g_if_eq (tgt := 104) (q := 102) B dX3_read_99 rfl (by decide) (iff_false_intro (by decide)) (fun z => z.elim) (fun _ => ?_)
          refine g_iconst (v := nI 0) (q := 103) B dX3_read_102 rfl (by decide) ?_
          obtain ⟨wc_14, ewc_14⟩ : ∃ w : va_W, w = ([[(m, .inr (12, [.ref ls, .ref lb, .ref lk, .ref lp, .ref lr, .ref le, .ref lm, .ref lo, .int (nI 2), .int (dZz D), .int (nI (dBn D)), .int (nI (dCm D))]))], v0, v1, v2, v3, v4, v5, v6, v7] : List va_W).flatten := ⟨_, rfl⟩
          have hwc_14 : KdP g m (dT D 2) wc_14 := by
            rw [ewc_14]
            exact ⟨ls, lb, lk, lp, lr, le, lm, lo, kcap, pcap, rcap, ecap, mcap, mks, mps, _, _, _, _, _, _, _, _, hcap, hv0, hv1, hv2, hv3, hv4, hv5, hv6, hv7, rfl⟩
          refine g_close (w := wc_14) [8, 0, 0, 0, 3, 0, 0, 1, 0] rfl ewc_14 rfl ?_
          refine (show Go g κ 103 [some (.ref m), some (.int (nI i)), some (.int (nI j)), some (.ref x35), some (.ref x47), none, none, none] [.int (nI 0)] [wc_14] 10 60 from ?_)
          exact g_iret B E dX3_read_103 (⟨2, nI 0, _, rfl, rfl, hwc_14, Or.inr ⟨i, r0, j, q, rfl, hr0, rfl, hq, Or.inl ⟨rfl, by rintro ⟨c9, z1, z2, z3⟩; first | (exact c65 z1) | (rw [hc] at z2; cases z2; exact c88 z3)⟩⟩⟩)
