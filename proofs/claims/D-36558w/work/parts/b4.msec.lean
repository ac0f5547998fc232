set_option maxRecDepth 100000
theorem fnd_app (ss : List Sec) (s : Sec) (K : Ky) : fnd (ss ++ [s]) K = (fnd ss K).or (if sKy s = some K then some ss.length else none) := by
  unfold fnd
  rw [dv_app, List.findSome?_append]
  cases h : sKy s with
  | none => simp
  | some k =>
    by_cases e : k = K
    · subst e; simp
    · simp [e]
theorem fnd_ext {K : Ky} {i : Nat} : ∀ (t ss : List Sec), fnd ss K = some i → fnd (ss ++ t) K = some i
  | [], ss, h => by rw [List.append_nil]; exact h
  | s :: t, ss, h => by
    have e : ss ++ s :: t = (ss ++ [s]) ++ t := by simp
    rw [e]
    refine fnd_ext t _ ?_
    rw [fnd_app, h]; rfl
theorem fnd_tks {ss : List Sec} {K : Ky} {k : Nat} {s : Sec} (h : ss[k]? = some s) (hn : fnd (ss.take k) K = none) (hs : ¬ sKy s = some K) : fnd (ss.take (k + 1)) K = none := by
  rw [List.take_add_one, h]
  show fnd (ss.take k ++ [s]) K = none
  rw [fnd_app, hn, if_neg hs]; rfl
theorem fnd_hit {ss : List Sec} {K : Ky} {k : Nat} {s : Sec} (h : ss[k]? = some s) (hn : fnd (ss.take k) K = none) (hs : sKy s = some K) : fnd ss K = some k := by
  have h1 : fnd (ss.take (k + 1)) K = some k := by
    rw [List.take_add_one, h]
    show fnd (ss.take k ++ [s]) K = some k
    have hl := get_lt2 h
    rw [fnd_app, hn, if_pos hs, List.length_take, Nat.min_eq_left (by omega)]; rfl
  have h2 := fnd_ext (ss.drop (k + 1)) _ h1
  rw [List.take_append_drop] at h2
  exact h2
theorem sKy_e {s : Sec} {o l : Nat} {q : Option Nat} (h1 : s.2.1 = some o) (h2 : s.2.2.1 = q) (h3 : s.2.2.2 = l) : sKy s = some (o, q, l) := by
  unfold sKy; rw [h1, h2, h3]; rfl
theorem sKy_ne {s : Sec} {o l : Nat} {q : Option Nat} (h : ¬ (s.2.1 = some o ∧ s.2.2.1 = q ∧ s.2.2.2 = l)) : ¬ sKy s = some (o, q, l) := by
  intro z
  unfold sKy at z
  cases e : s.2.1 with
  | none => rw [e] at z; cases z
  | some a =>
    rw [e] at z
    simp at z
    exact h ⟨by rw [e, z.1], z.2.1, z.2.2⟩
theorem ct_X3_isWrong (g : Gv) (J : Jd g) {m : Nat} {ls : Nat} {lb : Nat} {lk : Nat} {lp : Nat} {lr : Nat} {le : Nat} {lm : Nat} {lo : Nat} {th : Nat} {z : Int32} {bo : Nat} {cm : Nat} {k : Nat} (hk : k < 10) : Ct g yX3_isWrong (ws_ yX3_isWrong cX3_isWrong 2 (some .boolean)) 0 0 0 [.ref m, .int (nI k)] [[(m, .inr (12, [.ref ls, .ref lb, .ref lk, .ref lp, .ref lr, .ref le, .ref lm, .ref lo, .int (nI th), .int z, .int (nI bo), .int (nI cm)]))]] (fun (rv_ : Option Value) (rL_ : List va_W) => rv_ = some (.int (nI (if ¬ k = 0 then 1 else 0))) ∧ rL_ = [[(m, .inr (12, [.ref ls, .ref lb, .ref lk, .ref lp, .ref lr, .ref le, .ref lm, .ref lo, .int (nI k), .int z, .int (nI bo), .int (nI cm)]))]]) noX := by
  refine Ct.of "KeygroveModel" [some (.ref m), some (.int (nI k))] rfl (by decide) rfl (Nat.le_of_ble_eq_true rfl) rfl ?_
  intro κ B E tb
  refine g_aload_n (q := 1) B dX3_isWrong_0 rfl rfl (rv_r _) ?_
  refine g_iload_n (q := 2) B dX3_isWrong_1 rfl rfl ?_
  refine g_put (q := 5) (L2 := [[(m, .inr (12, [.ref ls, .ref lb, .ref lk, .ref lp, .ref lr, .ref le, .ref lm, .ref lo, .int (nI k), .int z, .int (nI bo), .int (nI cm)]))]]) B (ci := 12) (k := 0) (j := 8) in_X3 tyX3 tyX3_ok nmX3 rfl dX3_isWrong_2 rfl rfl (Nat.le_of_ble_eq_true rfl) q3065 rfl rfl rfl rfl (Nat.le_of_ble_eq_true rfl) rfl ?_
  refine g_iload_n (q := 6) B dX3_isWrong_5 rfl rfl ?_
  refine g_if_eq (tgt := 13) (q := 9) B dX3_isWrong_6 rfl (by decide) (nI_eq0 (by omega)) (fun c6 => ?_) (fun c6 => ?_)
  · skip
    refine g_iconst (v := nI 0) (q := 14) B dX3_isWrong_13 rfl (by decide) ?_
    exact g_zret B E dX3_isWrong_14 (by decide) (⟨bo0 (by first | assumption | (exact fun z => z c6)), rfl⟩)
  · skip
    refine g_iconst (v := nI 1) (q := 10) B dX3_isWrong_9 rfl (by decide) ?_
    refine g_goto (tgt := 14) B dX3_isWrong_10 (by decide) ?_
    exact g_zret B E dX3_isWrong_14 (by decide) (⟨bo1 (by first | assumption | (exact fun z => z c6)), rfl⟩)
theorem nwX8 : ∀ j, j < 4 → defaultValue (tyX8 j) = vp_V [.int (nI 0), .int (nI 0), .int (nI 0), .int (nI 0)] j := by
  intro j hj
  match j, hj with
  | 0, _ => rfl
  | 1, _ => rfl
  | 2, _ => rfl
  | 3, _ => rfl
  | n + 4, hj => exact absurd hj (by omega)
theorem moX8_init : Mo yX8_init 4 := by
  refine ⟨by decide, by decide, by decide +kernel⟩
theorem moJ2_add : Mo yJ2_add 1 := by
  refine ⟨by decide, by decide, by decide +kernel⟩
theorem moJ2_size : Mo yJ2_size 0 := by
  refine ⟨by decide, by decide, by decide +kernel⟩
theorem ct_X3_laid (g : Gv) (J : Jd g) {m : Nat} {ls : Nat} {lb : Nat} {lk : Nat} {lp : Nat} {lr : Nat} {le : Nat} {lm : Nat} {lo : Nat} {th : Nat} {z : Int32} {bo : Nat} {cm : Nat} {ss : List Sec} {v : Int32} {o : Option Nat} {q : Option Nat} {l : Nat} {w1 : va_W} (hw1 : LhP g (SecP g) ls ss (capF ss.length) w1) (hl : ss.length < 999) (hB : SeB (v, o, q, l)) : Ct g yX3_laid (ws_ yX3_laid cX3_laid 5 (some .int)) 7 2 (4 + 4 * (capF (ss.length + 1) - capF ss.length)) [.ref m, .int v, .int (oI o), .int (oI q), .int (nI l)] [[(m, .inr (12, [.ref ls, .ref lb, .ref lk, .ref lp, .ref lr, .ref le, .ref lm, .ref lo, .int (nI th), .int z, .int (nI bo), .int (nI cm)]))], w1] (fun (rv_ : Option Value) (rL_ : List va_W) => ∃ (u1 : va_W), rv_ = some (.int (nI ss.length)) ∧ rL_ = [[(m, .inr (12, [.ref ls, .ref lb, .ref lk, .ref lp, .ref lr, .ref le, .ref lm, .ref lo, .int (nI th), .int z, .int (nI bo), .int (nI cm)]))], u1] ∧ LhP g (SecP g) ls (ss ++ [(v, o, q, l)]) (capF (ss ++ [(v, o, q, l)]).length) u1) noX := by
  refine Ct.of "KeygroveModel" [some (.ref m), some (.int v), some (.int (oI o)), some (.int (oI q)), some (.int (nI l))] rfl (by decide) rfl (Nat.le_of_ble_eq_true rfl) rfl ?_
  intro κ B E tb
  refine g_aload_n (q := 1) B dX3_laid_0 rfl rfl (rv_r _) ?_
  refine g_get (q := 4) B (ci := 12) (k := 0) (j := 0) in_X3 rfl dX3_laid_1 rfl rfl (Nat.le_of_ble_eq_true rfl) q3057 rfl rfl ?_
  refine g_new (q := 7) (kc2 := 1) (ks2 := (4 + 4 * (capF (ss.length + 1) - capF ss.length)) - 4) (fs := [.int (nI 0), .int (nI 0), .int (nI 0), .int (nI 0)]) B (ci := 14) in_X8 tyX8_ok rfl dX3_laid_4 rfl q3175 q3176 q120 (nwX8) (Nat.le_of_ble_eq_true rfl) (by omega) (fun n4 => ?_)
  refine (show Go g κ 7 [some (.ref m), some (.int v), some (.int (oI o)), some (.int (oI q)), some (.int (nI l))] [.ref n4, .ref ls] [[(m, .inr (12, [.ref ls, .ref lb, .ref lk, .ref lp, .ref lr, .ref le, .ref lm, .ref lo, .int (nI th), .int z, .int (nI bo), .int (nI cm)]))], w1, [(n4, .inr (14, [.int (nI 0), .int (nI 0), .int (nI 0), .int (nI 0)]))]] 1 ((4 + 4 * (capF (ss.length + 1) - capF ss.length)) - 4) from ?_)
  refine g_dup (q := 8) B dX3_laid_7 rfl rfl ?_
  refine g_iload_n (q := 9) B dX3_laid_8 rfl rfl ?_
  refine g_iload_n (q := 10) B dX3_laid_9 rfl rfl ?_
  refine g_iload_n (q := 11) B dX3_laid_10 rfl rfl ?_
  refine g_iload (q := 13) B dX3_laid_11 rfl rfl ?_
  refine g_callI (q := 16) (is := [2]) (kc2 := 1) (ks2 := (4 + 4 * (capF (ss.length + 1) - capF ss.length)) - 4) B [.int v, .int (oI o), .int (oI q), .int (nI l)] (ct_X8_init g J (a := n4) (v := v) (o := o) (q := q) (l := l)  ) dX3_laid_13 rfl rfl q3177 q3178 q120 q3179 rfl rfl moX8_init rfl rfl (by decide) (by decide) (Nat.le_of_ble_eq_true rfl) (Nat.le_of_ble_eq_true rfl) (by omega) (fun _ _ hx => noX_x hx) (fun v13 L1 hp13 => ?_)
  obtain ⟨rfl, rfl⟩ := hp13
  refine (show Go g κ 16 [some (.ref m), some (.int v), some (.int (oI o)), some (.int (oI q)), some (.int (nI l))] [.ref n4, .ref ls] [[(m, .inr (12, [.ref ls, .ref lb, .ref lk, .ref lp, .ref lr, .ref le, .ref lm, .ref lo, .int (nI th), .int z, .int (nI bo), .int (nI cm)]))], w1, [(n4, .inr (14, [.int v, .int (oI o), .int (oI q), .int (nI l)]))]] 1 ((4 + 4 * (capF (ss.length + 1) - capF ss.length)) - 4) from ?_)
  obtain ⟨wc_1, ewc_1⟩ : ∃ w : va_W, w = ([[(n4, .inr (14, [.int v, .int (oI o), .int (oI q), .int (nI l)]))]] : List va_W).flatten := ⟨_, rfl⟩
  have hwc_1 : SecP g n4 ((v, o, q, l) : Sec) wc_1 := by
    rw [ewc_1]
    exact ⟨hB, rfl⟩
  refine g_close (w := wc_1) [2] rfl ewc_1 rfl ?_
  refine (show Go g κ 16 [some (.ref m), some (.int v), some (.int (oI o)), some (.int (oI q)), some (.int (nI l))] [.ref n4, .ref ls] [[(m, .inr (12, [.ref ls, .ref lb, .ref lk, .ref lp, .ref lr, .ref le, .ref lm, .ref lo, .int (nI th), .int z, .int (nI bo), .int (nI cm)]))], w1, wc_1] 1 ((4 + 4 * (capF (ss.length + 1) - capF ss.length)) - 4) from ?_)
  obtain ⟨ps_2, md_2, hli_2, hln_2, hel_2⟩ := LhP.at (Sub.self hw1)
  refine g_callV (q := 19) (is := [1, 1]) (kc2 := 0) (ks2 := ((4 + 4 * (capF (ss.length + 1) - capF ss.length)) - 4) - (4 * (capF (ss.length + 1) - capF ss.length))) B [.ref n4] (ct_add_SecL g J (p := ls) (rs := ss) (cap := (capF ss.length)) (a := n4) (r := ((v, o, q, l) : Sec)) (mc := 1) (ms := (4 * (capF (ss.length + 1) - capF ss.length))) hw1 hwc_1 (by have := capF_le ss.length; omega) (fun h => ⟨Nat.le_refl _, capF_ms _ h⟩)) dX3_laid_16 rfl (rc_in B (ci := 21) rfl (k := 1) rfl (LhP.hm hw1)) rfl q3144 q711 q3666 q81 q713 rfl rfl moJ2_add rfl rfl (by decide) (by decide) (Nat.le_of_ble_eq_true rfl) (Nat.le_of_ble_eq_true rfl) (by omega) (fun _ _ hx => noX_x hx) (fun v16 L1 hp16 => ?_)
  obtain ⟨u0_16, rfl, rfl, hu0_16⟩ := hp16
  refine (show Go g κ 19 [some (.ref m), some (.int v), some (.int (oI o)), some (.int (oI q)), some (.int (nI l))] [.int (nI 1)] [[(m, .inr (12, [.ref ls, .ref lb, .ref lk, .ref lp, .ref lr, .ref le, .ref lm, .ref lo, .int (nI th), .int z, .int (nI bo), .int (nI cm)]))], u0_16] 0 (((4 + 4 * (capF (ss.length + 1) - capF ss.length)) - 4) - (4 * (capF (ss.length + 1) - capF ss.length))) from ?_)
  have hr_3 : LhP g (SecP g) ls (ss ++ [(v, o, q, l)]) (capF (ss ++ [(v, o, q, l)]).length) u0_16 := by have z := hu0_16; rw [capF_s] at z; rw [List.length_append]; exact z
  refine g_pop (q := 20) B dX3_laid_19 rfl rfl ?_
  refine g_aload_n (q := 21) B dX3_laid_20 rfl rfl (rv_r _) ?_
  refine g_get (q := 24) B (ci := 12) (k := 0) (j := 0) in_X3 rfl dX3_laid_21 rfl rfl (Nat.le_of_ble_eq_true rfl) q3057 rfl rfl ?_
  obtain ⟨ps_4, md_4, hli_4, hln_4, hel_4⟩ := LhP.at (Sub.self hr_3)
  refine g_callV (q := 27) (is := [1]) (kc2 := 0) (ks2 := ((4 + 4 * (capF (ss.length + 1) - capF ss.length)) - 4) - (4 * (capF (ss.length + 1) - capF ss.length))) B [] (ct_J2_size_s g J (p := ls) (xs := ps_4) (md := md_4) (cap := (capF (ss ++ [(v, o, q, l)]).length)) (W0 := u0_16)  (hli_4)) dX3_laid_24 rfl (rc_in B (ci := 21) rfl (k := 1) rfl (LhP.hm hr_3)) rfl q3102 q321 q3665 q81 q323 rfl rfl moJ2_size rfl rfl (by decide) (by decide) (Nat.le_of_ble_eq_true rfl) (Nat.le_of_ble_eq_true rfl) (by omega) (fun _ _ hx => noX_x hx) (fun v24 L1 hp24 => ?_)
  obtain ⟨rfl, rfl⟩ := hp24
  refine (show Go g κ 27 [some (.ref m), some (.int v), some (.int (oI o)), some (.int (oI q)), some (.int (nI l))] [.int (nI ps_4.length)] [[(m, .inr (12, [.ref ls, .ref lb, .ref lk, .ref lp, .ref lr, .ref le, .ref lm, .ref lo, .int (nI th), .int z, .int (nI bo), .int (nI cm)]))], u0_16] 0 (((4 + 4 * (capF (ss.length + 1) - capF ss.length)) - 4) - (4 * (capF (ss.length + 1) - capF ss.length))) from ?_)
  rw [hln_4.1]
  refine (show Go g κ 27 [some (.ref m), some (.int v), some (.int (oI o)), some (.int (oI q)), some (.int (nI l))] [.int (nI ((ss ++ [(v, o, q, l)]).length))] [[(m, .inr (12, [.ref ls, .ref lb, .ref lk, .ref lp, .ref lr, .ref le, .ref lm, .ref lo, .int (nI th), .int z, .int (nI bo), .int (nI cm)]))], u0_16] 0 (((4 + 4 * (capF (ss.length + 1) - capF ss.length)) - 4) - (4 * (capF (ss.length + 1) - capF ss.length))) from ?_)
  refine g_iconst (v := nI 1) (q := 28) B dX3_laid_27 rfl (by decide) ?_
  refine g_isub (v := nI ss.length) (q := 29) B dX3_laid_28 rfl (by rw [List.length_append]; exact pk_sub (by simp)) ?_
  exact g_iret B E dX3_laid_29 (⟨u0_16, rfl, rfl, hr_3⟩)
theorem moX3_mix : Mo yX3_mix 2 := by
  refine ⟨by decide, by decide, by decide +kernel⟩
theorem moX3_laid : Mo yX3_laid 4 := by
  refine ⟨by decide, by decide, by decide +kernel⟩
theorem ct_X3_drawn (g : Gv) (J : Jd g) {m : Nat} {ls : Nat} {lb : Nat} {lk : Nat} {lp : Nat} {lr : Nat} {le : Nat} {lm : Nat} {lo : Nat} {th : Nat} {z : Int32} {bo : Nat} {cm : Nat} {ss : List Sec} {w1 : va_W} (hw1 : LhP g (SecP g) ls ss (capF ss.length) w1) (hl : ss.length < 999) : Ct g yX3_drawn (ws_ yX3_drawn cX3_drawn 1 (some .int)) 8 2 (4 + 4 * (capF (ss.length + 1) - capF ss.length)) [.ref m] [[(m, .inr (12, [.ref ls, .ref lb, .ref lk, .ref lp, .ref lr, .ref le, .ref lm, .ref lo, .int (nI th), .int z, .int (nI bo), .int (nI cm)]))], w1] (fun (rv_ : Option Value) (rL_ : List va_W) => ∃ (u1 : va_W), rv_ = some (.int (nI ss.length)) ∧ rL_ = [[(m, .inr (12, [.ref ls, .ref lb, .ref lk, .ref lp, .ref lr, .ref le, .ref lm, .ref lo, .int (nI th), .int (lcg z), .int (nI bo), .int (nI cm)]))], u1] ∧ LhP g (SecP g) ls (ss ++ [drw z]) (capF (ss ++ [drw z]).length) u1) noX := by
  refine Ct.of "KeygroveModel" [some (.ref m)] rfl (by decide) rfl (Nat.le_of_ble_eq_true rfl) rfl ?_
  intro κ B E tb
  refine g_aload_n (q := 1) B dX3_drawn_0 rfl rfl (rv_r _) ?_
  refine g_aload_n (q := 2) B dX3_drawn_1 rfl rfl (rv_r _) ?_
  refine g_get (q := 5) B (ci := 12) (k := 0) (j := 9) in_X3 rfl dX3_drawn_2 rfl rfl (Nat.le_of_ble_eq_true rfl) q3066 rfl rfl ?_
  refine g_ldc (v := 1103515245) (q := 7) B dX3_drawn_5 rfl q3164 ?_
  refine g_imul (v := z * 1103515245) (q := 8) B dX3_drawn_7 rfl rfl ?_
  refine g_sipush (v := nI 12345) (q := 11) B dX3_drawn_8 rfl (by decide) ?_
  refine g_iadd (v := lcg z) (q := 12) B dX3_drawn_11 rfl (lcg_eq z) ?_
  refine g_put (q := 15) (L2 := [[(m, .inr (12, [.ref ls, .ref lb, .ref lk, .ref lp, .ref lr, .ref le, .ref lm, .ref lo, .int (nI th), .int (lcg z), .int (nI bo), .int (nI cm)]))], w1]) B (ci := 12) (k := 0) (j := 9) in_X3 tyX3 tyX3_ok nmX3 rfl dX3_drawn_12 rfl rfl (Nat.le_of_ble_eq_true rfl) q3066 rfl rfl rfl rfl (Nat.le_of_ble_eq_true rfl) rfl ?_
  refine g_aload_n (q := 16) B dX3_drawn_15 rfl rfl (rv_r _) ?_
  refine g_aload_n (q := 17) B dX3_drawn_16 rfl rfl (rv_r _) ?_
  refine g_get (q := 20) B (ci := 12) (k := 0) (j := 9) in_X3 rfl dX3_drawn_17 rfl rfl (Nat.le_of_ble_eq_true rfl) q3066 rfl rfl ?_
  refine g_iconst (v := nI 1) (q := 21) B dX3_drawn_20 rfl (by decide) ?_
  refine g_callS (q := 24) (is := []) (kc2 := 2) (ks2 := 4 + 4 * (capF (ss.length + 1) - capF ss.length)) B [.int (lcg z), .int (nI 1)] (ct_X3_mix g J (a := lcg z) (b := nI 1)  ) dX3_drawn_21 rfl q3165 q3166 q85 q3167 rfl rfl moX3_mix rfl rfl (by decide) (by decide) (Nat.le_of_ble_eq_true rfl) (Nat.le_of_ble_eq_true rfl) (by omega) (fun _ _ hx => noX_x hx) (fun v21 L1 hp21 => ?_)
  obtain ⟨rfl, rfl⟩ := hp21
  refine (show Go g κ 24 [some (.ref m)] [.int (mixI (lcg z) (nI 1)), .ref m] [[(m, .inr (12, [.ref ls, .ref lb, .ref lk, .ref lp, .ref lr, .ref le, .ref lm, .ref lo, .int (nI th), .int (lcg z), .int (nI bo), .int (nI cm)]))], w1] 2 (4 + 4 * (capF (ss.length + 1) - capF ss.length)) from ?_)
  refine g_iconst (v := -1) (q := 25) B dX3_drawn_24 rfl (by decide) ?_
  refine g_iconst (v := -1) (q := 26) B dX3_drawn_25 rfl (by decide) ?_
  refine g_iconst (v := nI 0) (q := 27) B dX3_drawn_26 rfl (by decide) ?_
  refine g_callV (q := 30) (is := [0, 0]) (kc2 := 0) (ks2 := (4 + 4 * (capF (ss.length + 1) - capF ss.length)) - (4 + 4 * (capF (ss.length + 1) - capF ss.length))) B [.int (mixI (lcg z) (nI 1)), .int (-1), .int (-1), .int (nI 0)] (ct_X3_laid g J (m := m) (ls := ls) (lb := lb) (lk := lk) (lp := lp) (lr := lr) (le := le) (lm := lm) (lo := lo) (th := th) (z := lcg z) (bo := bo) (cm := cm) (ss := ss) (v := mixI (lcg z) (nI 1)) (o := none) (q := none) (l := 0) hw1 (by first | assumption | omega | rfl) (⟨(fun n h => by cases h), (fun n h => by cases h), (show 0 < 1000 by decide)⟩)) dX3_drawn_27 rfl (rc_at B (ci := 12) rfl (k := 0) rfl) rfl q3171 q3173 qs53 q85 q3174 rfl rfl moX3_laid rfl rfl (by decide) (by decide) (Nat.le_of_ble_eq_true rfl) (Nat.le_of_ble_eq_true rfl) (by omega) (fun _ _ hx => noX_x hx) (fun v27 L1 hp27 => ?_)
  obtain ⟨u1_27, rfl, rfl, hu1_27⟩ := hp27
  refine (show Go g κ 30 [some (.ref m)] [.int (nI ss.length)] [[(m, .inr (12, [.ref ls, .ref lb, .ref lk, .ref lp, .ref lr, .ref le, .ref lm, .ref lo, .int (nI th), .int (lcg z), .int (nI bo), .int (nI cm)]))], u1_27] 0 ((4 + 4 * (capF (ss.length + 1) - capF ss.length)) - (4 + 4 * (capF (ss.length + 1) - capF ss.length))) from ?_)
  have hr_1 : LhP g (SecP g) ls (ss ++ [drw z]) (capF (ss ++ [drw z]).length) u1_27 := hu1_27
  exact g_iret B E dX3_drawn_30 (⟨u1_27, rfl, rfl, hr_1⟩)
theorem moJ2_get : Mo yJ2_get 1 := by
  refine ⟨by decide, by decide, by decide +kernel⟩
theorem ct_X3_of (g : Gv) (J : Jd g) {m : Nat} {ls : Nat} {lb : Nat} {lk : Nat} {lp : Nat} {lr : Nat} {le : Nat} {lm : Nat} {lo : Nat} {th : Nat} {z : Int32} {bo : Nat} {cm : Nat} {ss : List Sec} {o : Nat} {q : Option Nat} {l : Nat} {s2 : List Sec} {i : Nat} {w1 : va_W} (hw1 : LhP g (SecP g) ls ss (capF ss.length) w1) (hl : ss.length < 999) (ho : o < ss.length) (hq : ∀ n, q = some n → n < ss.length) (hlb : l < 1000) (hfr : frm ss (o, q, l) = (s2, i)) : Ct g yX3_of (ws_ yX3_of cX3_of 6 (some .int)) 8 2 (4 + 4 * (capF s2.length - capF ss.length)) [.ref m, .int (nI o), .int (oI q), .int (nI l)] [[(m, .inr (12, [.ref ls, .ref lb, .ref lk, .ref lp, .ref lr, .ref le, .ref lm, .ref lo, .int (nI th), .int z, .int (nI bo), .int (nI cm)]))], w1] (fun (rv_ : Option Value) (rL_ : List va_W) => ∃ (u1 : va_W), rv_ = some (.int (nI i)) ∧ rL_ = [[(m, .inr (12, [.ref ls, .ref lb, .ref lk, .ref lp, .ref lr, .ref le, .ref lm, .ref lo, .int (nI th), .int z, .int (nI bo), .int (nI cm)]))], u1] ∧ LhP g (SecP g) ls s2 (capF s2.length) u1) noX := by
  refine Ct.of "KeygroveModel" [some (.ref m), some (.int (nI o)), some (.int (oI q)), some (.int (nI l)), none, none] rfl (by decide) rfl (Nat.le_of_ble_eq_true rfl) rfl ?_
  intro κ B E tb
  refine g_iconst (v := nI 0) (q := 1) B dX3_of_0 rfl (by decide) ?_
  refine g_istore (q := 3) (lv2 := [some (.ref m), some (.int (nI o)), some (.int (oI q)), some (.int (nI l)), some (.int (nI 0)), none]) B dX3_of_1 rfl (Nat.le_of_ble_eq_true rfl) rfl ?_
  have lp3 : ∀ (n3 : Nat) (k : Nat) , (k ≤ ss.length) → (fnd (ss.take k) (o, q, l) = none) → ss.length - k = n3 → Go g κ 3 [some (.ref m), some (.int (nI o)), some (.int (oI q)), some (.int (nI l)), some (.int (nI k)), none] [] [[(m, .inr (12, [.ref ls, .ref lb, .ref lk, .ref lp, .ref lr, .ref le, .ref lm, .ref lo, .int (nI th), .int z, .int (nI bo), .int (nI cm)]))], w1] 2 (4 + 4 * (capF s2.length - capF ss.length)) := by
    intro n3
    induction n3 using Nat.strongRecOn with
    | _ n3 ih3 =>
    intro k  hk hn hmu3
    refine g_iload (q := 5) B dX3_of_3 rfl rfl ?_
    refine g_aload_n (q := 6) B dX3_of_5 rfl rfl (rv_r _) ?_
    refine g_get (q := 9) B (ci := 12) (k := 0) (j := 0) in_X3 rfl dX3_of_6 rfl rfl (Nat.le_of_ble_eq_true rfl) q3057 rfl rfl ?_
    obtain ⟨ps_1, md_1, hli_1, hln_1, hel_1⟩ := LhP.at (Sub.self hw1)
    refine g_callV (q := 12) (is := [1]) (kc2 := 2) (ks2 := 4 + 4 * (capF s2.length - capF ss.length)) B [] (ct_J2_size_s g J (p := ls) (xs := ps_1) (md := md_1) (cap := (capF ss.length)) (W0 := w1)  (hli_1)) dX3_of_9 rfl (rc_in B (ci := 21) rfl (k := 1) rfl (LhP.hm hw1)) rfl q3102 q321 q3665 q81 q323 rfl rfl moJ2_size rfl rfl (by decide) (by decide) (Nat.le_of_ble_eq_true rfl) (Nat.le_of_ble_eq_true rfl) (by omega) (fun _ _ hx => noX_x hx) (fun v9 L1 hp9 => ?_)
    obtain ⟨rfl, rfl⟩ := hp9
    refine (show Go g κ 12 [some (.ref m), some (.int (nI o)), some (.int (oI q)), some (.int (nI l)), some (.int (nI k)), none] [.int (nI ps_1.length), .int (nI k)] [[(m, .inr (12, [.ref ls, .ref lb, .ref lk, .ref lp, .ref lr, .ref le, .ref lm, .ref lo, .int (nI th), .int z, .int (nI bo), .int (nI cm)]))], w1] 2 (4 + 4 * (capF s2.length - capF ss.length)) from ?_)
    rw [hln_1.1]
    refine (show Go g κ 12 [some (.ref m), some (.int (nI o)), some (.int (oI q)), some (.int (nI l)), some (.int (nI k)), none] [.int (nI ss.length), .int (nI k)] [[(m, .inr (12, [.ref ls, .ref lb, .ref lk, .ref lp, .ref lr, .ref le, .ref lm, .ref lo, .int (nI th), .int z, .int (nI bo), .int (nI cm)]))], w1] 2 (4 + 4 * (capF s2.length - capF ss.length)) from ?_)
    refine g_icmp_ge (tgt := 65) (q := 15) B dX3_of_12 rfl (by decide) (nI_leI (by omega) (by omega)) (fun c12 => ?_) (fun c12 => ?_)
    · skip
      have hnf : fnd ss (o, q, l) = none := by rw [← hn, show k = ss.length by omega, List.take_length]
      have hfe := (frm_n hnf).symm.trans hfr
      obtain ⟨rfl, rfl⟩ := Prod.mk.inj hfe
      have hcl9 : capF (ss ++ [(fvl ss (o, q, l), some o, q, l)]).length = capF (ss.length + 1) := by rw [List.length_append]; rfl
      refine (show Go g κ 65 [some (.ref m), some (.int (nI o)), some (.int (oI q)), some (.int (nI l)), some (.int (nI k)), none] [] [[(m, .inr (12, [.ref ls, .ref lb, .ref lk, .ref lp, .ref lr, .ref le, .ref lm, .ref lo, .int (nI th), .int z, .int (nI bo), .int (nI cm)]))], w1] 2 (4 + 4 * (capF (ss ++ [(fvl ss (o, q, l), some o, q, l)]).length - capF ss.length)) from ?_)
      obtain ⟨so9, hso9⟩ := get_ex (xs := ss) (i := o) ho
      refine g_aload_n (q := 66) B dX3_of_65 rfl rfl (rv_r _) ?_
      refine g_get (q := 69) B (ci := 12) (k := 0) (j := 0) in_X3 rfl dX3_of_66 rfl rfl (Nat.le_of_ble_eq_true rfl) q3057 rfl rfl ?_
      refine g_iload_n (q := 70) B dX3_of_69 rfl rfl ?_
      obtain ⟨x70, hx70⟩ := get_ex (xs := ps_1) (i := o) (by have := get_lt2 (show ss[o]? = some so9 from hso9); have := hln_1.1; omega)
      have hE_2 := hel_1 _ _ _ hx70 (show ss[o]? = some so9 from hso9)
      refine g_callV (q := 73) (is := [1]) (kc2 := 2) (ks2 := 4 + 4 * (capF (ss ++ [(fvl ss (o, q, l), some o, q, l)]).length - capF ss.length)) B [.int (nI o)] (ct_J2_get_s g J (p := ls) (xs := ps_1) (md := md_1) (cap := (capF ss.length)) (i := o) (x := x70) (W0 := w1)  (hli_1) (hx70)) dX3_of_70 rfl (rc_in B (ci := 21) rfl (k := 1) rfl (LhP.hm hw1)) rfl q3231 q1095 q3667 q81 q1097 rfl rfl moJ2_get rfl rfl (by decide) (by decide) (Nat.le_of_ble_eq_true rfl) (Nat.le_of_ble_eq_true rfl) (by omega) (fun _ _ hx => noX_x hx) (fun v70 L1 hp70 => ?_)
      obtain ⟨rfl, rfl⟩ := hp70
      refine (show Go g κ 73 [some (.ref m), some (.int (nI o)), some (.int (oI q)), some (.int (nI l)), some (.int (nI k)), none] [.ref x70] [[(m, .inr (12, [.ref ls, .ref lb, .ref lk, .ref lp, .ref lr, .ref le, .ref lm, .ref lo, .int (nI th), .int z, .int (nI bo), .int (nI cm)]))], w1] 2 (4 + 4 * (capF (ss ++ [(fvl ss (o, q, l), some o, q, l)]).length - capF ss.length)) from ?_)
      refine g_castRS (ci := 14) (q := 76) B rfl (rc_in B (ci := 14) rfl (k := 1) rfl (Sub.hm (hE_2) fun _ z => SecP.hm z)) dX3_of_73 rfl q3175 ?_
      obtain ⟨hS_3, hc_3_0⟩ := SecP.at (hE_2)
      refine g_getNM (q := 79) B (ci := 14) (k := 1) (j := 0) in_X8 rfl dX3_of_76 rfl rfl (hc_3_0) (Nat.le_of_ble_eq_true rfl) q3182 rfl rfl ?_
      refine g_istore (q := 81) (lv2 := [some (.ref m), some (.int (nI o)), some (.int (oI q)), some (.int (nI l)), some (.int so9.1), none]) B dX3_of_79 rfl (Nat.le_of_ble_eq_true rfl) rfl ?_
      refine g_aload_n (q := 82) B dX3_of_81 rfl rfl (rv_r _) ?_
      refine g_iload_n (q := 83) B dX3_of_82 rfl rfl ?_
      refine g_iconst (v := -1) (q := 84) B dX3_of_83 rfl (by decide) ?_
      refine g_icmp_ne (tgt := 92) (q := 87) B dX3_of_84 rfl (by decide) (oI_nn ((fun n h => by have := hq n h; omega))) (fun c84 => ?_) (fun c84 => ?_)
      · skip
        obtain ⟨v84, ev84⟩ := Option.ne_none_iff_exists'.mp c84
        refine g_lvs (lv2 := [some (.ref m), some (.int (nI o)), some (.int (nI v84)), some (.int (nI l)), some (.int so9.1), none]) (st2 := [.ref m]) (by rw [(show oI q = nI v84 from by rw [ev84]; rfl)]) (by first | rfl | rw [(show oI q = nI v84 from by rw [ev84]; rfl)]) ?_
        obtain ⟨sq9, hsq9⟩ := get_ex (xs := ss) (i := v84) (hq _ ev84)
        refine g_iload (q := 94) B dX3_of_92 rfl rfl ?_
        refine g_aload_n (q := 95) B dX3_of_94 rfl rfl (rv_r _) ?_
        refine g_get (q := 98) B (ci := 12) (k := 0) (j := 0) in_X3 rfl dX3_of_95 rfl rfl (Nat.le_of_ble_eq_true rfl) q3057 rfl rfl ?_
        refine g_iload_n (q := 99) B dX3_of_98 rfl rfl ?_
        obtain ⟨x99, hx99⟩ := get_ex (xs := ps_1) (i := v84) (by have := get_lt2 (show ss[v84]? = some sq9 from hsq9); have := hln_1.1; omega)
        have hE_4 := hel_1 _ _ _ hx99 (show ss[v84]? = some sq9 from hsq9)
        refine g_callV (q := 102) (is := [1]) (kc2 := 2) (ks2 := 4 + 4 * (capF (ss ++ [(fvl ss (o, q, l), some o, q, l)]).length - capF ss.length)) B [.int (nI v84)] (ct_J2_get_s g J (p := ls) (xs := ps_1) (md := md_1) (cap := (capF ss.length)) (i := v84) (x := x99) (W0 := w1)  (hli_1) (hx99)) dX3_of_99 rfl (rc_in B (ci := 21) rfl (k := 1) rfl (LhP.hm hw1)) rfl q3231 q1095 q3667 q81 q1097 rfl rfl moJ2_get rfl rfl (by decide) (by decide) (Nat.le_of_ble_eq_true rfl) (Nat.le_of_ble_eq_true rfl) (by omega) (fun _ _ hx => noX_x hx) (fun v99 L1 hp99 => ?_)
        obtain ⟨rfl, rfl⟩ := hp99
        refine (show Go g κ 102 [some (.ref m), some (.int (nI o)), some (.int (nI v84)), some (.int (nI l)), some (.int so9.1), none] [.ref x99, .int so9.1, .ref m] [[(m, .inr (12, [.ref ls, .ref lb, .ref lk, .ref lp, .ref lr, .ref le, .ref lm, .ref lo, .int (nI th), .int z, .int (nI bo), .int (nI cm)]))], w1] 2 (4 + 4 * (capF (ss ++ [(fvl ss (o, q, l), some o, q, l)]).length - capF ss.length)) from ?_)
        refine g_castRS (ci := 14) (q := 105) B rfl (rc_in B (ci := 14) rfl (k := 1) rfl (Sub.hm (hE_4) fun _ z => SecP.hm z)) dX3_of_102 rfl q3175 ?_
        obtain ⟨hS_5, hc_5_0⟩ := SecP.at (hE_4)
        refine g_getNM (q := 108) B (ci := 14) (k := 1) (j := 0) in_X8 rfl dX3_of_105 rfl rfl (hc_5_0) (Nat.le_of_ble_eq_true rfl) q3182 rfl rfl ?_
        refine g_callS (q := 111) (is := []) (kc2 := 2) (ks2 := 4 + 4 * (capF (ss ++ [(fvl ss (o, q, l), some o, q, l)]).length - capF ss.length)) B [.int so9.1, .int sq9.1] (ct_X3_mix g J (a := so9.1) (b := sq9.1)  ) dX3_of_108 rfl q3165 q3166 q85 q3167 rfl rfl moX3_mix rfl rfl (by decide) (by decide) (Nat.le_of_ble_eq_true rfl) (Nat.le_of_ble_eq_true rfl) (by omega) (fun _ _ hx => noX_x hx) (fun v108 L1 hp108 => ?_)
        obtain ⟨rfl, rfl⟩ := hp108
        refine (show Go g κ 111 [some (.ref m), some (.int (nI o)), some (.int (nI v84)), some (.int (nI l)), some (.int so9.1), none] [.int (mixI so9.1 sq9.1), .ref m] [[(m, .inr (12, [.ref ls, .ref lb, .ref lk, .ref lp, .ref lr, .ref le, .ref lm, .ref lo, .int (nI th), .int z, .int (nI bo), .int (nI cm)]))], w1] 2 (4 + 4 * (capF (ss ++ [(fvl ss (o, q, l), some o, q, l)]).length - capF ss.length)) from ?_)
        refine g_iload_n (q := 112) B dX3_of_111 rfl rfl ?_
        refine g_callS (q := 115) (is := []) (kc2 := 2) (ks2 := 4 + 4 * (capF (ss ++ [(fvl ss (o, q, l), some o, q, l)]).length - capF ss.length)) B [.int (mixI so9.1 sq9.1), .int (nI l)] (ct_X3_mix g J (a := mixI so9.1 sq9.1) (b := nI l)  ) dX3_of_112 rfl q3165 q3166 q85 q3167 rfl rfl moX3_mix rfl rfl (by decide) (by decide) (Nat.le_of_ble_eq_true rfl) (Nat.le_of_ble_eq_true rfl) (by omega) (fun _ _ hx => noX_x hx) (fun v112 L1 hp112 => ?_)
        obtain ⟨rfl, rfl⟩ := hp112
        refine (show Go g κ 115 [some (.ref m), some (.int (nI o)), some (.int (nI v84)), some (.int (nI l)), some (.int so9.1), none] [.int (mixI (mixI so9.1 sq9.1) (nI l)), .ref m] [[(m, .inr (12, [.ref ls, .ref lb, .ref lk, .ref lp, .ref lr, .ref le, .ref lm, .ref lo, .int (nI th), .int z, .int (nI bo), .int (nI cm)]))], w1] 2 (4 + 4 * (capF (ss ++ [(fvl ss (o, q, l), some o, q, l)]).length - capF ss.length)) from ?_)
        refine g_iload_n (q := 116) B dX3_of_115 rfl rfl ?_
        refine g_iload_n (q := 117) B dX3_of_116 rfl rfl ?_
        refine g_iload_n (q := 118) B dX3_of_117 rfl rfl ?_
        have hfv : mixI (mixI so9.1 sq9.1) (nI l) = fvl ss (o, q, l) := by unfold fvl; rw [ev84]; show _ = mixI (mixI (vl ss o) (vl ss v84)) (nI l); rw [vl_eq hso9, vl_eq hsq9]
        rw [(show mixI (mixI so9.1 sq9.1) (nI l) = fvl ss (o, q, l) from hfv)]
        refine (show Go g κ 118 [some (.ref m), some (.int (nI o)), some (.int (nI v84)), some (.int (nI l)), some (.int so9.1), none] [.int (nI l), .int (nI v84), .int (nI o), .int (fvl ss (o, q, l)), .ref m] [[(m, .inr (12, [.ref ls, .ref lb, .ref lk, .ref lp, .ref lr, .ref le, .ref lm, .ref lo, .int (nI th), .int z, .int (nI bo), .int (nI cm)]))], w1] 2 (4 + 4 * (capF (ss ++ [(fvl ss (o, q, l), some o, q, l)]).length - capF ss.length)) from ?_)
        refine g_lvs (lv2 := [some (.ref m), some (.int (nI o)), some (.int (nI v84)), some (.int (nI l)), some (.int so9.1), none]) (st2 := [.int (nI l), .int (oI q), .int (nI o), .int (fvl ss (o, q, l)), .ref m]) rfl (by rw [ev84]; rfl) ?_
        refine g_callV (q := 121) (is := [0, 0]) (kc2 := 0) (ks2 := (4 + 4 * (capF (ss ++ [(fvl ss (o, q, l), some o, q, l)]).length - capF ss.length)) - (4 + 4 * (capF (ss.length + 1) - capF ss.length))) B [.int (fvl ss (o, q, l)), .int (nI o), .int (oI q), .int (nI l)] (ct_X3_laid g J (m := m) (ls := ls) (lb := lb) (lk := lk) (lp := lp) (lr := lr) (le := le) (lm := lm) (lo := lo) (th := th) (z := z) (bo := bo) (cm := cm) (ss := ss) (v := (fvl ss (o, q, l))) (o := (some o)) (q := q) (l := l) hw1 (by omega) (⟨(fun n h => by cases h; omega), (fun n h => by have := hq n h; omega), hlb⟩)) dX3_of_118 rfl (rc_at B (ci := 12) rfl (k := 0) rfl) rfl q3171 q3173 qs53 q85 q3174 rfl rfl moX3_laid rfl rfl (by decide) (by decide) (Nat.le_of_ble_eq_true rfl) (Nat.le_of_ble_eq_true rfl) (by omega) (fun _ _ hx => noX_x hx) (fun v118 L1 hp118 => ?_)
        obtain ⟨u1_118, rfl, rfl, hu1_118⟩ := hp118
        refine (show Go g κ 121 [some (.ref m), some (.int (nI o)), some (.int (nI v84)), some (.int (nI l)), some (.int so9.1), none] [.int (nI ss.length)] [[(m, .inr (12, [.ref ls, .ref lb, .ref lk, .ref lp, .ref lr, .ref le, .ref lm, .ref lo, .int (nI th), .int z, .int (nI bo), .int (nI cm)]))], u1_118] 0 ((4 + 4 * (capF (ss ++ [(fvl ss (o, q, l), some o, q, l)]).length - capF ss.length)) - (4 + 4 * (capF (ss.length + 1) - capF ss.length))) from ?_)
        exact g_iret B E dX3_of_121 (⟨u1_118, rfl, rfl, hu1_118⟩)
      · skip
        have c84 := Classical.not_not.mp c84
        refine g_lvs (lv2 := [some (.ref m), some (.int (nI o)), some (.int (-1)), some (.int (nI l)), some (.int so9.1), none]) (st2 := [.ref m]) (by rw [(show oI q = -1 from by rw [c84]; rfl)]) (by first | rfl | rw [(show oI q = -1 from by rw [c84]; rfl)]) ?_
        refine g_iload (q := 89) B dX3_of_87 rfl rfl ?_
        refine g_goto (tgt := 111) B dX3_of_89 (by decide) ?_
        refine g_iload_n (q := 112) B dX3_of_111 rfl rfl ?_
        refine g_callS (q := 115) (is := []) (kc2 := 2) (ks2 := 4 + 4 * (capF (ss ++ [(fvl ss (o, q, l), some o, q, l)]).length - capF ss.length)) B [.int so9.1, .int (nI l)] (ct_X3_mix g J (a := so9.1) (b := nI l)  ) dX3_of_112 rfl q3165 q3166 q85 q3167 rfl rfl moX3_mix rfl rfl (by decide) (by decide) (Nat.le_of_ble_eq_true rfl) (Nat.le_of_ble_eq_true rfl) (by omega) (fun _ _ hx => noX_x hx) (fun v112 L1 hp112 => ?_)
        obtain ⟨rfl, rfl⟩ := hp112
        refine (show Go g κ 115 [some (.ref m), some (.int (nI o)), some (.int (-1)), some (.int (nI l)), some (.int so9.1), none] [.int (mixI so9.1 (nI l)), .ref m] [[(m, .inr (12, [.ref ls, .ref lb, .ref lk, .ref lp, .ref lr, .ref le, .ref lm, .ref lo, .int (nI th), .int z, .int (nI bo), .int (nI cm)]))], w1] 2 (4 + 4 * (capF (ss ++ [(fvl ss (o, q, l), some o, q, l)]).length - capF ss.length)) from ?_)
        refine g_iload_n (q := 116) B dX3_of_115 rfl rfl ?_
        refine g_iload_n (q := 117) B dX3_of_116 rfl rfl ?_
        refine g_iload_n (q := 118) B dX3_of_117 rfl rfl ?_
        have hfv : mixI so9.1 (nI l) = fvl ss (o, q, l) := by unfold fvl; rw [c84]; show _ = mixI (vl ss o) (nI l); rw [vl_eq hso9]
        rw [(show mixI so9.1 (nI l) = fvl ss (o, q, l) from hfv)]
        refine (show Go g κ 118 [some (.ref m), some (.int (nI o)), some (.int (-1)), some (.int (nI l)), some (.int so9.1), none] [.int (nI l), .int (-1), .int (nI o), .int (fvl ss (o, q, l)), .ref m] [[(m, .inr (12, [.ref ls, .ref lb, .ref lk, .ref lp, .ref lr, .ref le, .ref lm, .ref lo, .int (nI th), .int z, .int (nI bo), .int (nI cm)]))], w1] 2 (4 + 4 * (capF (ss ++ [(fvl ss (o, q, l), some o, q, l)]).length - capF ss.length)) from ?_)
        refine g_lvs (lv2 := [some (.ref m), some (.int (nI o)), some (.int (-1)), some (.int (nI l)), some (.int so9.1), none]) (st2 := [.int (nI l), .int (oI q), .int (nI o), .int (fvl ss (o, q, l)), .ref m]) rfl (by rw [c84]; rfl) ?_
        refine g_callV (q := 121) (is := [0, 0]) (kc2 := 0) (ks2 := (4 + 4 * (capF (ss ++ [(fvl ss (o, q, l), some o, q, l)]).length - capF ss.length)) - (4 + 4 * (capF (ss.length + 1) - capF ss.length))) B [.int (fvl ss (o, q, l)), .int (nI o), .int (oI q), .int (nI l)] (ct_X3_laid g J (m := m) (ls := ls) (lb := lb) (lk := lk) (lp := lp) (lr := lr) (le := le) (lm := lm) (lo := lo) (th := th) (z := z) (bo := bo) (cm := cm) (ss := ss) (v := (fvl ss (o, q, l))) (o := (some o)) (q := q) (l := l) hw1 (by omega) (⟨(fun n h => by cases h; omega), (fun n h => by have := hq n h; omega), hlb⟩)) dX3_of_118 rfl (rc_at B (ci := 12) rfl (k := 0) rfl) rfl q3171 q3173 qs53 q85 q3174 rfl rfl moX3_laid rfl rfl (by decide) (by decide) (Nat.le_of_ble_eq_true rfl) (Nat.le_of_ble_eq_true rfl) (by omega) (fun _ _ hx => noX_x hx) (fun v118 L1 hp118 => ?_)
        obtain ⟨u1_118, rfl, rfl, hu1_118⟩ := hp118
        refine (show Go g κ 121 [some (.ref m), some (.int (nI o)), some (.int (-1)), some (.int (nI l)), some (.int so9.1), none] [.int (nI ss.length)] [[(m, .inr (12, [.ref ls, .ref lb, .ref lk, .ref lp, .ref lr, .ref le, .ref lm, .ref lo, .int (nI th), .int z, .int (nI bo), .int (nI cm)]))], u1_118] 0 ((4 + 4 * (capF (ss ++ [(fvl ss (o, q, l), some o, q, l)]).length - capF ss.length)) - (4 + 4 * (capF (ss.length + 1) - capF ss.length))) from ?_)
        exact g_iret B E dX3_of_121 (⟨u1_118, rfl, rfl, hu1_118⟩)
    · skip
      refine g_aload_n (q := 16) B dX3_of_15 rfl rfl (rv_r _) ?_
      refine g_get (q := 19) B (ci := 12) (k := 0) (j := 0) in_X3 rfl dX3_of_16 rfl rfl (Nat.le_of_ble_eq_true rfl) q3057 rfl rfl ?_
      refine g_iload (q := 21) B dX3_of_19 rfl rfl ?_
      obtain ⟨r21, hr21⟩ := get_ex (xs := ss) (i := k) (by omega)
      obtain ⟨x21, hx21⟩ := get_ex (xs := ps_1) (i := k) (by have := get_lt2 hr21; have := hln_1.1; omega)
      have hE_6 := hel_1 _ _ _ hx21 hr21
      refine g_callV (q := 24) (is := [1]) (kc2 := 2) (ks2 := 4 + 4 * (capF s2.length - capF ss.length)) B [.int (nI k)] (ct_J2_get_s g J (p := ls) (xs := ps_1) (md := md_1) (cap := (capF ss.length)) (i := k) (x := x21) (W0 := w1)  (hli_1) (hx21)) dX3_of_21 rfl (rc_in B (ci := 21) rfl (k := 1) rfl (LhP.hm hw1)) rfl q3231 q1095 q3667 q81 q1097 rfl rfl moJ2_get rfl rfl (by decide) (by decide) (Nat.le_of_ble_eq_true rfl) (Nat.le_of_ble_eq_true rfl) (by omega) (fun _ _ hx => noX_x hx) (fun v21 L1 hp21 => ?_)
      obtain ⟨rfl, rfl⟩ := hp21
      refine (show Go g κ 24 [some (.ref m), some (.int (nI o)), some (.int (oI q)), some (.int (nI l)), some (.int (nI k)), none] [.ref x21] [[(m, .inr (12, [.ref ls, .ref lb, .ref lk, .ref lp, .ref lr, .ref le, .ref lm, .ref lo, .int (nI th), .int z, .int (nI bo), .int (nI cm)]))], w1] 2 (4 + 4 * (capF s2.length - capF ss.length)) from ?_)
      refine g_castRS (ci := 14) (q := 27) B rfl (rc_in B (ci := 14) rfl (k := 1) rfl (Sub.hm (hE_6) fun _ z => SecP.hm z)) dX3_of_24 rfl q3175 ?_
      refine g_astore (q := 29) (lv2 := [some (.ref m), some (.int (nI o)), some (.int (oI q)), some (.int (nI l)), some (.int (nI k)), some (.ref x21)]) B dX3_of_27 rfl (Nat.le_of_ble_eq_true rfl) (rv_r _) rfl ?_
      have hsb8 := (SecP.at (hE_6)).1.2.2
      refine g_aload (q := 31) B dX3_of_29 rfl rfl (rv_r _) ?_
      obtain ⟨hS_7, hc_7_0⟩ := SecP.at (hE_6)
      refine g_getNM (q := 34) B (ci := 14) (k := 1) (j := 1) in_X8 rfl dX3_of_31 rfl rfl (hc_7_0) (Nat.le_of_ble_eq_true rfl) q3184 rfl rfl ?_
      refine g_iload_n (q := 35) B dX3_of_34 rfl rfl ?_
      refine g_icmp_ne (tgt := 59) (q := 38) B dX3_of_35 rfl (by decide) (oI_ne ((fun n h => by have := hS_7.1 n h; omega)) (by omega)) (fun c35 => ?_) (fun c35 => ?_)
      · skip
        refine g_iinc (v := nI (k + 1)) (q := 62) (lv2 := [some (.ref m), some (.int (nI o)), some (.int (oI q)), some (.int (nI l)), some (.int (nI (k + 1))), some (.ref x21)]) B dX3_of_59 rfl rfl (nI_add _ 1) (Nat.le_of_ble_eq_true rfl) rfl ?_
        refine g_goto (tgt := 3) B dX3_of_62 (by decide) ?_
        refine g_fg 5 rfl ?_
        exact ih3 _ (by have := get_lt2 hr21; omega) (k + 1) (by have := get_lt2 hr21; omega) (fnd_tks hr21 hn (sKy_ne (by rintro ⟨z1, z2, z3⟩; first | exact c35 z1 | exact c44 z2 | exact c53 z3))) rfl
      · skip
        have c35 := Classical.not_not.mp c35
        refine g_aload (q := 40) B dX3_of_38 rfl rfl (rv_r _) ?_
        refine g_getNM (q := 43) B (ci := 14) (k := 1) (j := 2) in_X8 rfl dX3_of_40 rfl rfl (hc_7_0) (Nat.le_of_ble_eq_true rfl) q3186 rfl rfl ?_
        refine g_iload_n (q := 44) B dX3_of_43 rfl rfl ?_
        refine g_icmp_ne (tgt := 59) (q := 47) B dX3_of_44 rfl (by decide) (not_congr (oI_oI ((fun n h => by have := hS_7.2.1 n h; omega)) ((fun n h => by have := hq n h; omega)))) (fun c44 => ?_) (fun c44 => ?_)
        · skip
          refine g_iinc (v := nI (k + 1)) (q := 62) (lv2 := [some (.ref m), some (.int (nI o)), some (.int (oI q)), some (.int (nI l)), some (.int (nI (k + 1))), some (.ref x21)]) B dX3_of_59 rfl rfl (nI_add _ 1) (Nat.le_of_ble_eq_true rfl) rfl ?_
          refine g_goto (tgt := 3) B dX3_of_62 (by decide) ?_
          refine g_fg 5 rfl ?_
          exact ih3 _ (by have := get_lt2 hr21; omega) (k + 1) (by have := get_lt2 hr21; omega) (fnd_tks hr21 hn (sKy_ne (by rintro ⟨z1, z2, z3⟩; first | exact c35 z1 | exact c44 z2 | exact c53 z3))) rfl
        · skip
          have c44 := Classical.not_not.mp c44
          refine g_aload (q := 49) B dX3_of_47 rfl rfl (rv_r _) ?_
          refine g_getNM (q := 52) B (ci := 14) (k := 1) (j := 3) in_X8 rfl dX3_of_49 rfl rfl (hc_7_0) (Nat.le_of_ble_eq_true rfl) q3188 rfl rfl ?_
          refine g_iload_n (q := 53) B dX3_of_52 rfl rfl ?_
          refine g_icmp_ne (tgt := 59) (q := 56) B dX3_of_53 rfl (by decide) (not_congr (nI_eq (by omega) (by omega))) (fun c53 => ?_) (fun c53 => ?_)
          · skip
            refine g_iinc (v := nI (k + 1)) (q := 62) (lv2 := [some (.ref m), some (.int (nI o)), some (.int (oI q)), some (.int (nI l)), some (.int (nI (k + 1))), some (.ref x21)]) B dX3_of_59 rfl rfl (nI_add _ 1) (Nat.le_of_ble_eq_true rfl) rfl ?_
            refine g_goto (tgt := 3) B dX3_of_62 (by decide) ?_
            refine g_fg 5 rfl ?_
            exact ih3 _ (by have := get_lt2 hr21; omega) (k + 1) (by have := get_lt2 hr21; omega) (fnd_tks hr21 hn (sKy_ne (by rintro ⟨z1, z2, z3⟩; first | exact c35 z1 | exact c44 z2 | exact c53 z3))) rfl
          · skip
            have c53 := Classical.not_not.mp c53
            refine g_iload (q := 58) B dX3_of_56 rfl rfl ?_
            exact g_iret B E dX3_of_58 (⟨w1, by have z := frm_s (fnd_hit hr21 hn (sKy_e c35 c44 c53)); rw [hfr] at z; cases z; rfl, rfl, by have z := frm_s (fnd_hit hr21 hn (sKy_e c35 c44 c53)); rw [hfr] at z; cases z; exact hw1⟩)
  exact lp3 _ 0 (Nat.zero_le _) (rfl) rfl
theorem nwX20 : ∀ j, j < 2 → defaultValue (tyX20 j) = vp_V [.int (nI 0), .int (nI 0)] j := by
  intro j hj
  match j, hj with
  | 0, _ => rfl
  | 1, _ => rfl
  | n + 2, hj => exact absurd hj (by omega)
theorem moX3_of : Mo yX3_of 3 := by
  refine ⟨by decide, by decide, by decide +kernel⟩
theorem moX20_init : Mo yX20_init 2 := by
  refine ⟨by decide, by decide, by decide +kernel⟩
theorem ct_X3_boxed (g : Gv) (J : Jd g) {m : Nat} {ls : Nat} {lb : Nat} {lk : Nat} {lp : Nat} {lr : Nat} {le : Nat} {lm : Nat} {lo : Nat} {th : Nat} {z : Int32} {bo : Nat} {cm : Nat} {ss : List Sec} {bx : List (Nat × Nat)} {c : Nat} {h : Nat} {s2 : List Sec} {i : Nat} {w1 : va_W} {w2 : va_W} (hw1 : LhP g (SecP g) ls ss (capF ss.length) w1) (hw2 : LhP g (BbP g) lb bx (capF bx.length) w2) (hl : ss.length < 999) (hh : h < ss.length) (hbl : bx.length < 2000) (hbn : bo < 100000) (hfr : frm ss (h, none, 1) = (s2, i)) : Ct g yX3_boxed (ws_ yX3_boxed cX3_boxed 3 none) 9 5 (8 + 4 * (capF s2.length - capF ss.length) + 4 * (capF (bx.length + 1) - capF bx.length)) [.ref m, .int (nI c), .int (nI h)] [[(m, .inr (12, [.ref ls, .ref lb, .ref lk, .ref lp, .ref lr, .ref le, .ref lm, .ref lo, .int (nI th), .int z, .int (nI bo), .int (nI cm)]))], w1, w2] (fun (rv_ : Option Value) (rL_ : List va_W) => ∃ (u1 : va_W) (u2 : va_W), rv_ = none ∧ rL_ = [[(m, .inr (12, [.ref ls, .ref lb, .ref lk, .ref lp, .ref lr, .ref le, .ref lm, .ref lo, .int (nI th), .int z, .int (nI (bo + 1)), .int (nI cm)]))], u1, u2] ∧ LhP g (SecP g) ls s2 (capF s2.length) u1 ∧ LhP g (BbP g) lb (bx ++ [(i, c)]) (capF (bx ++ [(i, c)]).length) u2) noX := by
  refine Ct.of "KeygroveModel" [some (.ref m), some (.int (nI c)), some (.int (nI h))] rfl (by decide) rfl (Nat.le_of_ble_eq_true rfl) rfl ?_
  intro κ B E tb
  refine g_aload_n (q := 1) B dX3_boxed_0 rfl rfl (rv_r _) ?_
  refine g_get (q := 4) B (ci := 12) (k := 0) (j := 1) in_X3 rfl dX3_boxed_1 rfl rfl (Nat.le_of_ble_eq_true rfl) q3058 rfl rfl ?_
  refine g_new (q := 7) (kc2 := 4) (ks2 := (8 + 4 * (capF s2.length - capF ss.length) + 4 * (capF (bx.length + 1) - capF bx.length)) - 2) (fs := [.int (nI 0), .int (nI 0)]) B (ci := 19) in_X20 tyX20_ok rfl dX3_boxed_4 rfl q3476 q3477 q146 (nwX20) (Nat.le_of_ble_eq_true rfl) (by omega) (fun n4 => ?_)
  refine (show Go g κ 7 [some (.ref m), some (.int (nI c)), some (.int (nI h))] [.ref n4, .ref lb] [[(m, .inr (12, [.ref ls, .ref lb, .ref lk, .ref lp, .ref lr, .ref le, .ref lm, .ref lo, .int (nI th), .int z, .int (nI bo), .int (nI cm)]))], w1, w2, [(n4, .inr (19, [.int (nI 0), .int (nI 0)]))]] 4 ((8 + 4 * (capF s2.length - capF ss.length) + 4 * (capF (bx.length + 1) - capF bx.length)) - 2) from ?_)
  refine g_dup (q := 8) B dX3_boxed_7 rfl rfl ?_
  refine g_aload_n (q := 9) B dX3_boxed_8 rfl rfl (rv_r _) ?_
  refine g_iload_n (q := 10) B dX3_boxed_9 rfl rfl ?_
  refine g_iconst (v := -1) (q := 11) B dX3_boxed_10 rfl (by decide) ?_
  refine g_iconst (v := nI 1) (q := 12) B dX3_boxed_11 rfl (by decide) ?_
  refine g_callV (q := 15) (is := [0, 0]) (kc2 := 2) (ks2 := 2 + 4 * (capF (bx.length + 1) - capF bx.length)) B [.int (nI h), .int (-1), .int (nI 1)] (ct_X3_of g J (m := m) (ls := ls) (lb := lb) (lk := lk) (lp := lp) (lr := lr) (le := le) (lm := lm) (lo := lo) (th := th) (z := z) (bo := bo) (cm := cm) (ss := ss) (o := h) (q := none) (l := 1) (s2 := s2) (i := i) hw1 (by first | assumption | omega | rfl) (hh) (fun n h => by cases h) (by decide) (hfr)) dX3_boxed_12 rfl (rc_at B (ci := 12) rfl (k := 0) rfl) rfl q3302 q3304 qs57 q85 q3305 rfl rfl moX3_of rfl rfl (by decide) (by decide) (Nat.le_of_ble_eq_true rfl) (Nat.le_of_ble_eq_true rfl) (by omega) (fun _ _ hx => noX_x hx) (fun v12 L1 hp12 => ?_)
  obtain ⟨u1_12, rfl, rfl, hu1_12⟩ := hp12
  refine (show Go g κ 15 [some (.ref m), some (.int (nI c)), some (.int (nI h))] [.int (nI i), .ref n4, .ref n4, .ref lb] [w2, [(n4, .inr (19, [.int (nI 0), .int (nI 0)]))], [(m, .inr (12, [.ref ls, .ref lb, .ref lk, .ref lp, .ref lr, .ref le, .ref lm, .ref lo, .int (nI th), .int z, .int (nI bo), .int (nI cm)]))], u1_12] 2 (2 + 4 * (capF (bx.length + 1) - capF bx.length)) from ?_)
  refine g_iload_n (q := 16) B dX3_boxed_15 rfl rfl ?_
  refine g_callI (q := 19) (is := [1]) (kc2 := 2) (ks2 := 2 + 4 * (capF (bx.length + 1) - capF bx.length)) B [.int (nI i), .int (nI c)] (ct_X20_init g J (a := n4) (o := i) (i := c)  ) dX3_boxed_16 rfl rfl q3478 q3479 q146 q3480 rfl rfl moX20_init rfl rfl (by decide) (by decide) (Nat.le_of_ble_eq_true rfl) (Nat.le_of_ble_eq_true rfl) (by omega) (fun _ _ hx => noX_x hx) (fun v16 L1 hp16 => ?_)
  obtain ⟨rfl, rfl⟩ := hp16
  refine (show Go g κ 19 [some (.ref m), some (.int (nI c)), some (.int (nI h))] [.ref n4, .ref lb] [w2, [(m, .inr (12, [.ref ls, .ref lb, .ref lk, .ref lp, .ref lr, .ref le, .ref lm, .ref lo, .int (nI th), .int z, .int (nI bo), .int (nI cm)]))], u1_12, [(n4, .inr (19, [.int (nI i), .int (nI c)]))]] 2 (2 + 4 * (capF (bx.length + 1) - capF bx.length)) from ?_)
  obtain ⟨wc_1, ewc_1⟩ : ∃ w : va_W, w = ([[(n4, .inr (19, [.int (nI i), .int (nI c)]))]] : List va_W).flatten := ⟨_, rfl⟩
  have hwc_1 : BbP g n4 ((i, c) : Nat × Nat) wc_1 := by
    rw [ewc_1]
    exact rfl
  refine g_close (w := wc_1) [3] rfl ewc_1 rfl ?_
  refine (show Go g κ 19 [some (.ref m), some (.int (nI c)), some (.int (nI h))] [.ref n4, .ref lb] [w2, [(m, .inr (12, [.ref ls, .ref lb, .ref lk, .ref lp, .ref lr, .ref le, .ref lm, .ref lo, .int (nI th), .int z, .int (nI bo), .int (nI cm)]))], u1_12, wc_1] 2 (2 + 4 * (capF (bx.length + 1) - capF bx.length)) from ?_)
  obtain ⟨ps_2, md_2, hli_2, hln_2, hel_2⟩ := LhP.at (Sub.self hw2)
  refine g_callV (q := 22) (is := [0, 2]) (kc2 := 1) (ks2 := (2 + 4 * (capF (bx.length + 1) - capF bx.length)) - (4 * (capF (bx.length + 1) - capF bx.length))) B [.ref n4] (ct_add_BbL g J (p := lb) (rs := bx) (cap := (capF bx.length)) (a := n4) (r := ((i, c) : Nat × Nat)) (mc := 1) (ms := (4 * (capF (bx.length + 1) - capF bx.length))) hw2 hwc_1 (by have := capF_le bx.length; omega) (fun h => ⟨Nat.le_refl _, capF_ms _ h⟩)) dX3_boxed_19 rfl (rc_in B (ci := 21) rfl (k := 0) rfl (LhP.hm hw2)) rfl q3144 q711 q3666 q81 q713 rfl rfl moJ2_add rfl rfl (by decide) (by decide) (Nat.le_of_ble_eq_true rfl) (Nat.le_of_ble_eq_true rfl) (by omega) (fun _ _ hx => noX_x hx) (fun v19 L1 hp19 => ?_)
  obtain ⟨u0_19, rfl, rfl, hu0_19⟩ := hp19
  refine (show Go g κ 22 [some (.ref m), some (.int (nI c)), some (.int (nI h))] [.int (nI 1)] [[(m, .inr (12, [.ref ls, .ref lb, .ref lk, .ref lp, .ref lr, .ref le, .ref lm, .ref lo, .int (nI th), .int z, .int (nI bo), .int (nI cm)]))], u1_12, u0_19] 1 ((2 + 4 * (capF (bx.length + 1) - capF bx.length)) - (4 * (capF (bx.length + 1) - capF bx.length))) from ?_)
  have hr_3 : LhP g (BbP g) lb (bx ++ [(i, c)]) (capF (bx ++ [(i, c)]).length) u0_19 := by have z := hu0_19; rw [capF_s] at z; rw [List.length_append]; exact z
  refine g_pop (q := 23) B dX3_boxed_22 rfl rfl ?_
  refine g_aload_n (q := 24) B dX3_boxed_23 rfl rfl (rv_r _) ?_
  refine g_dup (q := 25) B dX3_boxed_24 rfl rfl ?_
  refine g_get (q := 28) B (ci := 12) (k := 0) (j := 10) in_X3 rfl dX3_boxed_25 rfl rfl (Nat.le_of_ble_eq_true rfl) q3067 rfl rfl ?_
  refine g_iconst (v := nI 1) (q := 29) B dX3_boxed_28 rfl (by decide) ?_
  refine g_iadd (v := nI (bo + 1)) (q := 30) B dX3_boxed_29 rfl (nI_add _ _) ?_
  refine g_put (q := 33) (L2 := [[(m, .inr (12, [.ref ls, .ref lb, .ref lk, .ref lp, .ref lr, .ref le, .ref lm, .ref lo, .int (nI th), .int z, .int (nI (bo + 1)), .int (nI cm)]))], u1_12, u0_19]) B (ci := 12) (k := 0) (j := 10) in_X3 tyX3 tyX3_ok nmX3 rfl dX3_boxed_30 rfl rfl (Nat.le_of_ble_eq_true rfl) q3067 rfl rfl rfl rfl (Nat.le_of_ble_eq_true rfl) rfl ?_
  exact g_vret B E dX3_boxed_33 (⟨u1_12, u0_19, rfl, rfl, hu1_12, hr_3⟩)
