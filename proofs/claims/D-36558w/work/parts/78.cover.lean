set_option maxRecDepth 100000
theorem lft_b : ∀ n, n < 31 → 0 < lev n → lft n < 31 ∧ rgt n < 31 ∧ lev (lft n) = lev n - 1 ∧ lev (rgt n) = lev n - 1 := by decide +kernel
theorem cov_b {T : TrS} {n : Nat} (hn : n < 31) (h : T.2.1 n = none) (hl : 0 < lev n) : cov T n = cov T (lft n) ++ cov T (rgt n) := by
  obtain ⟨-, -, h1, h2⟩ := lft_b n hn hl
  unfold cov
  rw [h1, h2]
  obtain ⟨m, e⟩ : ∃ m, lev n = m + 1 := ⟨lev n - 1, by omega⟩
  rw [e, Nat.add_sub_cancel]
  show (if T.2.1 n = none then covF T m (lft n) ++ covF T m (rgt n) else _) = _
  rw [if_pos h]
theorem cov_0 {T : TrS} {n : Nat} (h : T.2.1 n = none) (hl : lev n = 0) : cov T n = [] := by
  unfold cov
  rw [hl]
  show (if T.2.1 n = none then [] else _) = _
  rw [if_pos h]
theorem cov_s {T : TrS} {n : Nat} (h : T.2.1 n ≠ none) : cov T n = n :: ltL (T.2.2.1 n) (2 ^ T.1) := by
  unfold cov
  cases lev n with
  | zero => show (if T.2.1 n = none then [] else _) = _; rw [if_neg h]
  | succ m => show (if T.2.1 n = none then _ else _) = _; rw [if_neg h]
theorem ltL_mo (s : Nat) {a b : Nat} (h : a ≤ b) : (ltL s a).length ≤ (ltL s b).length := by
  induction b with
  | zero => rw [Nat.le_zero.mp h]; exact Nat.le_refl _
  | succ b ih =>
    rcases Nat.lt_or_ge b a with z | z
    · rw [show a = b + 1 by omega]; exact Nat.le_refl _
    · refine Nat.le_trans (ih z) ?_
      rw [ltL_s]
      split
      · simp
      · exact Nat.le_refl _
theorem covF_len {T : TrS} (h : TrB T) : ∀ (f n : Nat), (covF T f n).length ≤ 17 * 2 ^ f
  | 0, n => by
    unfold covF
    split
    · simp
    · have h1 := ltL_len (T.2.2.1 n) (2 ^ T.1)
      have h2 := p2_4 h.1
      simp; omega
  | f + 1, n => by
    unfold covF
    have hf := Nat.two_pow_pos f
    split
    · have h1 := covF_len h f (lft n)
      have h2 := covF_len h f (rgt n)
      show (covF T f (lft n) ++ covF T f (rgt n)).length ≤ _
      rw [List.length_append, Nat.pow_succ]; omega
    · have h1 := ltL_len (T.2.2.1 n) (2 ^ T.1)
      have h2 := p2_4 h.1
      rw [List.length_cons, Nat.pow_succ]; omega
theorem cov_len {T : TrS} (h : TrB T) {n m : Nat} (hm : lev n = m) : (cov T n).length ≤ 17 * 2 ^ m := by rw [← hm]; exact covF_len h _ _
theorem moX1_has : Mo yX1_has 2 := by
  refine ⟨by decide, by decide, by decide +kernel⟩
theorem ct_X10_covers_0 (g : Gv) (J : Jd g) {t : Nat} {T : TrS} {n : Nat} {p : Nat} {vs : List Nat} {w0 : va_W} {w1 : va_W} (hw0 : TreeP g t T w0) (hw1 : LhP g (BxE g) p vs (capF vs.length) w1) (hn : n < 31) (hlv : lev n = 0) (hvl : vs.length + 17 < 100000) : Ct g yX10_covers_2 (ws_ yX10_covers_2 cX10_covers_2 4 none) 8 ((cov T n).length) (4 * (capF (vs ++ cov T n).length - capF vs.length)) [.ref t, .int (nI n), .ref p] [w0, w1] (fun (rv_ : Option Value) (rL_ : List va_W) => ∃ (u1 : va_W), rv_ = none ∧ rL_ = [w0, u1] ∧ LhP g (BxE g) p (vs ++ cov T n) (capF (vs ++ cov T n).length) u1) noX := by
  refine Ct.of "Keygrove$Tree" [some (.ref t), some (.int (nI n)), some (.ref p), none] rfl (by decide) rfl (Nat.le_of_ble_eq_true rfl) rfl ?_
  intro κ B E tb
  have hB := TreeP.b hw0
  have hp2 := p2_4 hB.1
  have hd4 := hB.1
  refine g_aload_n (q := 1) B dX10_covers_2_0 rfl rfl (rv_r _) ?_
  refine g_iload_n (q := 2) B dX10_covers_2_1 rfl rfl ?_
  refine g_callV (q := 5) (is := [0]) (kc2 := (cov T n).length) (ks2 := 4 * (capF (vs ++ cov T n).length - capF vs.length)) B [.int (nI n)] (ct_X10_isBlank g J (t := t) (T := T) (n := n) hw0 (by first | assumption | omega | rfl)) dX10_covers_2_2 rfl (rc_in B (ci := 5) rfl (k := 0) rfl (TreeP.hm hw0)) rfl q2553 q1145 q1146 q123 q1147 rfl rfl moX10_isBlank rfl rfl (by decide) (by decide) (Nat.le_of_ble_eq_true rfl) (by omega) (by omega) (fun _ _ hx => noX_x hx) (fun v2 L1 hp2 => ?_)
  obtain ⟨rfl, rfl⟩ := hp2
  refine (show Go g κ 5 [some (.ref t), some (.int (nI n)), some (.ref p), none] [.int (nI (if T.2.1 n = none then 1 else 0))] [w1, w0] ((cov T n).length) (4 * (capF (vs ++ cov T n).length - capF vs.length)) from ?_)
  refine g_if_ne (tgt := 64) (q := 8) B dX10_covers_2_5 rfl (by decide) (bo_ne) (fun c5 => ?_) (fun c5 => ?_)
  · skip
    refine g_iload_n (q := 65) B dX10_covers_2_64 rfl rfl ?_
    refine g_callS (q := 68) (is := []) (kc2 := (cov T n).length) (ks2 := 4 * (capF (vs ++ cov T n).length - capF vs.length)) B [.int (nI n)] (ct_X10_level g J (n := n)  (by first | assumption | omega | rfl)) dX10_covers_2_65 rfl q1796 q1797 q123 q1798 rfl rfl moX10_level rfl rfl (by decide) (by decide) (Nat.le_of_ble_eq_true rfl) (by omega) (by omega) (fun _ _ hx => noX_x hx) (fun v65 L1 hp65 => ?_)
    obtain ⟨rfl, rfl⟩ := hp65
    refine (show Go g κ 68 [some (.ref t), some (.int (nI n)), some (.ref p), none] [.int (nI (lev n))] [w1, w0] ((cov T n).length) (4 * (capF (vs ++ cov T n).length - capF vs.length)) from ?_)
    refine g_if_le (tgt := 89) (q := 71) B dX10_covers_2_68 rfl (by decide) (iff_true_intro (by rw [show lev n = 0 by omega]; decide)) (fun _ => ?_) (fun z => absurd trivial z)
    have hr_1 : LhP g (BxE g) p (vs ++ cov T n) (capF (vs ++ cov T n).length) w1 := by rw [cov_0 c5 (by omega), List.append_nil]; exact hw1
    refine g_pk [1, 0] rfl rfl ?_
    refine (show Go g κ 89 [some (.ref t), some (.int (nI n)), some (.ref p), none] [] [w0, w1] ((cov T n).length) (4 * (capF (vs ++ cov T n).length - capF vs.length)) from ?_)
    exact g_vret B E dX10_covers_2_89 (⟨w1, rfl, rfl, hr_1⟩)
  · skip
    have hcs : cov T n = n :: ltL (T.2.2.1 n) (2 ^ T.1) := cov_s c5
    have hsl := hB.2.2.1 n
    have hlE : (vs ++ cov T n).length = vs.length + 1 + (ltL (T.2.2.1 n) (2 ^ T.1)).length := by rw [hcs]; simp; omega
    have hlc : (cov T n).length = (ltL (T.2.2.1 n) (2 ^ T.1)).length + 1 := by rw [hcs]; simp
    have hm1 := capF_m (show vs.length + 1 ≤ (vs ++ cov T n).length by omega)
    have hm2 := capF_mo vs.length
    have hcv := cov_len hB hlv
    have hlE2 : (vs ++ cov T n).length = vs.length + (cov T n).length := by simp
    refine g_aload_n (q := 9) B dX10_covers_2_8 rfl rfl (rv_r _) ?_
    refine g_iload_n (q := 10) B dX10_covers_2_9 rfl rfl ?_
    refine g_callS (q := 13) (is := []) (kc2 := (cov T n).length) (ks2 := 4 * (capF (vs ++ cov T n).length - capF vs.length)) B [.int (nI n)] (ct_J26_valueOf_k g J (k := n)  (by omega)) dX10_covers_2_10 rfl q2510 q686 q111 q687 rfl rfl moJ26_valueOf rfl rfl (by decide) (by decide) (Nat.le_of_ble_eq_true rfl) (by omega) (by omega) (fun _ _ hx => noX_x hx) (fun v10 L1 hp10 => ?_)
    obtain ⟨rfl, rfl⟩ := hp10
    refine (show Go g κ 13 [some (.ref t), some (.int (nI n)), some (.ref p), none] [.ref (kI g n), .ref p] [w1, w0] ((cov T n).length) (4 * (capF (vs ++ cov T n).length - capF vs.length)) from ?_)
    obtain ⟨wc_2, ewc_2⟩ : ∃ w : va_W, w = ([] : List va_W).flatten := ⟨_, rfl⟩
    have hwc_2 : BxE g (kI g n) n wc_2 := by
      rw [ewc_2]
      exact kI_box g (by omega)
    refine g_close (w := wc_2) [] rfl ewc_2 rfl ?_
    refine (show Go g κ 13 [some (.ref t), some (.int (nI n)), some (.ref p), none] [.ref (kI g n), .ref p] [w1, w0, wc_2] ((cov T n).length) (4 * (capF (vs ++ cov T n).length - capF vs.length)) from ?_)
    obtain ⟨ps_3, md_3, hli_3, hln_3, hel_3⟩ := LhP.at (Sub.self hw1)
    refine g_callF (q := 18) (is := [0, 1]) (kc2 := ((cov T n).length) - 1) (ks2 := (4 * (capF (vs ++ cov T n).length - capF vs.length)) - (4 * (capF (vs.length + 1) - capF vs.length))) B [.ref (kI g n)] (ct_add_IlP g J (p := p) (rs := vs) (cap := (capF vs.length)) (a := (kI g n)) (r := n) (mc := 1) (ms := (4 * (capF (vs.length + 1) - capF vs.length))) hw1 hwc_2 (by have := capF_le vs.length; omega) (fun h => ⟨Nat.le_refl _, capF_ms _ h⟩)) dX10_covers_2_13 rfl (ci := 21) rfl (rc_in B (ci := 21) rfl (k := 0) rfl (LhP.hm hw1)) q2512 q709 q711 q81 q713 q708 q707 q712 q710 q318 rfl rfl mojava_util_List_add__Ljava_lang_Object__Z rfl rfl (by decide) (by decide) (Nat.le_of_ble_eq_true rfl) (by omega) (by omega) (fun _ _ hx => noX_x hx) (fun v13 L1 hp13 => ?_)
    obtain ⟨u0_13, rfl, rfl, hu0_13⟩ := hp13
    refine (show Go g κ 18 [some (.ref t), some (.int (nI n)), some (.ref p), none] [.int (nI 1)] [w0, u0_13] (((cov T n).length) - 1) ((4 * (capF (vs ++ cov T n).length - capF vs.length)) - (4 * (capF (vs.length + 1) - capF vs.length))) from ?_)
    have hX0 : (vs ++ (n :: ltL (T.2.2.1 n) 0)).length = vs.length + 1 := by simp [ltL]
    have hc0 : capF (vs ++ (n :: ltL (T.2.2.1 n) 0)).length = capF (vs.length + 1) := by rw [hX0]
    have hr_4 : LhP g (BxE g) p (vs ++ (n :: ltL (T.2.2.1 n) 0)) (capF (vs ++ (n :: ltL (T.2.2.1 n) 0)).length) u0_13 := by rw [hc0, ← capF_s]; exact hu0_13
    refine g_pop (q := 19) B dX10_covers_2_18 rfl rfl ?_
    refine g_iconst (v := nI 0) (q := 20) B dX10_covers_2_19 rfl (by decide) ?_
    refine g_istore_n (q := 21) (lv2 := [some (.ref t), some (.int (nI n)), some (.ref p), some (.int (nI 0))]) B dX10_covers_2_20 rfl (Nat.le_of_ble_eq_true rfl) rfl ?_
    have lp21 : ∀ (n21 : Nat) (k : Nat) (l21_1 : va_W), LhP g (BxE g) p (vs ++ (n :: ltL (T.2.2.1 n) k)) (capF (vs ++ (n :: ltL (T.2.2.1 n) k)).length) l21_1 → (k ≤ 2 ^ T.1) → 2 ^ T.1 - k = n21 → Go g κ 21 [some (.ref t), some (.int (nI n)), some (.ref p), some (.int (nI k))] [] [w0, l21_1] ((ltL (T.2.2.1 n) (2 ^ T.1)).length - (ltL (T.2.2.1 n) k).length) (4 * (capF (vs ++ cov T n).length - capF (vs ++ (n :: ltL (T.2.2.1 n) k)).length)) := by
      intro n21
      induction n21 using Nat.strongRecOn with
      | _ n21 ih21 =>
      intro k l21_1 hl21_1 hk hmu21
      refine g_iload_n (q := 22) B dX10_covers_2_21 rfl rfl ?_
      refine g_aload_n (q := 23) B dX10_covers_2_22 rfl rfl (rv_r _) ?_
      obtain ⟨as_5, al_5, ap_5, fs_5, fl_5, fp_5, hB_5, hfs_5, hfl_5, hfp_5, hc_5_0, hc_5_1, hc_5_2, hc_5_3⟩ := TreeP.at (Sub.self hw0)
      refine g_getM (q := 26) B (ci := 5) (k := 0) (j := 0) in_X10 rfl dX10_covers_2_23 rfl rfl (hc_5_0) (Nat.le_of_ble_eq_true rfl) q2035 rfl rfl ?_
      refine g_icmp_ge (tgt := 61) (q := 29) B dX10_covers_2_26 rfl (by decide) (nI_leI (by omega) (by omega)) (fun c26 => ?_) (fun c26 => ?_)
      · skip
        have hr_6 : LhP g (BxE g) p (vs ++ cov T n) (capF (vs ++ cov T n).length) l21_1 := by rw [hcs]; have z := hl21_1; rw [show k = 2 ^ T.1 by omega] at z; exact z
        refine g_goto (tgt := 89) B dX10_covers_2_61 (by decide) ?_
        exact g_vret B E dX10_covers_2_89 (⟨l21_1, rfl, rfl, hr_6⟩)
      · skip
        refine g_aload_n (q := 30) B dX10_covers_2_29 rfl rfl (rv_r _) ?_
        refine g_getM (q := 33) B (ci := 5) (k := 0) (j := 2) in_X10 rfl dX10_covers_2_30 rfl rfl (hc_5_0) (Nat.le_of_ble_eq_true rfl) q2041 rfl rfl ?_
        refine g_iload_n (q := 34) B dX10_covers_2_33 rfl rfl ?_
        refine g_ialdM (v := nI (T.2.2.1 n)) (q := 35) B (k := 0) dX10_covers_2_34 rfl rfl (hc_5_2) (vp_in_nI (by omega) (by omega)) (by rw [nI_clamp (by omega)]; exact hfl_5 _ (by omega)) ?_
        refine g_iload_n (q := 36) B dX10_covers_2_35 rfl rfl ?_
        refine g_callSN (q := 39) (is := []) (kc2 := (ltL (T.2.2.1 n) (2 ^ T.1)).length - (ltL (T.2.2.1 n) k).length) (ks2 := 4 * (capF (vs ++ cov T n).length - capF (vs ++ (n :: ltL (T.2.2.1 n) k)).length)) B [.int (nI (T.2.2.1 n)), .int (nI k)] (ct_X1_has g J (s := T.2.2.1 n) (l := k)  (by first | assumption | omega | rfl) (by first | assumption | omega | rfl)) dX10_covers_2_36 rfl q2575 q1801 q77 q1802 rfl rfl moX1_has rfl rfl (by decide) (by decide) (Nat.le_of_ble_eq_true rfl) (by omega) (by omega) (fun _ _ hx => noX_x hx) (fun v36 L1 hp36 => ?_)
        obtain ⟨rfl, rfl⟩ := hp36
        refine (show Go g κ 39 [some (.ref t), some (.int (nI n)), some (.ref p), some (.int (nI k))] [.int (nI (if hsB (T.2.2.1 n) k = true then 1 else 0))] [w0, l21_1] ((ltL (T.2.2.1 n) (2 ^ T.1)).length - (ltL (T.2.2.1 n) k).length) (4 * (capF (vs ++ cov T n).length - capF (vs ++ (n :: ltL (T.2.2.1 n) k)).length)) from ?_)
        refine g_if_eq (tgt := 55) (q := 42) B dX10_covers_2_39 rfl (by decide) (bo_eq) (fun c39 => ?_) (fun c39 => ?_)
        · skip
          have hls : ltL (T.2.2.1 n) (k + 1) = ltL (T.2.2.1 n) k := by rw [ltL_s, if_neg c39]
          have hc9 : capF (vs ++ (n :: ltL (T.2.2.1 n) (k + 1))).length = capF (vs ++ (n :: ltL (T.2.2.1 n) k)).length := by rw [hls]
          have hl9 : (ltL (T.2.2.1 n) (k + 1)).length = (ltL (T.2.2.1 n) k).length := by rw [hls]
          have hr_7 : LhP g (BxE g) p (vs ++ (n :: ltL (T.2.2.1 n) (k + 1))) (capF (vs ++ (n :: ltL (T.2.2.1 n) (k + 1))).length) l21_1 := by rw [hls]; exact hl21_1
          refine g_iinc (v := nI (k + 1)) (q := 58) (lv2 := [some (.ref t), some (.int (nI n)), some (.ref p), some (.int (nI (k + 1)))]) B dX10_covers_2_55 rfl rfl (nI_add _ 1) (Nat.le_of_ble_eq_true rfl) rfl ?_
          refine g_goto (tgt := 21) B dX10_covers_2_58 (by decide) ?_
          refine g_room (kc2 := (ltL (T.2.2.1 n) (2 ^ T.1)).length - (ltL (T.2.2.1 n) (k + 1)).length) (ks2 := 4 * (capF (vs ++ cov T n).length - capF (vs ++ (n :: ltL (T.2.2.1 n) (k + 1))).length)) (by omega) (by omega) ?_
          exact ih21 _ (by omega) (k + 1) l21_1 hr_7 (by first | assumption | omega | rfl) rfl
        · skip
          have c39 := Classical.not_not.mp c39
          have hls : ltL (T.2.2.1 n) (k + 1) = ltL (T.2.2.1 n) k ++ [2 * k] := by rw [ltL_s, if_pos c39]
          have hl1 : (ltL (T.2.2.1 n) (k + 1)).length = (ltL (T.2.2.1 n) k).length + 1 := by rw [hls]; simp
          have hl2 := ltL_mo (T.2.2.1 n) (show k + 1 ≤ 2 ^ T.1 by omega)
          have hX : (vs ++ (n :: ltL (T.2.2.1 n) (k + 1))).length = (vs ++ (n :: ltL (T.2.2.1 n) k)).length + 1 := by rw [hls]; simp only [List.length_append, List.length_cons, List.length_nil]; omega
          have hXk : (vs ++ (n :: ltL (T.2.2.1 n) k)).length = vs.length + 1 + (ltL (T.2.2.1 n) k).length := by simp only [List.length_append, List.length_cons]; omega
          have hc1 : capF (vs ++ (n :: ltL (T.2.2.1 n) (k + 1))).length = capF ((vs ++ (n :: ltL (T.2.2.1 n) k)).length + 1) := by rw [hX]
          have hc2 := capF_m (show (vs ++ (n :: ltL (T.2.2.1 n) k)).length + 1 ≤ (vs ++ cov T n).length by omega)
          have hc3 := capF_mo (vs ++ (n :: ltL (T.2.2.1 n) k)).length
          refine g_aload_n (q := 43) B dX10_covers_2_42 rfl rfl (rv_r _) ?_
          refine g_iconst (v := nI 2) (q := 44) B dX10_covers_2_43 rfl (by decide) ?_
          refine g_iload_n (q := 45) B dX10_covers_2_44 rfl rfl ?_
          refine g_imul (v := nI (2 * k)) (q := 46) B dX10_covers_2_45 rfl (pk_mul _ _) ?_
          refine g_callS (q := 49) (is := []) (kc2 := (ltL (T.2.2.1 n) (2 ^ T.1)).length - (ltL (T.2.2.1 n) k).length) (ks2 := 4 * (capF (vs ++ cov T n).length - capF (vs ++ (n :: ltL (T.2.2.1 n) k)).length)) B [.int (nI (2 * k))] (ct_J26_valueOf_k g J (k := 2 * k)  (by omega)) dX10_covers_2_46 rfl q2510 q686 q111 q687 rfl rfl moJ26_valueOf rfl rfl (by decide) (by decide) (Nat.le_of_ble_eq_true rfl) (by omega) (by omega) (fun _ _ hx => noX_x hx) (fun v46 L1 hp46 => ?_)
          obtain ⟨rfl, rfl⟩ := hp46
          refine (show Go g κ 49 [some (.ref t), some (.int (nI n)), some (.ref p), some (.int (nI k))] [.ref (kI g (2 * k)), .ref p] [w0, l21_1] ((ltL (T.2.2.1 n) (2 ^ T.1)).length - (ltL (T.2.2.1 n) k).length) (4 * (capF (vs ++ cov T n).length - capF (vs ++ (n :: ltL (T.2.2.1 n) k)).length)) from ?_)
          obtain ⟨wc_8, ewc_8⟩ : ∃ w : va_W, w = ([] : List va_W).flatten := ⟨_, rfl⟩
          have hwc_8 : BxE g (kI g (2 * k)) (2 * k) wc_8 := by
            rw [ewc_8]
            exact kI_box g (by omega)
          refine g_close (w := wc_8) [] rfl ewc_8 rfl ?_
          refine (show Go g κ 49 [some (.ref t), some (.int (nI n)), some (.ref p), some (.int (nI k))] [.ref (kI g (2 * k)), .ref p] [w0, l21_1, wc_8] ((ltL (T.2.2.1 n) (2 ^ T.1)).length - (ltL (T.2.2.1 n) k).length) (4 * (capF (vs ++ cov T n).length - capF (vs ++ (n :: ltL (T.2.2.1 n) k)).length)) from ?_)
          obtain ⟨ps_9, md_9, hli_9, hln_9, hel_9⟩ := LhP.at (Sub.self hl21_1)
          refine g_callF (q := 54) (is := [1, 1]) (kc2 := ((ltL (T.2.2.1 n) (2 ^ T.1)).length - (ltL (T.2.2.1 n) k).length) - 1) (ks2 := (4 * (capF (vs ++ cov T n).length - capF (vs ++ (n :: ltL (T.2.2.1 n) k)).length)) - (4 * (capF ((vs ++ (n :: ltL (T.2.2.1 n) k)).length + 1) - capF (vs ++ (n :: ltL (T.2.2.1 n) k)).length))) B [.ref (kI g (2 * k))] (ct_add_IlP g J (p := p) (rs := (vs ++ (n :: ltL (T.2.2.1 n) k))) (cap := (capF (vs ++ (n :: ltL (T.2.2.1 n) k)).length)) (a := (kI g (2 * k))) (r := (2 * k)) (mc := 1) (ms := (4 * (capF ((vs ++ (n :: ltL (T.2.2.1 n) k)).length + 1) - capF (vs ++ (n :: ltL (T.2.2.1 n) k)).length))) hl21_1 hwc_8 (by have := capF_le (vs ++ (n :: ltL (T.2.2.1 n) k)).length; omega) (fun h => ⟨Nat.le_refl _, capF_ms _ h⟩)) dX10_covers_2_49 rfl (ci := 21) rfl (rc_in B (ci := 21) rfl (k := 1) rfl (LhP.hm hl21_1)) q2512 q709 q711 q81 q713 q708 q707 q712 q710 q318 rfl rfl mojava_util_List_add__Ljava_lang_Object__Z rfl rfl (by decide) (by decide) (Nat.le_of_ble_eq_true rfl) (by omega) (by omega) (fun _ _ hx => noX_x hx) (fun v49 L1 hp49 => ?_)
          obtain ⟨u0_49, rfl, rfl, hu0_49⟩ := hp49
          refine (show Go g κ 54 [some (.ref t), some (.int (nI n)), some (.ref p), some (.int (nI k))] [.int (nI 1)] [w0, u0_49] (((ltL (T.2.2.1 n) (2 ^ T.1)).length - (ltL (T.2.2.1 n) k).length) - 1) ((4 * (capF (vs ++ cov T n).length - capF (vs ++ (n :: ltL (T.2.2.1 n) k)).length)) - (4 * (capF ((vs ++ (n :: ltL (T.2.2.1 n) k)).length + 1) - capF (vs ++ (n :: ltL (T.2.2.1 n) k)).length))) from ?_)
          have hr_10 : LhP g (BxE g) p (vs ++ (n :: ltL (T.2.2.1 n) (k + 1))) (capF (vs ++ (n :: ltL (T.2.2.1 n) (k + 1))).length) u0_49 := by rw [hc1, hls, ← capF_s]; have z := hu0_49; rw [List.append_assoc, List.cons_append] at z; exact z
          refine g_pop (q := 55) B dX10_covers_2_54 rfl rfl ?_
          refine g_iinc (v := nI (k + 1)) (q := 58) (lv2 := [some (.ref t), some (.int (nI n)), some (.ref p), some (.int (nI (k + 1)))]) B dX10_covers_2_55 rfl rfl (nI_add _ 1) (Nat.le_of_ble_eq_true rfl) rfl ?_
          refine g_goto (tgt := 21) B dX10_covers_2_58 (by decide) ?_
          refine g_room (kc2 := (ltL (T.2.2.1 n) (2 ^ T.1)).length - (ltL (T.2.2.1 n) (k + 1)).length) (ks2 := 4 * (capF (vs ++ cov T n).length - capF (vs ++ (n :: ltL (T.2.2.1 n) (k + 1))).length)) (by omega) (by omega) ?_
          exact ih21 _ (by omega) (k + 1) u0_49 hr_10 (by first | assumption | omega | rfl) rfl
    have hl00 : (ltL (T.2.2.1 n) 0).length = 0 := rfl
    refine g_room (kc2 := (ltL (T.2.2.1 n) (2 ^ T.1)).length - (ltL (T.2.2.1 n) 0).length) (ks2 := 4 * (capF (vs ++ cov T n).length - capF (vs ++ (n :: ltL (T.2.2.1 n) 0)).length)) (by omega) (by omega) ?_
    exact lp21 _ 0 u0_13 hr_4 (Nat.zero_le _) rfl
theorem moX10_left : Mo yX10_left 1 := by
  refine ⟨by decide, by decide, by decide +kernel⟩
theorem moX10_covers_2 : Mo yX10_covers_2 2 := by
  refine ⟨by decide, by decide, by decide +kernel⟩
theorem moX10_right : Mo yX10_right 1 := by
  refine ⟨by decide, by decide, by decide +kernel⟩
theorem ct_X10_covers_1 (g : Gv) (J : Jd g) {t : Nat} {T : TrS} {n : Nat} {p : Nat} {vs : List Nat} {w0 : va_W} {w1 : va_W} (hw0 : TreeP g t T w0) (hw1 : LhP g (BxE g) p vs (capF vs.length) w1) (hn : n < 31) (hlv : lev n = 1) (hvl : vs.length + 34 < 100000) : Ct g yX10_covers_2 (ws_ yX10_covers_2 cX10_covers_2 4 none) 9 ((cov T n).length) (4 * (capF (vs ++ cov T n).length - capF vs.length)) [.ref t, .int (nI n), .ref p] [w0, w1] (fun (rv_ : Option Value) (rL_ : List va_W) => ∃ (u1 : va_W), rv_ = none ∧ rL_ = [w0, u1] ∧ LhP g (BxE g) p (vs ++ cov T n) (capF (vs ++ cov T n).length) u1) noX := by
  refine Ct.of "Keygrove$Tree" [some (.ref t), some (.int (nI n)), some (.ref p), none] rfl (by decide) rfl (Nat.le_of_ble_eq_true rfl) rfl ?_
  intro κ B E tb
  have hB := TreeP.b hw0
  have hp2 := p2_4 hB.1
  have hd4 := hB.1
  refine g_aload_n (q := 1) B dX10_covers_2_0 rfl rfl (rv_r _) ?_
  refine g_iload_n (q := 2) B dX10_covers_2_1 rfl rfl ?_
  refine g_callV (q := 5) (is := [0]) (kc2 := (cov T n).length) (ks2 := 4 * (capF (vs ++ cov T n).length - capF vs.length)) B [.int (nI n)] (ct_X10_isBlank g J (t := t) (T := T) (n := n) hw0 (by first | assumption | omega | rfl)) dX10_covers_2_2 rfl (rc_in B (ci := 5) rfl (k := 0) rfl (TreeP.hm hw0)) rfl q2553 q1145 q1146 q123 q1147 rfl rfl moX10_isBlank rfl rfl (by decide) (by decide) (Nat.le_of_ble_eq_true rfl) (by omega) (by omega) (fun _ _ hx => noX_x hx) (fun v2 L1 hp2 => ?_)
  obtain ⟨rfl, rfl⟩ := hp2
  refine (show Go g κ 5 [some (.ref t), some (.int (nI n)), some (.ref p), none] [.int (nI (if T.2.1 n = none then 1 else 0))] [w1, w0] ((cov T n).length) (4 * (capF (vs ++ cov T n).length - capF vs.length)) from ?_)
  refine g_if_ne (tgt := 64) (q := 8) B dX10_covers_2_5 rfl (by decide) (bo_ne) (fun c5 => ?_) (fun c5 => ?_)
  · skip
    refine g_iload_n (q := 65) B dX10_covers_2_64 rfl rfl ?_
    refine g_callS (q := 68) (is := []) (kc2 := (cov T n).length) (ks2 := 4 * (capF (vs ++ cov T n).length - capF vs.length)) B [.int (nI n)] (ct_X10_level g J (n := n)  (by first | assumption | omega | rfl)) dX10_covers_2_65 rfl q1796 q1797 q123 q1798 rfl rfl moX10_level rfl rfl (by decide) (by decide) (Nat.le_of_ble_eq_true rfl) (by omega) (by omega) (fun _ _ hx => noX_x hx) (fun v65 L1 hp65 => ?_)
    obtain ⟨rfl, rfl⟩ := hp65
    refine (show Go g κ 68 [some (.ref t), some (.int (nI n)), some (.ref p), none] [.int (nI (lev n))] [w1, w0] ((cov T n).length) (4 * (capF (vs ++ cov T n).length - capF vs.length)) from ?_)
    refine g_if_le (tgt := 89) (q := 71) B dX10_covers_2_68 rfl (by decide) (iff_false_intro (by rw [nI_le0 (by omega)]; omega)) (fun z => z.elim) (fun _ => ?_)
    obtain ⟨hq1, hq2, hq3, hq4⟩ := lft_b n hn (by omega)
    have hcb := cov_b hn c5 (by omega)
    have hlb : (cov T n).length = (cov T (lft n)).length + (cov T (rgt n)).length := by rw [hcb]; simp
    have hE1 : capF (vs ++ cov T n).length = capF ((vs ++ cov T (lft n)) ++ cov T (rgt n)).length := by rw [hcb, List.append_assoc]
    have hm1 := capF_m (show vs.length ≤ (vs ++ cov T (lft n)).length by simp)
    have hm2 := capF_m (show (vs ++ cov T (lft n)).length ≤ ((vs ++ cov T (lft n)) ++ cov T (rgt n)).length by simp)
    have hlz := cov_len hB (n := lft n) (m := 0) (by omega)
    have hlz2 : (vs ++ cov T (lft n)).length = vs.length + (cov T (lft n)).length := by simp
    refine g_aload_n (q := 72) B dX10_covers_2_71 rfl rfl (rv_r _) ?_
    refine g_iload_n (q := 73) B dX10_covers_2_72 rfl rfl ?_
    refine g_callS (q := 76) (is := []) (kc2 := (cov T n).length) (ks2 := 4 * (capF (vs ++ cov T n).length - capF vs.length)) B [.int (nI n)] (ct_X10_left g J (n := n)  (by first | assumption | omega | rfl) (by first | assumption | omega | rfl)) dX10_covers_2_73 rfl q2576 q2562 q123 q2563 rfl rfl moX10_left rfl rfl (by decide) (by decide) (Nat.le_of_ble_eq_true rfl) (by omega) (by omega) (fun _ _ hx => noX_x hx) (fun v73 L1 hp73 => ?_)
    obtain ⟨rfl, rfl⟩ := hp73
    refine (show Go g κ 76 [some (.ref t), some (.int (nI n)), some (.ref p), none] [.int (nI (lft n)), .ref t] [w1, w0] ((cov T n).length) (4 * (capF (vs ++ cov T n).length - capF vs.length)) from ?_)
    refine g_aload_n (q := 77) B dX10_covers_2_76 rfl rfl (rv_r _) ?_
    refine g_callV (q := 80) (is := [1, 0]) (kc2 := ((cov T n).length) - ((cov T (lft n)).length)) (ks2 := (4 * (capF (vs ++ cov T n).length - capF vs.length)) - (4 * (capF (vs ++ cov T (lft n)).length - capF vs.length))) B [.int (nI (lft n)), .ref p] (ct_X10_covers_0 g J (t := t) (T := T) (n := lft n) (p := p) (vs := vs) hw0 hw1 (by omega) (by omega) (by omega)) dX10_covers_2_77 rfl (rc_in B (ci := 5) rfl (k := 1) rfl (TreeP.hm hw0)) rfl q2571 q2573 qs38 q123 q2574 rfl rfl moX10_covers_2 rfl rfl (by decide) (by decide) (Nat.le_of_ble_eq_true rfl) (by omega) (by omega) (fun _ _ hx => noX_x hx) (fun v77 L1 hp77 => ?_)
    obtain ⟨u1_77, rfl, rfl, hu1_77⟩ := hp77
    refine (show Go g κ 80 [some (.ref t), some (.int (nI n)), some (.ref p), none] [] [w0, u1_77] (((cov T n).length) - ((cov T (lft n)).length)) ((4 * (capF (vs ++ cov T n).length - capF vs.length)) - (4 * (capF (vs ++ cov T (lft n)).length - capF vs.length))) from ?_)
    refine g_aload_n (q := 81) B dX10_covers_2_80 rfl rfl (rv_r _) ?_
    refine g_iload_n (q := 82) B dX10_covers_2_81 rfl rfl ?_
    refine g_callS (q := 85) (is := []) (kc2 := ((cov T n).length) - ((cov T (lft n)).length)) (ks2 := (4 * (capF (vs ++ cov T n).length - capF vs.length)) - (4 * (capF (vs ++ cov T (lft n)).length - capF vs.length))) B [.int (nI n)] (ct_X10_right g J (n := n)  (by first | assumption | omega | rfl) (by first | assumption | omega | rfl)) dX10_covers_2_82 rfl q2577 q2565 q123 q2566 rfl rfl moX10_right rfl rfl (by decide) (by decide) (Nat.le_of_ble_eq_true rfl) (by omega) (by omega) (fun _ _ hx => noX_x hx) (fun v82 L1 hp82 => ?_)
    obtain ⟨rfl, rfl⟩ := hp82
    refine (show Go g κ 85 [some (.ref t), some (.int (nI n)), some (.ref p), none] [.int (nI (rgt n)), .ref t] [w0, u1_77] (((cov T n).length) - ((cov T (lft n)).length)) ((4 * (capF (vs ++ cov T n).length - capF vs.length)) - (4 * (capF (vs ++ cov T (lft n)).length - capF vs.length))) from ?_)
    refine g_aload_n (q := 86) B dX10_covers_2_85 rfl rfl (rv_r _) ?_
    refine g_callV (q := 89) (is := [0, 0]) (kc2 := (((cov T n).length) - ((cov T (lft n)).length)) - ((cov T (rgt n)).length)) (ks2 := ((4 * (capF (vs ++ cov T n).length - capF vs.length)) - (4 * (capF (vs ++ cov T (lft n)).length - capF vs.length))) - (4 * (capF ((vs ++ cov T (lft n)) ++ cov T (rgt n)).length - capF (vs ++ cov T (lft n)).length))) B [.int (nI (rgt n)), .ref p] (ct_X10_covers_0 g J (t := t) (T := T) (n := rgt n) (p := p) (vs := (vs ++ cov T (lft n))) hw0 hu1_77 (by omega) (by omega) (by omega)) dX10_covers_2_86 rfl (rc_in B (ci := 5) rfl (k := 0) rfl (TreeP.hm hw0)) rfl q2571 q2573 qs38 q123 q2574 rfl rfl moX10_covers_2 rfl rfl (by decide) (by decide) (Nat.le_of_ble_eq_true rfl) (by omega) (by omega) (fun _ _ hx => noX_x hx) (fun v86 L1 hp86 => ?_)
    obtain ⟨u1_86, rfl, rfl, hu1_86⟩ := hp86
    refine (show Go g κ 89 [some (.ref t), some (.int (nI n)), some (.ref p), none] [] [w0, u1_86] ((((cov T n).length) - ((cov T (lft n)).length)) - ((cov T (rgt n)).length)) (((4 * (capF (vs ++ cov T n).length - capF vs.length)) - (4 * (capF (vs ++ cov T (lft n)).length - capF vs.length))) - (4 * (capF ((vs ++ cov T (lft n)) ++ cov T (rgt n)).length - capF (vs ++ cov T (lft n)).length))) from ?_)
    have hr_1 : LhP g (BxE g) p (vs ++ cov T n) (capF (vs ++ cov T n).length) u1_86 := by rw [hcb, ← List.append_assoc]; exact hu1_86
    exact g_vret B E dX10_covers_2_89 (⟨u1_86, rfl, rfl, hr_1⟩)
  · skip
    have hcs : cov T n = n :: ltL (T.2.2.1 n) (2 ^ T.1) := cov_s c5
    have hsl := hB.2.2.1 n
    have hlE : (vs ++ cov T n).length = vs.length + 1 + (ltL (T.2.2.1 n) (2 ^ T.1)).length := by rw [hcs]; simp; omega
    have hlc : (cov T n).length = (ltL (T.2.2.1 n) (2 ^ T.1)).length + 1 := by rw [hcs]; simp
    have hm1 := capF_m (show vs.length + 1 ≤ (vs ++ cov T n).length by omega)
    have hm2 := capF_mo vs.length
    have hcv := cov_len hB hlv
    have hlE2 : (vs ++ cov T n).length = vs.length + (cov T n).length := by simp
    refine g_aload_n (q := 9) B dX10_covers_2_8 rfl rfl (rv_r _) ?_
    refine g_iload_n (q := 10) B dX10_covers_2_9 rfl rfl ?_
    refine g_callS (q := 13) (is := []) (kc2 := (cov T n).length) (ks2 := 4 * (capF (vs ++ cov T n).length - capF vs.length)) B [.int (nI n)] (ct_J26_valueOf_k g J (k := n)  (by omega)) dX10_covers_2_10 rfl q2510 q686 q111 q687 rfl rfl moJ26_valueOf rfl rfl (by decide) (by decide) (Nat.le_of_ble_eq_true rfl) (by omega) (by omega) (fun _ _ hx => noX_x hx) (fun v10 L1 hp10 => ?_)
    obtain ⟨rfl, rfl⟩ := hp10
    refine (show Go g κ 13 [some (.ref t), some (.int (nI n)), some (.ref p), none] [.ref (kI g n), .ref p] [w1, w0] ((cov T n).length) (4 * (capF (vs ++ cov T n).length - capF vs.length)) from ?_)
    obtain ⟨wc_2, ewc_2⟩ : ∃ w : va_W, w = ([] : List va_W).flatten := ⟨_, rfl⟩
    have hwc_2 : BxE g (kI g n) n wc_2 := by
      rw [ewc_2]
      exact kI_box g (by omega)
    refine g_close (w := wc_2) [] rfl ewc_2 rfl ?_
    refine (show Go g κ 13 [some (.ref t), some (.int (nI n)), some (.ref p), none] [.ref (kI g n), .ref p] [w1, w0, wc_2] ((cov T n).length) (4 * (capF (vs ++ cov T n).length - capF vs.length)) from ?_)
    obtain ⟨ps_3, md_3, hli_3, hln_3, hel_3⟩ := LhP.at (Sub.self hw1)
    refine g_callF (q := 18) (is := [0, 1]) (kc2 := ((cov T n).length) - 1) (ks2 := (4 * (capF (vs ++ cov T n).length - capF vs.length)) - (4 * (capF (vs.length + 1) - capF vs.length))) B [.ref (kI g n)] (ct_add_IlP g J (p := p) (rs := vs) (cap := (capF vs.length)) (a := (kI g n)) (r := n) (mc := 1) (ms := (4 * (capF (vs.length + 1) - capF vs.length))) hw1 hwc_2 (by have := capF_le vs.length; omega) (fun h => ⟨Nat.le_refl _, capF_ms _ h⟩)) dX10_covers_2_13 rfl (ci := 21) rfl (rc_in B (ci := 21) rfl (k := 0) rfl (LhP.hm hw1)) q2512 q709 q711 q81 q713 q708 q707 q712 q710 q318 rfl rfl mojava_util_List_add__Ljava_lang_Object__Z rfl rfl (by decide) (by decide) (Nat.le_of_ble_eq_true rfl) (by omega) (by omega) (fun _ _ hx => noX_x hx) (fun v13 L1 hp13 => ?_)
    obtain ⟨u0_13, rfl, rfl, hu0_13⟩ := hp13
    refine (show Go g κ 18 [some (.ref t), some (.int (nI n)), some (.ref p), none] [.int (nI 1)] [w0, u0_13] (((cov T n).length) - 1) ((4 * (capF (vs ++ cov T n).length - capF vs.length)) - (4 * (capF (vs.length + 1) - capF vs.length))) from ?_)
    have hX0 : (vs ++ (n :: ltL (T.2.2.1 n) 0)).length = vs.length + 1 := by simp [ltL]
    have hc0 : capF (vs ++ (n :: ltL (T.2.2.1 n) 0)).length = capF (vs.length + 1) := by rw [hX0]
    have hr_4 : LhP g (BxE g) p (vs ++ (n :: ltL (T.2.2.1 n) 0)) (capF (vs ++ (n :: ltL (T.2.2.1 n) 0)).length) u0_13 := by rw [hc0, ← capF_s]; exact hu0_13
    refine g_pop (q := 19) B dX10_covers_2_18 rfl rfl ?_
    refine g_iconst (v := nI 0) (q := 20) B dX10_covers_2_19 rfl (by decide) ?_
    refine g_istore_n (q := 21) (lv2 := [some (.ref t), some (.int (nI n)), some (.ref p), some (.int (nI 0))]) B dX10_covers_2_20 rfl (Nat.le_of_ble_eq_true rfl) rfl ?_
    have lp21 : ∀ (n21 : Nat) (k : Nat) (l21_1 : va_W), LhP g (BxE g) p (vs ++ (n :: ltL (T.2.2.1 n) k)) (capF (vs ++ (n :: ltL (T.2.2.1 n) k)).length) l21_1 → (k ≤ 2 ^ T.1) → 2 ^ T.1 - k = n21 → Go g κ 21 [some (.ref t), some (.int (nI n)), some (.ref p), some (.int (nI k))] [] [w0, l21_1] ((ltL (T.2.2.1 n) (2 ^ T.1)).length - (ltL (T.2.2.1 n) k).length) (4 * (capF (vs ++ cov T n).length - capF (vs ++ (n :: ltL (T.2.2.1 n) k)).length)) := by
      intro n21
      induction n21 using Nat.strongRecOn with
      | _ n21 ih21 =>
      intro k l21_1 hl21_1 hk hmu21
      refine g_iload_n (q := 22) B dX10_covers_2_21 rfl rfl ?_
      refine g_aload_n (q := 23) B dX10_covers_2_22 rfl rfl (rv_r _) ?_
      obtain ⟨as_5, al_5, ap_5, fs_5, fl_5, fp_5, hB_5, hfs_5, hfl_5, hfp_5, hc_5_0, hc_5_1, hc_5_2, hc_5_3⟩ := TreeP.at (Sub.self hw0)
      refine g_getM (q := 26) B (ci := 5) (k := 0) (j := 0) in_X10 rfl dX10_covers_2_23 rfl rfl (hc_5_0) (Nat.le_of_ble_eq_true rfl) q2035 rfl rfl ?_
      refine g_icmp_ge (tgt := 61) (q := 29) B dX10_covers_2_26 rfl (by decide) (nI_leI (by omega) (by omega)) (fun c26 => ?_) (fun c26 => ?_)
      · skip
        have hr_6 : LhP g (BxE g) p (vs ++ cov T n) (capF (vs ++ cov T n).length) l21_1 := by rw [hcs]; have z := hl21_1; rw [show k = 2 ^ T.1 by omega] at z; exact z
        refine g_goto (tgt := 89) B dX10_covers_2_61 (by decide) ?_
        exact g_vret B E dX10_covers_2_89 (⟨l21_1, rfl, rfl, hr_6⟩)
      · skip
        refine g_aload_n (q := 30) B dX10_covers_2_29 rfl rfl (rv_r _) ?_
        refine g_getM (q := 33) B (ci := 5) (k := 0) (j := 2) in_X10 rfl dX10_covers_2_30 rfl rfl (hc_5_0) (Nat.le_of_ble_eq_true rfl) q2041 rfl rfl ?_
        refine g_iload_n (q := 34) B dX10_covers_2_33 rfl rfl ?_
        refine g_ialdM (v := nI (T.2.2.1 n)) (q := 35) B (k := 0) dX10_covers_2_34 rfl rfl (hc_5_2) (vp_in_nI (by omega) (by omega)) (by rw [nI_clamp (by omega)]; exact hfl_5 _ (by omega)) ?_
        refine g_iload_n (q := 36) B dX10_covers_2_35 rfl rfl ?_
        refine g_callSN (q := 39) (is := []) (kc2 := (ltL (T.2.2.1 n) (2 ^ T.1)).length - (ltL (T.2.2.1 n) k).length) (ks2 := 4 * (capF (vs ++ cov T n).length - capF (vs ++ (n :: ltL (T.2.2.1 n) k)).length)) B [.int (nI (T.2.2.1 n)), .int (nI k)] (ct_X1_has g J (s := T.2.2.1 n) (l := k)  (by first | assumption | omega | rfl) (by first | assumption | omega | rfl)) dX10_covers_2_36 rfl q2575 q1801 q77 q1802 rfl rfl moX1_has rfl rfl (by decide) (by decide) (Nat.le_of_ble_eq_true rfl) (by omega) (by omega) (fun _ _ hx => noX_x hx) (fun v36 L1 hp36 => ?_)
        obtain ⟨rfl, rfl⟩ := hp36
        refine (show Go g κ 39 [some (.ref t), some (.int (nI n)), some (.ref p), some (.int (nI k))] [.int (nI (if hsB (T.2.2.1 n) k = true then 1 else 0))] [w0, l21_1] ((ltL (T.2.2.1 n) (2 ^ T.1)).length - (ltL (T.2.2.1 n) k).length) (4 * (capF (vs ++ cov T n).length - capF (vs ++ (n :: ltL (T.2.2.1 n) k)).length)) from ?_)
        refine g_if_eq (tgt := 55) (q := 42) B dX10_covers_2_39 rfl (by decide) (bo_eq) (fun c39 => ?_) (fun c39 => ?_)
        · skip
          have hls : ltL (T.2.2.1 n) (k + 1) = ltL (T.2.2.1 n) k := by rw [ltL_s, if_neg c39]
          have hc9 : capF (vs ++ (n :: ltL (T.2.2.1 n) (k + 1))).length = capF (vs ++ (n :: ltL (T.2.2.1 n) k)).length := by rw [hls]
          have hl9 : (ltL (T.2.2.1 n) (k + 1)).length = (ltL (T.2.2.1 n) k).length := by rw [hls]
          have hr_7 : LhP g (BxE g) p (vs ++ (n :: ltL (T.2.2.1 n) (k + 1))) (capF (vs ++ (n :: ltL (T.2.2.1 n) (k + 1))).length) l21_1 := by rw [hls]; exact hl21_1
          refine g_iinc (v := nI (k + 1)) (q := 58) (lv2 := [some (.ref t), some (.int (nI n)), some (.ref p), some (.int (nI (k + 1)))]) B dX10_covers_2_55 rfl rfl (nI_add _ 1) (Nat.le_of_ble_eq_true rfl) rfl ?_
          refine g_goto (tgt := 21) B dX10_covers_2_58 (by decide) ?_
          refine g_room (kc2 := (ltL (T.2.2.1 n) (2 ^ T.1)).length - (ltL (T.2.2.1 n) (k + 1)).length) (ks2 := 4 * (capF (vs ++ cov T n).length - capF (vs ++ (n :: ltL (T.2.2.1 n) (k + 1))).length)) (by omega) (by omega) ?_
          exact ih21 _ (by omega) (k + 1) l21_1 hr_7 (by first | assumption | omega | rfl) rfl
        · skip
          have c39 := Classical.not_not.mp c39
          have hls : ltL (T.2.2.1 n) (k + 1) = ltL (T.2.2.1 n) k ++ [2 * k] := by rw [ltL_s, if_pos c39]
          have hl1 : (ltL (T.2.2.1 n) (k + 1)).length = (ltL (T.2.2.1 n) k).length + 1 := by rw [hls]; simp
          have hl2 := ltL_mo (T.2.2.1 n) (show k + 1 ≤ 2 ^ T.1 by omega)
          have hX : (vs ++ (n :: ltL (T.2.2.1 n) (k + 1))).length = (vs ++ (n :: ltL (T.2.2.1 n) k)).length + 1 := by rw [hls]; simp only [List.length_append, List.length_cons, List.length_nil]; omega
          have hXk : (vs ++ (n :: ltL (T.2.2.1 n) k)).length = vs.length + 1 + (ltL (T.2.2.1 n) k).length := by simp only [List.length_append, List.length_cons]; omega
          have hc1 : capF (vs ++ (n :: ltL (T.2.2.1 n) (k + 1))).length = capF ((vs ++ (n :: ltL (T.2.2.1 n) k)).length + 1) := by rw [hX]
          have hc2 := capF_m (show (vs ++ (n :: ltL (T.2.2.1 n) k)).length + 1 ≤ (vs ++ cov T n).length by omega)
          have hc3 := capF_mo (vs ++ (n :: ltL (T.2.2.1 n) k)).length
          refine g_aload_n (q := 43) B dX10_covers_2_42 rfl rfl (rv_r _) ?_
          refine g_iconst (v := nI 2) (q := 44) B dX10_covers_2_43 rfl (by decide) ?_
          refine g_iload_n (q := 45) B dX10_covers_2_44 rfl rfl ?_
          refine g_imul (v := nI (2 * k)) (q := 46) B dX10_covers_2_45 rfl (pk_mul _ _) ?_
          refine g_callS (q := 49) (is := []) (kc2 := (ltL (T.2.2.1 n) (2 ^ T.1)).length - (ltL (T.2.2.1 n) k).length) (ks2 := 4 * (capF (vs ++ cov T n).length - capF (vs ++ (n :: ltL (T.2.2.1 n) k)).length)) B [.int (nI (2 * k))] (ct_J26_valueOf_k g J (k := 2 * k)  (by omega)) dX10_covers_2_46 rfl q2510 q686 q111 q687 rfl rfl moJ26_valueOf rfl rfl (by decide) (by decide) (Nat.le_of_ble_eq_true rfl) (by omega) (by omega) (fun _ _ hx => noX_x hx) (fun v46 L1 hp46 => ?_)
          obtain ⟨rfl, rfl⟩ := hp46
          refine (show Go g κ 49 [some (.ref t), some (.int (nI n)), some (.ref p), some (.int (nI k))] [.ref (kI g (2 * k)), .ref p] [w0, l21_1] ((ltL (T.2.2.1 n) (2 ^ T.1)).length - (ltL (T.2.2.1 n) k).length) (4 * (capF (vs ++ cov T n).length - capF (vs ++ (n :: ltL (T.2.2.1 n) k)).length)) from ?_)
          obtain ⟨wc_8, ewc_8⟩ : ∃ w : va_W, w = ([] : List va_W).flatten := ⟨_, rfl⟩
          have hwc_8 : BxE g (kI g (2 * k)) (2 * k) wc_8 := by
            rw [ewc_8]
            exact kI_box g (by omega)
          refine g_close (w := wc_8) [] rfl ewc_8 rfl ?_
          refine (show Go g κ 49 [some (.ref t), some (.int (nI n)), some (.ref p), some (.int (nI k))] [.ref (kI g (2 * k)), .ref p] [w0, l21_1, wc_8] ((ltL (T.2.2.1 n) (2 ^ T.1)).length - (ltL (T.2.2.1 n) k).length) (4 * (capF (vs ++ cov T n).length - capF (vs ++ (n :: ltL (T.2.2.1 n) k)).length)) from ?_)
          obtain ⟨ps_9, md_9, hli_9, hln_9, hel_9⟩ := LhP.at (Sub.self hl21_1)
          refine g_callF (q := 54) (is := [1, 1]) (kc2 := ((ltL (T.2.2.1 n) (2 ^ T.1)).length - (ltL (T.2.2.1 n) k).length) - 1) (ks2 := (4 * (capF (vs ++ cov T n).length - capF (vs ++ (n :: ltL (T.2.2.1 n) k)).length)) - (4 * (capF ((vs ++ (n :: ltL (T.2.2.1 n) k)).length + 1) - capF (vs ++ (n :: ltL (T.2.2.1 n) k)).length))) B [.ref (kI g (2 * k))] (ct_add_IlP g J (p := p) (rs := (vs ++ (n :: ltL (T.2.2.1 n) k))) (cap := (capF (vs ++ (n :: ltL (T.2.2.1 n) k)).length)) (a := (kI g (2 * k))) (r := (2 * k)) (mc := 1) (ms := (4 * (capF ((vs ++ (n :: ltL (T.2.2.1 n) k)).length + 1) - capF (vs ++ (n :: ltL (T.2.2.1 n) k)).length))) hl21_1 hwc_8 (by have := capF_le (vs ++ (n :: ltL (T.2.2.1 n) k)).length; omega) (fun h => ⟨Nat.le_refl _, capF_ms _ h⟩)) dX10_covers_2_49 rfl (ci := 21) rfl (rc_in B (ci := 21) rfl (k := 1) rfl (LhP.hm hl21_1)) q2512 q709 q711 q81 q713 q708 q707 q712 q710 q318 rfl rfl mojava_util_List_add__Ljava_lang_Object__Z rfl rfl (by decide) (by decide) (Nat.le_of_ble_eq_true rfl) (by omega) (by omega) (fun _ _ hx => noX_x hx) (fun v49 L1 hp49 => ?_)
          obtain ⟨u0_49, rfl, rfl, hu0_49⟩ := hp49
          refine (show Go g κ 54 [some (.ref t), some (.int (nI n)), some (.ref p), some (.int (nI k))] [.int (nI 1)] [w0, u0_49] (((ltL (T.2.2.1 n) (2 ^ T.1)).length - (ltL (T.2.2.1 n) k).length) - 1) ((4 * (capF (vs ++ cov T n).length - capF (vs ++ (n :: ltL (T.2.2.1 n) k)).length)) - (4 * (capF ((vs ++ (n :: ltL (T.2.2.1 n) k)).length + 1) - capF (vs ++ (n :: ltL (T.2.2.1 n) k)).length))) from ?_)
          have hr_10 : LhP g (BxE g) p (vs ++ (n :: ltL (T.2.2.1 n) (k + 1))) (capF (vs ++ (n :: ltL (T.2.2.1 n) (k + 1))).length) u0_49 := by rw [hc1, hls, ← capF_s]; have z := hu0_49; rw [List.append_assoc, List.cons_append] at z; exact z
          refine g_pop (q := 55) B dX10_covers_2_54 rfl rfl ?_
          refine g_iinc (v := nI (k + 1)) (q := 58) (lv2 := [some (.ref t), some (.int (nI n)), some (.ref p), some (.int (nI (k + 1)))]) B dX10_covers_2_55 rfl rfl (nI_add _ 1) (Nat.le_of_ble_eq_true rfl) rfl ?_
          refine g_goto (tgt := 21) B dX10_covers_2_58 (by decide) ?_
          refine g_room (kc2 := (ltL (T.2.2.1 n) (2 ^ T.1)).length - (ltL (T.2.2.1 n) (k + 1)).length) (ks2 := 4 * (capF (vs ++ cov T n).length - capF (vs ++ (n :: ltL (T.2.2.1 n) (k + 1))).length)) (by omega) (by omega) ?_
          exact ih21 _ (by omega) (k + 1) u0_49 hr_10 (by first | assumption | omega | rfl) rfl
    have hl00 : (ltL (T.2.2.1 n) 0).length = 0 := rfl
    refine g_room (kc2 := (ltL (T.2.2.1 n) (2 ^ T.1)).length - (ltL (T.2.2.1 n) 0).length) (ks2 := 4 * (capF (vs ++ cov T n).length - capF (vs ++ (n :: ltL (T.2.2.1 n) 0)).length)) (by omega) (by omega) ?_
    exact lp21 _ 0 u0_13 hr_4 (Nat.zero_le _) rfl
theorem ct_X10_covers_2 (g : Gv) (J : Jd g) {t : Nat} {T : TrS} {n : Nat} {p : Nat} {vs : List Nat} {w0 : va_W} {w1 : va_W} (hw0 : TreeP g t T w0) (hw1 : LhP g (BxE g) p vs (capF vs.length) w1) (hn : n < 31) (hlv : lev n = 2) (hvl : vs.length + 68 < 100000) : Ct g yX10_covers_2 (ws_ yX10_covers_2 cX10_covers_2 4 none) 10 ((cov T n).length) (4 * (capF (vs ++ cov T n).length - capF vs.length)) [.ref t, .int (nI n), .ref p] [w0, w1] (fun (rv_ : Option Value) (rL_ : List va_W) => ∃ (u1 : va_W), rv_ = none ∧ rL_ = [w0, u1] ∧ LhP g (BxE g) p (vs ++ cov T n) (capF (vs ++ cov T n).length) u1) noX := by
  refine Ct.of "Keygrove$Tree" [some (.ref t), some (.int (nI n)), some (.ref p), none] rfl (by decide) rfl (Nat.le_of_ble_eq_true rfl) rfl ?_
  intro κ B E tb
  have hB := TreeP.b hw0
  have hp2 := p2_4 hB.1
  have hd4 := hB.1
  refine g_aload_n (q := 1) B dX10_covers_2_0 rfl rfl (rv_r _) ?_
  refine g_iload_n (q := 2) B dX10_covers_2_1 rfl rfl ?_
  refine g_callV (q := 5) (is := [0]) (kc2 := (cov T n).length) (ks2 := 4 * (capF (vs ++ cov T n).length - capF vs.length)) B [.int (nI n)] (ct_X10_isBlank g J (t := t) (T := T) (n := n) hw0 (by first | assumption | omega | rfl)) dX10_covers_2_2 rfl (rc_in B (ci := 5) rfl (k := 0) rfl (TreeP.hm hw0)) rfl q2553 q1145 q1146 q123 q1147 rfl rfl moX10_isBlank rfl rfl (by decide) (by decide) (Nat.le_of_ble_eq_true rfl) (by omega) (by omega) (fun _ _ hx => noX_x hx) (fun v2 L1 hp2 => ?_)
  obtain ⟨rfl, rfl⟩ := hp2
  refine (show Go g κ 5 [some (.ref t), some (.int (nI n)), some (.ref p), none] [.int (nI (if T.2.1 n = none then 1 else 0))] [w1, w0] ((cov T n).length) (4 * (capF (vs ++ cov T n).length - capF vs.length)) from ?_)
  refine g_if_ne (tgt := 64) (q := 8) B dX10_covers_2_5 rfl (by decide) (bo_ne) (fun c5 => ?_) (fun c5 => ?_)
  · skip
    refine g_iload_n (q := 65) B dX10_covers_2_64 rfl rfl ?_
    refine g_callS (q := 68) (is := []) (kc2 := (cov T n).length) (ks2 := 4 * (capF (vs ++ cov T n).length - capF vs.length)) B [.int (nI n)] (ct_X10_level g J (n := n)  (by first | assumption | omega | rfl)) dX10_covers_2_65 rfl q1796 q1797 q123 q1798 rfl rfl moX10_level rfl rfl (by decide) (by decide) (Nat.le_of_ble_eq_true rfl) (by omega) (by omega) (fun _ _ hx => noX_x hx) (fun v65 L1 hp65 => ?_)
    obtain ⟨rfl, rfl⟩ := hp65
    refine (show Go g κ 68 [some (.ref t), some (.int (nI n)), some (.ref p), none] [.int (nI (lev n))] [w1, w0] ((cov T n).length) (4 * (capF (vs ++ cov T n).length - capF vs.length)) from ?_)
    refine g_if_le (tgt := 89) (q := 71) B dX10_covers_2_68 rfl (by decide) (iff_false_intro (by rw [nI_le0 (by omega)]; omega)) (fun z => z.elim) (fun _ => ?_)
    obtain ⟨hq1, hq2, hq3, hq4⟩ := lft_b n hn (by omega)
    have hcb := cov_b hn c5 (by omega)
    have hlb : (cov T n).length = (cov T (lft n)).length + (cov T (rgt n)).length := by rw [hcb]; simp
    have hE1 : capF (vs ++ cov T n).length = capF ((vs ++ cov T (lft n)) ++ cov T (rgt n)).length := by rw [hcb, List.append_assoc]
    have hm1 := capF_m (show vs.length ≤ (vs ++ cov T (lft n)).length by simp)
    have hm2 := capF_m (show (vs ++ cov T (lft n)).length ≤ ((vs ++ cov T (lft n)) ++ cov T (rgt n)).length by simp)
    have hlz := cov_len hB (n := lft n) (m := 1) (by omega)
    have hlz2 : (vs ++ cov T (lft n)).length = vs.length + (cov T (lft n)).length := by simp
    refine g_aload_n (q := 72) B dX10_covers_2_71 rfl rfl (rv_r _) ?_
    refine g_iload_n (q := 73) B dX10_covers_2_72 rfl rfl ?_
    refine g_callS (q := 76) (is := []) (kc2 := (cov T n).length) (ks2 := 4 * (capF (vs ++ cov T n).length - capF vs.length)) B [.int (nI n)] (ct_X10_left g J (n := n)  (by first | assumption | omega | rfl) (by first | assumption | omega | rfl)) dX10_covers_2_73 rfl q2576 q2562 q123 q2563 rfl rfl moX10_left rfl rfl (by decide) (by decide) (Nat.le_of_ble_eq_true rfl) (by omega) (by omega) (fun _ _ hx => noX_x hx) (fun v73 L1 hp73 => ?_)
    obtain ⟨rfl, rfl⟩ := hp73
    refine (show Go g κ 76 [some (.ref t), some (.int (nI n)), some (.ref p), none] [.int (nI (lft n)), .ref t] [w1, w0] ((cov T n).length) (4 * (capF (vs ++ cov T n).length - capF vs.length)) from ?_)
    refine g_aload_n (q := 77) B dX10_covers_2_76 rfl rfl (rv_r _) ?_
    refine g_callV (q := 80) (is := [1, 0]) (kc2 := ((cov T n).length) - ((cov T (lft n)).length)) (ks2 := (4 * (capF (vs ++ cov T n).length - capF vs.length)) - (4 * (capF (vs ++ cov T (lft n)).length - capF vs.length))) B [.int (nI (lft n)), .ref p] (ct_X10_covers_1 g J (t := t) (T := T) (n := lft n) (p := p) (vs := vs) hw0 hw1 (by omega) (by omega) (by omega)) dX10_covers_2_77 rfl (rc_in B (ci := 5) rfl (k := 1) rfl (TreeP.hm hw0)) rfl q2571 q2573 qs38 q123 q2574 rfl rfl moX10_covers_2 rfl rfl (by decide) (by decide) (Nat.le_of_ble_eq_true rfl) (by omega) (by omega) (fun _ _ hx => noX_x hx) (fun v77 L1 hp77 => ?_)
    obtain ⟨u1_77, rfl, rfl, hu1_77⟩ := hp77
    refine (show Go g κ 80 [some (.ref t), some (.int (nI n)), some (.ref p), none] [] [w0, u1_77] (((cov T n).length) - ((cov T (lft n)).length)) ((4 * (capF (vs ++ cov T n).length - capF vs.length)) - (4 * (capF (vs ++ cov T (lft n)).length - capF vs.length))) from ?_)
    refine g_aload_n (q := 81) B dX10_covers_2_80 rfl rfl (rv_r _) ?_
    refine g_iload_n (q := 82) B dX10_covers_2_81 rfl rfl ?_
    refine g_callS (q := 85) (is := []) (kc2 := ((cov T n).length) - ((cov T (lft n)).length)) (ks2 := (4 * (capF (vs ++ cov T n).length - capF vs.length)) - (4 * (capF (vs ++ cov T (lft n)).length - capF vs.length))) B [.int (nI n)] (ct_X10_right g J (n := n)  (by first | assumption | omega | rfl) (by first | assumption | omega | rfl)) dX10_covers_2_82 rfl q2577 q2565 q123 q2566 rfl rfl moX10_right rfl rfl (by decide) (by decide) (Nat.le_of_ble_eq_true rfl) (by omega) (by omega) (fun _ _ hx => noX_x hx) (fun v82 L1 hp82 => ?_)
    obtain ⟨rfl, rfl⟩ := hp82
    refine (show Go g κ 85 [some (.ref t), some (.int (nI n)), some (.ref p), none] [.int (nI (rgt n)), .ref t] [w0, u1_77] (((cov T n).length) - ((cov T (lft n)).length)) ((4 * (capF (vs ++ cov T n).length - capF vs.length)) - (4 * (capF (vs ++ cov T (lft n)).length - capF vs.length))) from ?_)
    refine g_aload_n (q := 86) B dX10_covers_2_85 rfl rfl (rv_r _) ?_
    refine g_callV (q := 89) (is := [0, 0]) (kc2 := (((cov T n).length) - ((cov T (lft n)).length)) - ((cov T (rgt n)).length)) (ks2 := ((4 * (capF (vs ++ cov T n).length - capF vs.length)) - (4 * (capF (vs ++ cov T (lft n)).length - capF vs.length))) - (4 * (capF ((vs ++ cov T (lft n)) ++ cov T (rgt n)).length - capF (vs ++ cov T (lft n)).length))) B [.int (nI (rgt n)), .ref p] (ct_X10_covers_1 g J (t := t) (T := T) (n := rgt n) (p := p) (vs := (vs ++ cov T (lft n))) hw0 hu1_77 (by omega) (by omega) (by omega)) dX10_covers_2_86 rfl (rc_in B (ci := 5) rfl (k := 0) rfl (TreeP.hm hw0)) rfl q2571 q2573 qs38 q123 q2574 rfl rfl moX10_covers_2 rfl rfl (by decide) (by decide) (Nat.le_of_ble_eq_true rfl) (by omega) (by omega) (fun _ _ hx => noX_x hx) (fun v86 L1 hp86 => ?_)
    obtain ⟨u1_86, rfl, rfl, hu1_86⟩ := hp86
    refine (show Go g κ 89 [some (.ref t), some (.int (nI n)), some (.ref p), none] [] [w0, u1_86] ((((cov T n).length) - ((cov T (lft n)).length)) - ((cov T (rgt n)).length)) (((4 * (capF (vs ++ cov T n).length - capF vs.length)) - (4 * (capF (vs ++ cov T (lft n)).length - capF vs.length))) - (4 * (capF ((vs ++ cov T (lft n)) ++ cov T (rgt n)).length - capF (vs ++ cov T (lft n)).length))) from ?_)
    have hr_1 : LhP g (BxE g) p (vs ++ cov T n) (capF (vs ++ cov T n).length) u1_86 := by rw [hcb, ← List.append_assoc]; exact hu1_86
    exact g_vret B E dX10_covers_2_89 (⟨u1_86, rfl, rfl, hr_1⟩)
  · skip
    have hcs : cov T n = n :: ltL (T.2.2.1 n) (2 ^ T.1) := cov_s c5
    have hsl := hB.2.2.1 n
    have hlE : (vs ++ cov T n).length = vs.length + 1 + (ltL (T.2.2.1 n) (2 ^ T.1)).length := by rw [hcs]; simp; omega
    have hlc : (cov T n).length = (ltL (T.2.2.1 n) (2 ^ T.1)).length + 1 := by rw [hcs]; simp
    have hm1 := capF_m (show vs.length + 1 ≤ (vs ++ cov T n).length by omega)
    have hm2 := capF_mo vs.length
    have hcv := cov_len hB hlv
    have hlE2 : (vs ++ cov T n).length = vs.length + (cov T n).length := by simp
    refine g_aload_n (q := 9) B dX10_covers_2_8 rfl rfl (rv_r _) ?_
    refine g_iload_n (q := 10) B dX10_covers_2_9 rfl rfl ?_
    refine g_callS (q := 13) (is := []) (kc2 := (cov T n).length) (ks2 := 4 * (capF (vs ++ cov T n).length - capF vs.length)) B [.int (nI n)] (ct_J26_valueOf_k g J (k := n)  (by omega)) dX10_covers_2_10 rfl q2510 q686 q111 q687 rfl rfl moJ26_valueOf rfl rfl (by decide) (by decide) (Nat.le_of_ble_eq_true rfl) (by omega) (by omega) (fun _ _ hx => noX_x hx) (fun v10 L1 hp10 => ?_)
    obtain ⟨rfl, rfl⟩ := hp10
    refine (show Go g κ 13 [some (.ref t), some (.int (nI n)), some (.ref p), none] [.ref (kI g n), .ref p] [w1, w0] ((cov T n).length) (4 * (capF (vs ++ cov T n).length - capF vs.length)) from ?_)
    obtain ⟨wc_2, ewc_2⟩ : ∃ w : va_W, w = ([] : List va_W).flatten := ⟨_, rfl⟩
    have hwc_2 : BxE g (kI g n) n wc_2 := by
      rw [ewc_2]
      exact kI_box g (by omega)
    refine g_close (w := wc_2) [] rfl ewc_2 rfl ?_
    refine (show Go g κ 13 [some (.ref t), some (.int (nI n)), some (.ref p), none] [.ref (kI g n), .ref p] [w1, w0, wc_2] ((cov T n).length) (4 * (capF (vs ++ cov T n).length - capF vs.length)) from ?_)
    obtain ⟨ps_3, md_3, hli_3, hln_3, hel_3⟩ := LhP.at (Sub.self hw1)
    refine g_callF (q := 18) (is := [0, 1]) (kc2 := ((cov T n).length) - 1) (ks2 := (4 * (capF (vs ++ cov T n).length - capF vs.length)) - (4 * (capF (vs.length + 1) - capF vs.length))) B [.ref (kI g n)] (ct_add_IlP g J (p := p) (rs := vs) (cap := (capF vs.length)) (a := (kI g n)) (r := n) (mc := 1) (ms := (4 * (capF (vs.length + 1) - capF vs.length))) hw1 hwc_2 (by have := capF_le vs.length; omega) (fun h => ⟨Nat.le_refl _, capF_ms _ h⟩)) dX10_covers_2_13 rfl (ci := 21) rfl (rc_in B (ci := 21) rfl (k := 0) rfl (LhP.hm hw1)) q2512 q709 q711 q81 q713 q708 q707 q712 q710 q318 rfl rfl mojava_util_List_add__Ljava_lang_Object__Z rfl rfl (by decide) (by decide) (Nat.le_of_ble_eq_true rfl) (by omega) (by omega) (fun _ _ hx => noX_x hx) (fun v13 L1 hp13 => ?_)
    obtain ⟨u0_13, rfl, rfl, hu0_13⟩ := hp13
    refine (show Go g κ 18 [some (.ref t), some (.int (nI n)), some (.ref p), none] [.int (nI 1)] [w0, u0_13] (((cov T n).length) - 1) ((4 * (capF (vs ++ cov T n).length - capF vs.length)) - (4 * (capF (vs.length + 1) - capF vs.length))) from ?_)
    have hX0 : (vs ++ (n :: ltL (T.2.2.1 n) 0)).length = vs.length + 1 := by simp [ltL]
    have hc0 : capF (vs ++ (n :: ltL (T.2.2.1 n) 0)).length = capF (vs.length + 1) := by rw [hX0]
    have hr_4 : LhP g (BxE g) p (vs ++ (n :: ltL (T.2.2.1 n) 0)) (capF (vs ++ (n :: ltL (T.2.2.1 n) 0)).length) u0_13 := by rw [hc0, ← capF_s]; exact hu0_13
    refine g_pop (q := 19) B dX10_covers_2_18 rfl rfl ?_
    refine g_iconst (v := nI 0) (q := 20) B dX10_covers_2_19 rfl (by decide) ?_
    refine g_istore_n (q := 21) (lv2 := [some (.ref t), some (.int (nI n)), some (.ref p), some (.int (nI 0))]) B dX10_covers_2_20 rfl (Nat.le_of_ble_eq_true rfl) rfl ?_
    have lp21 : ∀ (n21 : Nat) (k : Nat) (l21_1 : va_W), LhP g (BxE g) p (vs ++ (n :: ltL (T.2.2.1 n) k)) (capF (vs ++ (n :: ltL (T.2.2.1 n) k)).length) l21_1 → (k ≤ 2 ^ T.1) → 2 ^ T.1 - k = n21 → Go g κ 21 [some (.ref t), some (.int (nI n)), some (.ref p), some (.int (nI k))] [] [w0, l21_1] ((ltL (T.2.2.1 n) (2 ^ T.1)).length - (ltL (T.2.2.1 n) k).length) (4 * (capF (vs ++ cov T n).length - capF (vs ++ (n :: ltL (T.2.2.1 n) k)).length)) := by
      intro n21
      induction n21 using Nat.strongRecOn with
      | _ n21 ih21 =>
      intro k l21_1 hl21_1 hk hmu21
      refine g_iload_n (q := 22) B dX10_covers_2_21 rfl rfl ?_
      refine g_aload_n (q := 23) B dX10_covers_2_22 rfl rfl (rv_r _) ?_
      obtain ⟨as_5, al_5, ap_5, fs_5, fl_5, fp_5, hB_5, hfs_5, hfl_5, hfp_5, hc_5_0, hc_5_1, hc_5_2, hc_5_3⟩ := TreeP.at (Sub.self hw0)
      refine g_getM (q := 26) B (ci := 5) (k := 0) (j := 0) in_X10 rfl dX10_covers_2_23 rfl rfl (hc_5_0) (Nat.le_of_ble_eq_true rfl) q2035 rfl rfl ?_
      refine g_icmp_ge (tgt := 61) (q := 29) B dX10_covers_2_26 rfl (by decide) (nI_leI (by omega) (by omega)) (fun c26 => ?_) (fun c26 => ?_)
      · skip
        have hr_6 : LhP g (BxE g) p (vs ++ cov T n) (capF (vs ++ cov T n).length) l21_1 := by rw [hcs]; have z := hl21_1; rw [show k = 2 ^ T.1 by omega] at z; exact z
        refine g_goto (tgt := 89) B dX10_covers_2_61 (by decide) ?_
        exact g_vret B E dX10_covers_2_89 (⟨l21_1, rfl, rfl, hr_6⟩)
      · skip
        refine g_aload_n (q := 30) B dX10_covers_2_29 rfl rfl (rv_r _) ?_
        refine g_getM (q := 33) B (ci := 5) (k := 0) (j := 2) in_X10 rfl dX10_covers_2_30 rfl rfl (hc_5_0) (Nat.le_of_ble_eq_true rfl) q2041 rfl rfl ?_
        refine g_iload_n (q := 34) B dX10_covers_2_33 rfl rfl ?_
        refine g_ialdM (v := nI (T.2.2.1 n)) (q := 35) B (k := 0) dX10_covers_2_34 rfl rfl (hc_5_2) (vp_in_nI (by omega) (by omega)) (by rw [nI_clamp (by omega)]; exact hfl_5 _ (by omega)) ?_
        refine g_iload_n (q := 36) B dX10_covers_2_35 rfl rfl ?_
        refine g_callSN (q := 39) (is := []) (kc2 := (ltL (T.2.2.1 n) (2 ^ T.1)).length - (ltL (T.2.2.1 n) k).length) (ks2 := 4 * (capF (vs ++ cov T n).length - capF (vs ++ (n :: ltL (T.2.2.1 n) k)).length)) B [.int (nI (T.2.2.1 n)), .int (nI k)] (ct_X1_has g J (s := T.2.2.1 n) (l := k)  (by first | assumption | omega | rfl) (by first | assumption | omega | rfl)) dX10_covers_2_36 rfl q2575 q1801 q77 q1802 rfl rfl moX1_has rfl rfl (by decide) (by decide) (Nat.le_of_ble_eq_true rfl) (by omega) (by omega) (fun _ _ hx => noX_x hx) (fun v36 L1 hp36 => ?_)
        obtain ⟨rfl, rfl⟩ := hp36
        refine (show Go g κ 39 [some (.ref t), some (.int (nI n)), some (.ref p), some (.int (nI k))] [.int (nI (if hsB (T.2.2.1 n) k = true then 1 else 0))] [w0, l21_1] ((ltL (T.2.2.1 n) (2 ^ T.1)).length - (ltL (T.2.2.1 n) k).length) (4 * (capF (vs ++ cov T n).length - capF (vs ++ (n :: ltL (T.2.2.1 n) k)).length)) from ?_)
        refine g_if_eq (tgt := 55) (q := 42) B dX10_covers_2_39 rfl (by decide) (bo_eq) (fun c39 => ?_) (fun c39 => ?_)
        · skip
          have hls : ltL (T.2.2.1 n) (k + 1) = ltL (T.2.2.1 n) k := by rw [ltL_s, if_neg c39]
          have hc9 : capF (vs ++ (n :: ltL (T.2.2.1 n) (k + 1))).length = capF (vs ++ (n :: ltL (T.2.2.1 n) k)).length := by rw [hls]
          have hl9 : (ltL (T.2.2.1 n) (k + 1)).length = (ltL (T.2.2.1 n) k).length := by rw [hls]
          have hr_7 : LhP g (BxE g) p (vs ++ (n :: ltL (T.2.2.1 n) (k + 1))) (capF (vs ++ (n :: ltL (T.2.2.1 n) (k + 1))).length) l21_1 := by rw [hls]; exact hl21_1
          refine g_iinc (v := nI (k + 1)) (q := 58) (lv2 := [some (.ref t), some (.int (nI n)), some (.ref p), some (.int (nI (k + 1)))]) B dX10_covers_2_55 rfl rfl (nI_add _ 1) (Nat.le_of_ble_eq_true rfl) rfl ?_
          refine g_goto (tgt := 21) B dX10_covers_2_58 (by decide) ?_
          refine g_room (kc2 := (ltL (T.2.2.1 n) (2 ^ T.1)).length - (ltL (T.2.2.1 n) (k + 1)).length) (ks2 := 4 * (capF (vs ++ cov T n).length - capF (vs ++ (n :: ltL (T.2.2.1 n) (k + 1))).length)) (by omega) (by omega) ?_
          exact ih21 _ (by omega) (k + 1) l21_1 hr_7 (by first | assumption | omega | rfl) rfl
        · skip
          have c39 := Classical.not_not.mp c39
          have hls : ltL (T.2.2.1 n) (k + 1) = ltL (T.2.2.1 n) k ++ [2 * k] := by rw [ltL_s, if_pos c39]
          have hl1 : (ltL (T.2.2.1 n) (k + 1)).length = (ltL (T.2.2.1 n) k).length + 1 := by rw [hls]; simp
          have hl2 := ltL_mo (T.2.2.1 n) (show k + 1 ≤ 2 ^ T.1 by omega)
          have hX : (vs ++ (n :: ltL (T.2.2.1 n) (k + 1))).length = (vs ++ (n :: ltL (T.2.2.1 n) k)).length + 1 := by rw [hls]; simp only [List.length_append, List.length_cons, List.length_nil]; omega
          have hXk : (vs ++ (n :: ltL (T.2.2.1 n) k)).length = vs.length + 1 + (ltL (T.2.2.1 n) k).length := by simp only [List.length_append, List.length_cons]; omega
          have hc1 : capF (vs ++ (n :: ltL (T.2.2.1 n) (k + 1))).length = capF ((vs ++ (n :: ltL (T.2.2.1 n) k)).length + 1) := by rw [hX]
          have hc2 := capF_m (show (vs ++ (n :: ltL (T.2.2.1 n) k)).length + 1 ≤ (vs ++ cov T n).length by omega)
          have hc3 := capF_mo (vs ++ (n :: ltL (T.2.2.1 n) k)).length
          refine g_aload_n (q := 43) B dX10_covers_2_42 rfl rfl (rv_r _) ?_
          refine g_iconst (v := nI 2) (q := 44) B dX10_covers_2_43 rfl (by decide) ?_
          refine g_iload_n (q := 45) B dX10_covers_2_44 rfl rfl ?_
          refine g_imul (v := nI (2 * k)) (q := 46) B dX10_covers_2_45 rfl (pk_mul _ _) ?_
          refine g_callS (q := 49) (is := []) (kc2 := (ltL (T.2.2.1 n) (2 ^ T.1)).length - (ltL (T.2.2.1 n) k).length) (ks2 := 4 * (capF (vs ++ cov T n).length - capF (vs ++ (n :: ltL (T.2.2.1 n) k)).length)) B [.int (nI (2 * k))] (ct_J26_valueOf_k g J (k := 2 * k)  (by omega)) dX10_covers_2_46 rfl q2510 q686 q111 q687 rfl rfl moJ26_valueOf rfl rfl (by decide) (by decide) (Nat.le_of_ble_eq_true rfl) (by omega) (by omega) (fun _ _ hx => noX_x hx) (fun v46 L1 hp46 => ?_)
          obtain ⟨rfl, rfl⟩ := hp46
          refine (show Go g κ 49 [some (.ref t), some (.int (nI n)), some (.ref p), some (.int (nI k))] [.ref (kI g (2 * k)), .ref p] [w0, l21_1] ((ltL (T.2.2.1 n) (2 ^ T.1)).length - (ltL (T.2.2.1 n) k).length) (4 * (capF (vs ++ cov T n).length - capF (vs ++ (n :: ltL (T.2.2.1 n) k)).length)) from ?_)
          obtain ⟨wc_8, ewc_8⟩ : ∃ w : va_W, w = ([] : List va_W).flatten := ⟨_, rfl⟩
          have hwc_8 : BxE g (kI g (2 * k)) (2 * k) wc_8 := by
            rw [ewc_8]
            exact kI_box g (by omega)
          refine g_close (w := wc_8) [] rfl ewc_8 rfl ?_
          refine (show Go g κ 49 [some (.ref t), some (.int (nI n)), some (.ref p), some (.int (nI k))] [.ref (kI g (2 * k)), .ref p] [w0, l21_1, wc_8] ((ltL (T.2.2.1 n) (2 ^ T.1)).length - (ltL (T.2.2.1 n) k).length) (4 * (capF (vs ++ cov T n).length - capF (vs ++ (n :: ltL (T.2.2.1 n) k)).length)) from ?_)
          obtain ⟨ps_9, md_9, hli_9, hln_9, hel_9⟩ := LhP.at (Sub.self hl21_1)
          refine g_callF (q := 54) (is := [1, 1]) (kc2 := ((ltL (T.2.2.1 n) (2 ^ T.1)).length - (ltL (T.2.2.1 n) k).length) - 1) (ks2 := (4 * (capF (vs ++ cov T n).length - capF (vs ++ (n :: ltL (T.2.2.1 n) k)).length)) - (4 * (capF ((vs ++ (n :: ltL (T.2.2.1 n) k)).length + 1) - capF (vs ++ (n :: ltL (T.2.2.1 n) k)).length))) B [.ref (kI g (2 * k))] (ct_add_IlP g J (p := p) (rs := (vs ++ (n :: ltL (T.2.2.1 n) k))) (cap := (capF (vs ++ (n :: ltL (T.2.2.1 n) k)).length)) (a := (kI g (2 * k))) (r := (2 * k)) (mc := 1) (ms := (4 * (capF ((vs ++ (n :: ltL (T.2.2.1 n) k)).length + 1) - capF (vs ++ (n :: ltL (T.2.2.1 n) k)).length))) hl21_1 hwc_8 (by have := capF_le (vs ++ (n :: ltL (T.2.2.1 n) k)).length; omega) (fun h => ⟨Nat.le_refl _, capF_ms _ h⟩)) dX10_covers_2_49 rfl (ci := 21) rfl (rc_in B (ci := 21) rfl (k := 1) rfl (LhP.hm hl21_1)) q2512 q709 q711 q81 q713 q708 q707 q712 q710 q318 rfl rfl mojava_util_List_add__Ljava_lang_Object__Z rfl rfl (by decide) (by decide) (Nat.le_of_ble_eq_true rfl) (by omega) (by omega) (fun _ _ hx => noX_x hx) (fun v49 L1 hp49 => ?_)
          obtain ⟨u0_49, rfl, rfl, hu0_49⟩ := hp49
          refine (show Go g κ 54 [some (.ref t), some (.int (nI n)), some (.ref p), some (.int (nI k))] [.int (nI 1)] [w0, u0_49] (((ltL (T.2.2.1 n) (2 ^ T.1)).length - (ltL (T.2.2.1 n) k).length) - 1) ((4 * (capF (vs ++ cov T n).length - capF (vs ++ (n :: ltL (T.2.2.1 n) k)).length)) - (4 * (capF ((vs ++ (n :: ltL (T.2.2.1 n) k)).length + 1) - capF (vs ++ (n :: ltL (T.2.2.1 n) k)).length))) from ?_)
          have hr_10 : LhP g (BxE g) p (vs ++ (n :: ltL (T.2.2.1 n) (k + 1))) (capF (vs ++ (n :: ltL (T.2.2.1 n) (k + 1))).length) u0_49 := by rw [hc1, hls, ← capF_s]; have z := hu0_49; rw [List.append_assoc, List.cons_append] at z; exact z
          refine g_pop (q := 55) B dX10_covers_2_54 rfl rfl ?_
          refine g_iinc (v := nI (k + 1)) (q := 58) (lv2 := [some (.ref t), some (.int (nI n)), some (.ref p), some (.int (nI (k + 1)))]) B dX10_covers_2_55 rfl rfl (nI_add _ 1) (Nat.le_of_ble_eq_true rfl) rfl ?_
          refine g_goto (tgt := 21) B dX10_covers_2_58 (by decide) ?_
          refine g_room (kc2 := (ltL (T.2.2.1 n) (2 ^ T.1)).length - (ltL (T.2.2.1 n) (k + 1)).length) (ks2 := 4 * (capF (vs ++ cov T n).length - capF (vs ++ (n :: ltL (T.2.2.1 n) (k + 1))).length)) (by omega) (by omega) ?_
          exact ih21 _ (by omega) (k + 1) u0_49 hr_10 (by first | assumption | omega | rfl) rfl
    have hl00 : (ltL (T.2.2.1 n) 0).length = 0 := rfl
    refine g_room (kc2 := (ltL (T.2.2.1 n) (2 ^ T.1)).length - (ltL (T.2.2.1 n) 0).length) (ks2 := 4 * (capF (vs ++ cov T n).length - capF (vs ++ (n :: ltL (T.2.2.1 n) 0)).length)) (by omega) (by omega) ?_
    exact lp21 _ 0 u0_13 hr_4 (Nat.zero_le _) rfl
theorem ct_X10_covers_3 (g : Gv) (J : Jd g) {t : Nat} {T : TrS} {n : Nat} {p : Nat} {vs : List Nat} {w0 : va_W} {w1 : va_W} (hw0 : TreeP g t T w0) (hw1 : LhP g (BxE g) p vs (capF vs.length) w1) (hn : n < 31) (hlv : lev n = 3) (hvl : vs.length + 136 < 100000) : Ct g yX10_covers_2 (ws_ yX10_covers_2 cX10_covers_2 4 none) 11 ((cov T n).length) (4 * (capF (vs ++ cov T n).length - capF vs.length)) [.ref t, .int (nI n), .ref p] [w0, w1] (fun (rv_ : Option Value) (rL_ : List va_W) => ∃ (u1 : va_W), rv_ = none ∧ rL_ = [w0, u1] ∧ LhP g (BxE g) p (vs ++ cov T n) (capF (vs ++ cov T n).length) u1) noX := by
  refine Ct.of "Keygrove$Tree" [some (.ref t), some (.int (nI n)), some (.ref p), none] rfl (by decide) rfl (Nat.le_of_ble_eq_true rfl) rfl ?_
  intro κ B E tb
  have hB := TreeP.b hw0
  have hp2 := p2_4 hB.1
  have hd4 := hB.1
  refine g_aload_n (q := 1) B dX10_covers_2_0 rfl rfl (rv_r _) ?_
  refine g_iload_n (q := 2) B dX10_covers_2_1 rfl rfl ?_
  refine g_callV (q := 5) (is := [0]) (kc2 := (cov T n).length) (ks2 := 4 * (capF (vs ++ cov T n).length - capF vs.length)) B [.int (nI n)] (ct_X10_isBlank g J (t := t) (T := T) (n := n) hw0 (by first | assumption | omega | rfl)) dX10_covers_2_2 rfl (rc_in B (ci := 5) rfl (k := 0) rfl (TreeP.hm hw0)) rfl q2553 q1145 q1146 q123 q1147 rfl rfl moX10_isBlank rfl rfl (by decide) (by decide) (Nat.le_of_ble_eq_true rfl) (by omega) (by omega) (fun _ _ hx => noX_x hx) (fun v2 L1 hp2 => ?_)
  obtain ⟨rfl, rfl⟩ := hp2
  refine (show Go g κ 5 [some (.ref t), some (.int (nI n)), some (.ref p), none] [.int (nI (if T.2.1 n = none then 1 else 0))] [w1, w0] ((cov T n).length) (4 * (capF (vs ++ cov T n).length - capF vs.length)) from ?_)
  refine g_if_ne (tgt := 64) (q := 8) B dX10_covers_2_5 rfl (by decide) (bo_ne) (fun c5 => ?_) (fun c5 => ?_)
  · skip
    refine g_iload_n (q := 65) B dX10_covers_2_64 rfl rfl ?_
    refine g_callS (q := 68) (is := []) (kc2 := (cov T n).length) (ks2 := 4 * (capF (vs ++ cov T n).length - capF vs.length)) B [.int (nI n)] (ct_X10_level g J (n := n)  (by first | assumption | omega | rfl)) dX10_covers_2_65 rfl q1796 q1797 q123 q1798 rfl rfl moX10_level rfl rfl (by decide) (by decide) (Nat.le_of_ble_eq_true rfl) (by omega) (by omega) (fun _ _ hx => noX_x hx) (fun v65 L1 hp65 => ?_)
    obtain ⟨rfl, rfl⟩ := hp65
    refine (show Go g κ 68 [some (.ref t), some (.int (nI n)), some (.ref p), none] [.int (nI (lev n))] [w1, w0] ((cov T n).length) (4 * (capF (vs ++ cov T n).length - capF vs.length)) from ?_)
    refine g_if_le (tgt := 89) (q := 71) B dX10_covers_2_68 rfl (by decide) (iff_false_intro (by rw [nI_le0 (by omega)]; omega)) (fun z => z.elim) (fun _ => ?_)
    obtain ⟨hq1, hq2, hq3, hq4⟩ := lft_b n hn (by omega)
    have hcb := cov_b hn c5 (by omega)
    have hlb : (cov T n).length = (cov T (lft n)).length + (cov T (rgt n)).length := by rw [hcb]; simp
    have hE1 : capF (vs ++ cov T n).length = capF ((vs ++ cov T (lft n)) ++ cov T (rgt n)).length := by rw [hcb, List.append_assoc]
    have hm1 := capF_m (show vs.length ≤ (vs ++ cov T (lft n)).length by simp)
    have hm2 := capF_m (show (vs ++ cov T (lft n)).length ≤ ((vs ++ cov T (lft n)) ++ cov T (rgt n)).length by simp)
    have hlz := cov_len hB (n := lft n) (m := 2) (by omega)
    have hlz2 : (vs ++ cov T (lft n)).length = vs.length + (cov T (lft n)).length := by simp
    refine g_aload_n (q := 72) B dX10_covers_2_71 rfl rfl (rv_r _) ?_
    refine g_iload_n (q := 73) B dX10_covers_2_72 rfl rfl ?_
    refine g_callS (q := 76) (is := []) (kc2 := (cov T n).length) (ks2 := 4 * (capF (vs ++ cov T n).length - capF vs.length)) B [.int (nI n)] (ct_X10_left g J (n := n)  (by first | assumption | omega | rfl) (by first | assumption | omega | rfl)) dX10_covers_2_73 rfl q2576 q2562 q123 q2563 rfl rfl moX10_left rfl rfl (by decide) (by decide) (Nat.le_of_ble_eq_true rfl) (by omega) (by omega) (fun _ _ hx => noX_x hx) (fun v73 L1 hp73 => ?_)
    obtain ⟨rfl, rfl⟩ := hp73
    refine (show Go g κ 76 [some (.ref t), some (.int (nI n)), some (.ref p), none] [.int (nI (lft n)), .ref t] [w1, w0] ((cov T n).length) (4 * (capF (vs ++ cov T n).length - capF vs.length)) from ?_)
    refine g_aload_n (q := 77) B dX10_covers_2_76 rfl rfl (rv_r _) ?_
    refine g_callV (q := 80) (is := [1, 0]) (kc2 := ((cov T n).length) - ((cov T (lft n)).length)) (ks2 := (4 * (capF (vs ++ cov T n).length - capF vs.length)) - (4 * (capF (vs ++ cov T (lft n)).length - capF vs.length))) B [.int (nI (lft n)), .ref p] (ct_X10_covers_2 g J (t := t) (T := T) (n := lft n) (p := p) (vs := vs) hw0 hw1 (by omega) (by omega) (by omega)) dX10_covers_2_77 rfl (rc_in B (ci := 5) rfl (k := 1) rfl (TreeP.hm hw0)) rfl q2571 q2573 qs38 q123 q2574 rfl rfl moX10_covers_2 rfl rfl (by decide) (by decide) (Nat.le_of_ble_eq_true rfl) (by omega) (by omega) (fun _ _ hx => noX_x hx) (fun v77 L1 hp77 => ?_)
    obtain ⟨u1_77, rfl, rfl, hu1_77⟩ := hp77
    refine (show Go g κ 80 [some (.ref t), some (.int (nI n)), some (.ref p), none] [] [w0, u1_77] (((cov T n).length) - ((cov T (lft n)).length)) ((4 * (capF (vs ++ cov T n).length - capF vs.length)) - (4 * (capF (vs ++ cov T (lft n)).length - capF vs.length))) from ?_)
    refine g_aload_n (q := 81) B dX10_covers_2_80 rfl rfl (rv_r _) ?_
    refine g_iload_n (q := 82) B dX10_covers_2_81 rfl rfl ?_
    refine g_callS (q := 85) (is := []) (kc2 := ((cov T n).length) - ((cov T (lft n)).length)) (ks2 := (4 * (capF (vs ++ cov T n).length - capF vs.length)) - (4 * (capF (vs ++ cov T (lft n)).length - capF vs.length))) B [.int (nI n)] (ct_X10_right g J (n := n)  (by first | assumption | omega | rfl) (by first | assumption | omega | rfl)) dX10_covers_2_82 rfl q2577 q2565 q123 q2566 rfl rfl moX10_right rfl rfl (by decide) (by decide) (Nat.le_of_ble_eq_true rfl) (by omega) (by omega) (fun _ _ hx => noX_x hx) (fun v82 L1 hp82 => ?_)
    obtain ⟨rfl, rfl⟩ := hp82
    refine (show Go g κ 85 [some (.ref t), some (.int (nI n)), some (.ref p), none] [.int (nI (rgt n)), .ref t] [w0, u1_77] (((cov T n).length) - ((cov T (lft n)).length)) ((4 * (capF (vs ++ cov T n).length - capF vs.length)) - (4 * (capF (vs ++ cov T (lft n)).length - capF vs.length))) from ?_)
    refine g_aload_n (q := 86) B dX10_covers_2_85 rfl rfl (rv_r _) ?_
    refine g_callV (q := 89) (is := [0, 0]) (kc2 := (((cov T n).length) - ((cov T (lft n)).length)) - ((cov T (rgt n)).length)) (ks2 := ((4 * (capF (vs ++ cov T n).length - capF vs.length)) - (4 * (capF (vs ++ cov T (lft n)).length - capF vs.length))) - (4 * (capF ((vs ++ cov T (lft n)) ++ cov T (rgt n)).length - capF (vs ++ cov T (lft n)).length))) B [.int (nI (rgt n)), .ref p] (ct_X10_covers_2 g J (t := t) (T := T) (n := rgt n) (p := p) (vs := (vs ++ cov T (lft n))) hw0 hu1_77 (by omega) (by omega) (by omega)) dX10_covers_2_86 rfl (rc_in B (ci := 5) rfl (k := 0) rfl (TreeP.hm hw0)) rfl q2571 q2573 qs38 q123 q2574 rfl rfl moX10_covers_2 rfl rfl (by decide) (by decide) (Nat.le_of_ble_eq_true rfl) (by omega) (by omega) (fun _ _ hx => noX_x hx) (fun v86 L1 hp86 => ?_)
    obtain ⟨u1_86, rfl, rfl, hu1_86⟩ := hp86
    refine (show Go g κ 89 [some (.ref t), some (.int (nI n)), some (.ref p), none] [] [w0, u1_86] ((((cov T n).length) - ((cov T (lft n)).length)) - ((cov T (rgt n)).length)) (((4 * (capF (vs ++ cov T n).length - capF vs.length)) - (4 * (capF (vs ++ cov T (lft n)).length - capF vs.length))) - (4 * (capF ((vs ++ cov T (lft n)) ++ cov T (rgt n)).length - capF (vs ++ cov T (lft n)).length))) from ?_)
    have hr_1 : LhP g (BxE g) p (vs ++ cov T n) (capF (vs ++ cov T n).length) u1_86 := by rw [hcb, ← List.append_assoc]; exact hu1_86
    exact g_vret B E dX10_covers_2_89 (⟨u1_86, rfl, rfl, hr_1⟩)
  · skip
    have hcs : cov T n = n :: ltL (T.2.2.1 n) (2 ^ T.1) := cov_s c5
    have hsl := hB.2.2.1 n
    have hlE : (vs ++ cov T n).length = vs.length + 1 + (ltL (T.2.2.1 n) (2 ^ T.1)).length := by rw [hcs]; simp; omega
    have hlc : (cov T n).length = (ltL (T.2.2.1 n) (2 ^ T.1)).length + 1 := by rw [hcs]; simp
    have hm1 := capF_m (show vs.length + 1 ≤ (vs ++ cov T n).length by omega)
    have hm2 := capF_mo vs.length
    have hcv := cov_len hB hlv
    have hlE2 : (vs ++ cov T n).length = vs.length + (cov T n).length := by simp
    refine g_aload_n (q := 9) B dX10_covers_2_8 rfl rfl (rv_r _) ?_
    refine g_iload_n (q := 10) B dX10_covers_2_9 rfl rfl ?_
    refine g_callS (q := 13) (is := []) (kc2 := (cov T n).length) (ks2 := 4 * (capF (vs ++ cov T n).length - capF vs.length)) B [.int (nI n)] (ct_J26_valueOf_k g J (k := n)  (by omega)) dX10_covers_2_10 rfl q2510 q686 q111 q687 rfl rfl moJ26_valueOf rfl rfl (by decide) (by decide) (Nat.le_of_ble_eq_true rfl) (by omega) (by omega) (fun _ _ hx => noX_x hx) (fun v10 L1 hp10 => ?_)
    obtain ⟨rfl, rfl⟩ := hp10
    refine (show Go g κ 13 [some (.ref t), some (.int (nI n)), some (.ref p), none] [.ref (kI g n), .ref p] [w1, w0] ((cov T n).length) (4 * (capF (vs ++ cov T n).length - capF vs.length)) from ?_)
    obtain ⟨wc_2, ewc_2⟩ : ∃ w : va_W, w = ([] : List va_W).flatten := ⟨_, rfl⟩
    have hwc_2 : BxE g (kI g n) n wc_2 := by
      rw [ewc_2]
      exact kI_box g (by omega)
    refine g_close (w := wc_2) [] rfl ewc_2 rfl ?_
    refine (show Go g κ 13 [some (.ref t), some (.int (nI n)), some (.ref p), none] [.ref (kI g n), .ref p] [w1, w0, wc_2] ((cov T n).length) (4 * (capF (vs ++ cov T n).length - capF vs.length)) from ?_)
    obtain ⟨ps_3, md_3, hli_3, hln_3, hel_3⟩ := LhP.at (Sub.self hw1)
    refine g_callF (q := 18) (is := [0, 1]) (kc2 := ((cov T n).length) - 1) (ks2 := (4 * (capF (vs ++ cov T n).length - capF vs.length)) - (4 * (capF (vs.length + 1) - capF vs.length))) B [.ref (kI g n)] (ct_add_IlP g J (p := p) (rs := vs) (cap := (capF vs.length)) (a := (kI g n)) (r := n) (mc := 1) (ms := (4 * (capF (vs.length + 1) - capF vs.length))) hw1 hwc_2 (by have := capF_le vs.length; omega) (fun h => ⟨Nat.le_refl _, capF_ms _ h⟩)) dX10_covers_2_13 rfl (ci := 21) rfl (rc_in B (ci := 21) rfl (k := 0) rfl (LhP.hm hw1)) q2512 q709 q711 q81 q713 q708 q707 q712 q710 q318 rfl rfl mojava_util_List_add__Ljava_lang_Object__Z rfl rfl (by decide) (by decide) (Nat.le_of_ble_eq_true rfl) (by omega) (by omega) (fun _ _ hx => noX_x hx) (fun v13 L1 hp13 => ?_)
    obtain ⟨u0_13, rfl, rfl, hu0_13⟩ := hp13
    refine (show Go g κ 18 [some (.ref t), some (.int (nI n)), some (.ref p), none] [.int (nI 1)] [w0, u0_13] (((cov T n).length) - 1) ((4 * (capF (vs ++ cov T n).length - capF vs.length)) - (4 * (capF (vs.length + 1) - capF vs.length))) from ?_)
    have hX0 : (vs ++ (n :: ltL (T.2.2.1 n) 0)).length = vs.length + 1 := by simp [ltL]
    have hc0 : capF (vs ++ (n :: ltL (T.2.2.1 n) 0)).length = capF (vs.length + 1) := by rw [hX0]
    have hr_4 : LhP g (BxE g) p (vs ++ (n :: ltL (T.2.2.1 n) 0)) (capF (vs ++ (n :: ltL (T.2.2.1 n) 0)).length) u0_13 := by rw [hc0, ← capF_s]; exact hu0_13
    refine g_pop (q := 19) B dX10_covers_2_18 rfl rfl ?_
    refine g_iconst (v := nI 0) (q := 20) B dX10_covers_2_19 rfl (by decide) ?_
    refine g_istore_n (q := 21) (lv2 := [some (.ref t), some (.int (nI n)), some (.ref p), some (.int (nI 0))]) B dX10_covers_2_20 rfl (Nat.le_of_ble_eq_true rfl) rfl ?_
    have lp21 : ∀ (n21 : Nat) (k : Nat) (l21_1 : va_W), LhP g (BxE g) p (vs ++ (n :: ltL (T.2.2.1 n) k)) (capF (vs ++ (n :: ltL (T.2.2.1 n) k)).length) l21_1 → (k ≤ 2 ^ T.1) → 2 ^ T.1 - k = n21 → Go g κ 21 [some (.ref t), some (.int (nI n)), some (.ref p), some (.int (nI k))] [] [w0, l21_1] ((ltL (T.2.2.1 n) (2 ^ T.1)).length - (ltL (T.2.2.1 n) k).length) (4 * (capF (vs ++ cov T n).length - capF (vs ++ (n :: ltL (T.2.2.1 n) k)).length)) := by
      intro n21
      induction n21 using Nat.strongRecOn with
      | _ n21 ih21 =>
      intro k l21_1 hl21_1 hk hmu21
      refine g_iload_n (q := 22) B dX10_covers_2_21 rfl rfl ?_
      refine g_aload_n (q := 23) B dX10_covers_2_22 rfl rfl (rv_r _) ?_
      obtain ⟨as_5, al_5, ap_5, fs_5, fl_5, fp_5, hB_5, hfs_5, hfl_5, hfp_5, hc_5_0, hc_5_1, hc_5_2, hc_5_3⟩ := TreeP.at (Sub.self hw0)
      refine g_getM (q := 26) B (ci := 5) (k := 0) (j := 0) in_X10 rfl dX10_covers_2_23 rfl rfl (hc_5_0) (Nat.le_of_ble_eq_true rfl) q2035 rfl rfl ?_
      refine g_icmp_ge (tgt := 61) (q := 29) B dX10_covers_2_26 rfl (by decide) (nI_leI (by omega) (by omega)) (fun c26 => ?_) (fun c26 => ?_)
      · skip
        have hr_6 : LhP g (BxE g) p (vs ++ cov T n) (capF (vs ++ cov T n).length) l21_1 := by rw [hcs]; have z := hl21_1; rw [show k = 2 ^ T.1 by omega] at z; exact z
        refine g_goto (tgt := 89) B dX10_covers_2_61 (by decide) ?_
        exact g_vret B E dX10_covers_2_89 (⟨l21_1, rfl, rfl, hr_6⟩)
      · skip
        refine g_aload_n (q := 30) B dX10_covers_2_29 rfl rfl (rv_r _) ?_
        refine g_getM (q := 33) B (ci := 5) (k := 0) (j := 2) in_X10 rfl dX10_covers_2_30 rfl rfl (hc_5_0) (Nat.le_of_ble_eq_true rfl) q2041 rfl rfl ?_
        refine g_iload_n (q := 34) B dX10_covers_2_33 rfl rfl ?_
        refine g_ialdM (v := nI (T.2.2.1 n)) (q := 35) B (k := 0) dX10_covers_2_34 rfl rfl (hc_5_2) (vp_in_nI (by omega) (by omega)) (by rw [nI_clamp (by omega)]; exact hfl_5 _ (by omega)) ?_
        refine g_iload_n (q := 36) B dX10_covers_2_35 rfl rfl ?_
        refine g_callSN (q := 39) (is := []) (kc2 := (ltL (T.2.2.1 n) (2 ^ T.1)).length - (ltL (T.2.2.1 n) k).length) (ks2 := 4 * (capF (vs ++ cov T n).length - capF (vs ++ (n :: ltL (T.2.2.1 n) k)).length)) B [.int (nI (T.2.2.1 n)), .int (nI k)] (ct_X1_has g J (s := T.2.2.1 n) (l := k)  (by first | assumption | omega | rfl) (by first | assumption | omega | rfl)) dX10_covers_2_36 rfl q2575 q1801 q77 q1802 rfl rfl moX1_has rfl rfl (by decide) (by decide) (Nat.le_of_ble_eq_true rfl) (by omega) (by omega) (fun _ _ hx => noX_x hx) (fun v36 L1 hp36 => ?_)
        obtain ⟨rfl, rfl⟩ := hp36
        refine (show Go g κ 39 [some (.ref t), some (.int (nI n)), some (.ref p), some (.int (nI k))] [.int (nI (if hsB (T.2.2.1 n) k = true then 1 else 0))] [w0, l21_1] ((ltL (T.2.2.1 n) (2 ^ T.1)).length - (ltL (T.2.2.1 n) k).length) (4 * (capF (vs ++ cov T n).length - capF (vs ++ (n :: ltL (T.2.2.1 n) k)).length)) from ?_)
        refine g_if_eq (tgt := 55) (q := 42) B dX10_covers_2_39 rfl (by decide) (bo_eq) (fun c39 => ?_) (fun c39 => ?_)
        · skip
          have hls : ltL (T.2.2.1 n) (k + 1) = ltL (T.2.2.1 n) k := by rw [ltL_s, if_neg c39]
          have hc9 : capF (vs ++ (n :: ltL (T.2.2.1 n) (k + 1))).length = capF (vs ++ (n :: ltL (T.2.2.1 n) k)).length := by rw [hls]
          have hl9 : (ltL (T.2.2.1 n) (k + 1)).length = (ltL (T.2.2.1 n) k).length := by rw [hls]
          have hr_7 : LhP g (BxE g) p (vs ++ (n :: ltL (T.2.2.1 n) (k + 1))) (capF (vs ++ (n :: ltL (T.2.2.1 n) (k + 1))).length) l21_1 := by rw [hls]; exact hl21_1
          refine g_iinc (v := nI (k + 1)) (q := 58) (lv2 := [some (.ref t), some (.int (nI n)), some (.ref p), some (.int (nI (k + 1)))]) B dX10_covers_2_55 rfl rfl (nI_add _ 1) (Nat.le_of_ble_eq_true rfl) rfl ?_
          refine g_goto (tgt := 21) B dX10_covers_2_58 (by decide) ?_
          refine g_room (kc2 := (ltL (T.2.2.1 n) (2 ^ T.1)).length - (ltL (T.2.2.1 n) (k + 1)).length) (ks2 := 4 * (capF (vs ++ cov T n).length - capF (vs ++ (n :: ltL (T.2.2.1 n) (k + 1))).length)) (by omega) (by omega) ?_
          exact ih21 _ (by omega) (k + 1) l21_1 hr_7 (by first | assumption | omega | rfl) rfl
        · skip
          have c39 := Classical.not_not.mp c39
          have hls : ltL (T.2.2.1 n) (k + 1) = ltL (T.2.2.1 n) k ++ [2 * k] := by rw [ltL_s, if_pos c39]
          have hl1 : (ltL (T.2.2.1 n) (k + 1)).length = (ltL (T.2.2.1 n) k).length + 1 := by rw [hls]; simp
          have hl2 := ltL_mo (T.2.2.1 n) (show k + 1 ≤ 2 ^ T.1 by omega)
          have hX : (vs ++ (n :: ltL (T.2.2.1 n) (k + 1))).length = (vs ++ (n :: ltL (T.2.2.1 n) k)).length + 1 := by rw [hls]; simp only [List.length_append, List.length_cons, List.length_nil]; omega
          have hXk : (vs ++ (n :: ltL (T.2.2.1 n) k)).length = vs.length + 1 + (ltL (T.2.2.1 n) k).length := by simp only [List.length_append, List.length_cons]; omega
          have hc1 : capF (vs ++ (n :: ltL (T.2.2.1 n) (k + 1))).length = capF ((vs ++ (n :: ltL (T.2.2.1 n) k)).length + 1) := by rw [hX]
          have hc2 := capF_m (show (vs ++ (n :: ltL (T.2.2.1 n) k)).length + 1 ≤ (vs ++ cov T n).length by omega)
          have hc3 := capF_mo (vs ++ (n :: ltL (T.2.2.1 n) k)).length
          refine g_aload_n (q := 43) B dX10_covers_2_42 rfl rfl (rv_r _) ?_
          refine g_iconst (v := nI 2) (q := 44) B dX10_covers_2_43 rfl (by decide) ?_
          refine g_iload_n (q := 45) B dX10_covers_2_44 rfl rfl ?_
          refine g_imul (v := nI (2 * k)) (q := 46) B dX10_covers_2_45 rfl (pk_mul _ _) ?_
          refine g_callS (q := 49) (is := []) (kc2 := (ltL (T.2.2.1 n) (2 ^ T.1)).length - (ltL (T.2.2.1 n) k).length) (ks2 := 4 * (capF (vs ++ cov T n).length - capF (vs ++ (n :: ltL (T.2.2.1 n) k)).length)) B [.int (nI (2 * k))] (ct_J26_valueOf_k g J (k := 2 * k)  (by omega)) dX10_covers_2_46 rfl q2510 q686 q111 q687 rfl rfl moJ26_valueOf rfl rfl (by decide) (by decide) (Nat.le_of_ble_eq_true rfl) (by omega) (by omega) (fun _ _ hx => noX_x hx) (fun v46 L1 hp46 => ?_)
          obtain ⟨rfl, rfl⟩ := hp46
          refine (show Go g κ 49 [some (.ref t), some (.int (nI n)), some (.ref p), some (.int (nI k))] [.ref (kI g (2 * k)), .ref p] [w0, l21_1] ((ltL (T.2.2.1 n) (2 ^ T.1)).length - (ltL (T.2.2.1 n) k).length) (4 * (capF (vs ++ cov T n).length - capF (vs ++ (n :: ltL (T.2.2.1 n) k)).length)) from ?_)
          obtain ⟨wc_8, ewc_8⟩ : ∃ w : va_W, w = ([] : List va_W).flatten := ⟨_, rfl⟩
          have hwc_8 : BxE g (kI g (2 * k)) (2 * k) wc_8 := by
            rw [ewc_8]
            exact kI_box g (by omega)
          refine g_close (w := wc_8) [] rfl ewc_8 rfl ?_
          refine (show Go g κ 49 [some (.ref t), some (.int (nI n)), some (.ref p), some (.int (nI k))] [.ref (kI g (2 * k)), .ref p] [w0, l21_1, wc_8] ((ltL (T.2.2.1 n) (2 ^ T.1)).length - (ltL (T.2.2.1 n) k).length) (4 * (capF (vs ++ cov T n).length - capF (vs ++ (n :: ltL (T.2.2.1 n) k)).length)) from ?_)
          obtain ⟨ps_9, md_9, hli_9, hln_9, hel_9⟩ := LhP.at (Sub.self hl21_1)
          refine g_callF (q := 54) (is := [1, 1]) (kc2 := ((ltL (T.2.2.1 n) (2 ^ T.1)).length - (ltL (T.2.2.1 n) k).length) - 1) (ks2 := (4 * (capF (vs ++ cov T n).length - capF (vs ++ (n :: ltL (T.2.2.1 n) k)).length)) - (4 * (capF ((vs ++ (n :: ltL (T.2.2.1 n) k)).length + 1) - capF (vs ++ (n :: ltL (T.2.2.1 n) k)).length))) B [.ref (kI g (2 * k))] (ct_add_IlP g J (p := p) (rs := (vs ++ (n :: ltL (T.2.2.1 n) k))) (cap := (capF (vs ++ (n :: ltL (T.2.2.1 n) k)).length)) (a := (kI g (2 * k))) (r := (2 * k)) (mc := 1) (ms := (4 * (capF ((vs ++ (n :: ltL (T.2.2.1 n) k)).length + 1) - capF (vs ++ (n :: ltL (T.2.2.1 n) k)).length))) hl21_1 hwc_8 (by have := capF_le (vs ++ (n :: ltL (T.2.2.1 n) k)).length; omega) (fun h => ⟨Nat.le_refl _, capF_ms _ h⟩)) dX10_covers_2_49 rfl (ci := 21) rfl (rc_in B (ci := 21) rfl (k := 1) rfl (LhP.hm hl21_1)) q2512 q709 q711 q81 q713 q708 q707 q712 q710 q318 rfl rfl mojava_util_List_add__Ljava_lang_Object__Z rfl rfl (by decide) (by decide) (Nat.le_of_ble_eq_true rfl) (by omega) (by omega) (fun _ _ hx => noX_x hx) (fun v49 L1 hp49 => ?_)
          obtain ⟨u0_49, rfl, rfl, hu0_49⟩ := hp49
          refine (show Go g κ 54 [some (.ref t), some (.int (nI n)), some (.ref p), some (.int (nI k))] [.int (nI 1)] [w0, u0_49] (((ltL (T.2.2.1 n) (2 ^ T.1)).length - (ltL (T.2.2.1 n) k).length) - 1) ((4 * (capF (vs ++ cov T n).length - capF (vs ++ (n :: ltL (T.2.2.1 n) k)).length)) - (4 * (capF ((vs ++ (n :: ltL (T.2.2.1 n) k)).length + 1) - capF (vs ++ (n :: ltL (T.2.2.1 n) k)).length))) from ?_)
          have hr_10 : LhP g (BxE g) p (vs ++ (n :: ltL (T.2.2.1 n) (k + 1))) (capF (vs ++ (n :: ltL (T.2.2.1 n) (k + 1))).length) u0_49 := by rw [hc1, hls, ← capF_s]; have z := hu0_49; rw [List.append_assoc, List.cons_append] at z; exact z
          refine g_pop (q := 55) B dX10_covers_2_54 rfl rfl ?_
          refine g_iinc (v := nI (k + 1)) (q := 58) (lv2 := [some (.ref t), some (.int (nI n)), some (.ref p), some (.int (nI (k + 1)))]) B dX10_covers_2_55 rfl rfl (nI_add _ 1) (Nat.le_of_ble_eq_true rfl) rfl ?_
          refine g_goto (tgt := 21) B dX10_covers_2_58 (by decide) ?_
          refine g_room (kc2 := (ltL (T.2.2.1 n) (2 ^ T.1)).length - (ltL (T.2.2.1 n) (k + 1)).length) (ks2 := 4 * (capF (vs ++ cov T n).length - capF (vs ++ (n :: ltL (T.2.2.1 n) (k + 1))).length)) (by omega) (by omega) ?_
          exact ih21 _ (by omega) (k + 1) u0_49 hr_10 (by first | assumption | omega | rfl) rfl
    have hl00 : (ltL (T.2.2.1 n) 0).length = 0 := rfl
    refine g_room (kc2 := (ltL (T.2.2.1 n) (2 ^ T.1)).length - (ltL (T.2.2.1 n) 0).length) (ks2 := 4 * (capF (vs ++ cov T n).length - capF (vs ++ (n :: ltL (T.2.2.1 n) 0)).length)) (by omega) (by omega) ?_
    exact lp21 _ 0 u0_13 hr_4 (Nat.zero_le _) rfl
theorem ct_X10_covers_4 (g : Gv) (J : Jd g) {t : Nat} {T : TrS} {n : Nat} {p : Nat} {vs : List Nat} {w0 : va_W} {w1 : va_W} (hw0 : TreeP g t T w0) (hw1 : LhP g (BxE g) p vs (capF vs.length) w1) (hn : n < 31) (hlv : lev n = 4) (hvl : vs.length + 272 < 100000) : Ct g yX10_covers_2 (ws_ yX10_covers_2 cX10_covers_2 4 none) 12 ((cov T n).length) (4 * (capF (vs ++ cov T n).length - capF vs.length)) [.ref t, .int (nI n), .ref p] [w0, w1] (fun (rv_ : Option Value) (rL_ : List va_W) => ∃ (u1 : va_W), rv_ = none ∧ rL_ = [w0, u1] ∧ LhP g (BxE g) p (vs ++ cov T n) (capF (vs ++ cov T n).length) u1) noX := by
  refine Ct.of "Keygrove$Tree" [some (.ref t), some (.int (nI n)), some (.ref p), none] rfl (by decide) rfl (Nat.le_of_ble_eq_true rfl) rfl ?_
  intro κ B E tb
  have hB := TreeP.b hw0
  have hp2 := p2_4 hB.1
  have hd4 := hB.1
  refine g_aload_n (q := 1) B dX10_covers_2_0 rfl rfl (rv_r _) ?_
  refine g_iload_n (q := 2) B dX10_covers_2_1 rfl rfl ?_
  refine g_callV (q := 5) (is := [0]) (kc2 := (cov T n).length) (ks2 := 4 * (capF (vs ++ cov T n).length - capF vs.length)) B [.int (nI n)] (ct_X10_isBlank g J (t := t) (T := T) (n := n) hw0 (by first | assumption | omega | rfl)) dX10_covers_2_2 rfl (rc_in B (ci := 5) rfl (k := 0) rfl (TreeP.hm hw0)) rfl q2553 q1145 q1146 q123 q1147 rfl rfl moX10_isBlank rfl rfl (by decide) (by decide) (Nat.le_of_ble_eq_true rfl) (by omega) (by omega) (fun _ _ hx => noX_x hx) (fun v2 L1 hp2 => ?_)
  obtain ⟨rfl, rfl⟩ := hp2
  refine (show Go g κ 5 [some (.ref t), some (.int (nI n)), some (.ref p), none] [.int (nI (if T.2.1 n = none then 1 else 0))] [w1, w0] ((cov T n).length) (4 * (capF (vs ++ cov T n).length - capF vs.length)) from ?_)
  refine g_if_ne (tgt := 64) (q := 8) B dX10_covers_2_5 rfl (by decide) (bo_ne) (fun c5 => ?_) (fun c5 => ?_)
  · skip
    refine g_iload_n (q := 65) B dX10_covers_2_64 rfl rfl ?_
    refine g_callS (q := 68) (is := []) (kc2 := (cov T n).length) (ks2 := 4 * (capF (vs ++ cov T n).length - capF vs.length)) B [.int (nI n)] (ct_X10_level g J (n := n)  (by first | assumption | omega | rfl)) dX10_covers_2_65 rfl q1796 q1797 q123 q1798 rfl rfl moX10_level rfl rfl (by decide) (by decide) (Nat.le_of_ble_eq_true rfl) (by omega) (by omega) (fun _ _ hx => noX_x hx) (fun v65 L1 hp65 => ?_)
    obtain ⟨rfl, rfl⟩ := hp65
    refine (show Go g κ 68 [some (.ref t), some (.int (nI n)), some (.ref p), none] [.int (nI (lev n))] [w1, w0] ((cov T n).length) (4 * (capF (vs ++ cov T n).length - capF vs.length)) from ?_)
    refine g_if_le (tgt := 89) (q := 71) B dX10_covers_2_68 rfl (by decide) (iff_false_intro (by rw [nI_le0 (by omega)]; omega)) (fun z => z.elim) (fun _ => ?_)
    obtain ⟨hq1, hq2, hq3, hq4⟩ := lft_b n hn (by omega)
    have hcb := cov_b hn c5 (by omega)
    have hlb : (cov T n).length = (cov T (lft n)).length + (cov T (rgt n)).length := by rw [hcb]; simp
    have hE1 : capF (vs ++ cov T n).length = capF ((vs ++ cov T (lft n)) ++ cov T (rgt n)).length := by rw [hcb, List.append_assoc]
    have hm1 := capF_m (show vs.length ≤ (vs ++ cov T (lft n)).length by simp)
    have hm2 := capF_m (show (vs ++ cov T (lft n)).length ≤ ((vs ++ cov T (lft n)) ++ cov T (rgt n)).length by simp)
    have hlz := cov_len hB (n := lft n) (m := 3) (by omega)
    have hlz2 : (vs ++ cov T (lft n)).length = vs.length + (cov T (lft n)).length := by simp
    refine g_aload_n (q := 72) B dX10_covers_2_71 rfl rfl (rv_r _) ?_
    refine g_iload_n (q := 73) B dX10_covers_2_72 rfl rfl ?_
    refine g_callS (q := 76) (is := []) (kc2 := (cov T n).length) (ks2 := 4 * (capF (vs ++ cov T n).length - capF vs.length)) B [.int (nI n)] (ct_X10_left g J (n := n)  (by first | assumption | omega | rfl) (by first | assumption | omega | rfl)) dX10_covers_2_73 rfl q2576 q2562 q123 q2563 rfl rfl moX10_left rfl rfl (by decide) (by decide) (Nat.le_of_ble_eq_true rfl) (by omega) (by omega) (fun _ _ hx => noX_x hx) (fun v73 L1 hp73 => ?_)
    obtain ⟨rfl, rfl⟩ := hp73
    refine (show Go g κ 76 [some (.ref t), some (.int (nI n)), some (.ref p), none] [.int (nI (lft n)), .ref t] [w1, w0] ((cov T n).length) (4 * (capF (vs ++ cov T n).length - capF vs.length)) from ?_)
    refine g_aload_n (q := 77) B dX10_covers_2_76 rfl rfl (rv_r _) ?_
    refine g_callV (q := 80) (is := [1, 0]) (kc2 := ((cov T n).length) - ((cov T (lft n)).length)) (ks2 := (4 * (capF (vs ++ cov T n).length - capF vs.length)) - (4 * (capF (vs ++ cov T (lft n)).length - capF vs.length))) B [.int (nI (lft n)), .ref p] (ct_X10_covers_3 g J (t := t) (T := T) (n := lft n) (p := p) (vs := vs) hw0 hw1 (by omega) (by omega) (by omega)) dX10_covers_2_77 rfl (rc_in B (ci := 5) rfl (k := 1) rfl (TreeP.hm hw0)) rfl q2571 q2573 qs38 q123 q2574 rfl rfl moX10_covers_2 rfl rfl (by decide) (by decide) (Nat.le_of_ble_eq_true rfl) (by omega) (by omega) (fun _ _ hx => noX_x hx) (fun v77 L1 hp77 => ?_)
    obtain ⟨u1_77, rfl, rfl, hu1_77⟩ := hp77
    refine (show Go g κ 80 [some (.ref t), some (.int (nI n)), some (.ref p), none] [] [w0, u1_77] (((cov T n).length) - ((cov T (lft n)).length)) ((4 * (capF (vs ++ cov T n).length - capF vs.length)) - (4 * (capF (vs ++ cov T (lft n)).length - capF vs.length))) from ?_)
    refine g_aload_n (q := 81) B dX10_covers_2_80 rfl rfl (rv_r _) ?_
    refine g_iload_n (q := 82) B dX10_covers_2_81 rfl rfl ?_
    refine g_callS (q := 85) (is := []) (kc2 := ((cov T n).length) - ((cov T (lft n)).length)) (ks2 := (4 * (capF (vs ++ cov T n).length - capF vs.length)) - (4 * (capF (vs ++ cov T (lft n)).length - capF vs.length))) B [.int (nI n)] (ct_X10_right g J (n := n)  (by first | assumption | omega | rfl) (by first | assumption | omega | rfl)) dX10_covers_2_82 rfl q2577 q2565 q123 q2566 rfl rfl moX10_right rfl rfl (by decide) (by decide) (Nat.le_of_ble_eq_true rfl) (by omega) (by omega) (fun _ _ hx => noX_x hx) (fun v82 L1 hp82 => ?_)
    obtain ⟨rfl, rfl⟩ := hp82
    refine (show Go g κ 85 [some (.ref t), some (.int (nI n)), some (.ref p), none] [.int (nI (rgt n)), .ref t] [w0, u1_77] (((cov T n).length) - ((cov T (lft n)).length)) ((4 * (capF (vs ++ cov T n).length - capF vs.length)) - (4 * (capF (vs ++ cov T (lft n)).length - capF vs.length))) from ?_)
    refine g_aload_n (q := 86) B dX10_covers_2_85 rfl rfl (rv_r _) ?_
    refine g_callV (q := 89) (is := [0, 0]) (kc2 := (((cov T n).length) - ((cov T (lft n)).length)) - ((cov T (rgt n)).length)) (ks2 := ((4 * (capF (vs ++ cov T n).length - capF vs.length)) - (4 * (capF (vs ++ cov T (lft n)).length - capF vs.length))) - (4 * (capF ((vs ++ cov T (lft n)) ++ cov T (rgt n)).length - capF (vs ++ cov T (lft n)).length))) B [.int (nI (rgt n)), .ref p] (ct_X10_covers_3 g J (t := t) (T := T) (n := rgt n) (p := p) (vs := (vs ++ cov T (lft n))) hw0 hu1_77 (by omega) (by omega) (by omega)) dX10_covers_2_86 rfl (rc_in B (ci := 5) rfl (k := 0) rfl (TreeP.hm hw0)) rfl q2571 q2573 qs38 q123 q2574 rfl rfl moX10_covers_2 rfl rfl (by decide) (by decide) (Nat.le_of_ble_eq_true rfl) (by omega) (by omega) (fun _ _ hx => noX_x hx) (fun v86 L1 hp86 => ?_)
    obtain ⟨u1_86, rfl, rfl, hu1_86⟩ := hp86
    refine (show Go g κ 89 [some (.ref t), some (.int (nI n)), some (.ref p), none] [] [w0, u1_86] ((((cov T n).length) - ((cov T (lft n)).length)) - ((cov T (rgt n)).length)) (((4 * (capF (vs ++ cov T n).length - capF vs.length)) - (4 * (capF (vs ++ cov T (lft n)).length - capF vs.length))) - (4 * (capF ((vs ++ cov T (lft n)) ++ cov T (rgt n)).length - capF (vs ++ cov T (lft n)).length))) from ?_)
    have hr_1 : LhP g (BxE g) p (vs ++ cov T n) (capF (vs ++ cov T n).length) u1_86 := by rw [hcb, ← List.append_assoc]; exact hu1_86
    exact g_vret B E dX10_covers_2_89 (⟨u1_86, rfl, rfl, hr_1⟩)
  · skip
    have hcs : cov T n = n :: ltL (T.2.2.1 n) (2 ^ T.1) := cov_s c5
    have hsl := hB.2.2.1 n
    have hlE : (vs ++ cov T n).length = vs.length + 1 + (ltL (T.2.2.1 n) (2 ^ T.1)).length := by rw [hcs]; simp; omega
    have hlc : (cov T n).length = (ltL (T.2.2.1 n) (2 ^ T.1)).length + 1 := by rw [hcs]; simp
    have hm1 := capF_m (show vs.length + 1 ≤ (vs ++ cov T n).length by omega)
    have hm2 := capF_mo vs.length
    have hcv := cov_len hB hlv
    have hlE2 : (vs ++ cov T n).length = vs.length + (cov T n).length := by simp
    refine g_aload_n (q := 9) B dX10_covers_2_8 rfl rfl (rv_r _) ?_
    refine g_iload_n (q := 10) B dX10_covers_2_9 rfl rfl ?_
    refine g_callS (q := 13) (is := []) (kc2 := (cov T n).length) (ks2 := 4 * (capF (vs ++ cov T n).length - capF vs.length)) B [.int (nI n)] (ct_J26_valueOf_k g J (k := n)  (by omega)) dX10_covers_2_10 rfl q2510 q686 q111 q687 rfl rfl moJ26_valueOf rfl rfl (by decide) (by decide) (Nat.le_of_ble_eq_true rfl) (by omega) (by omega) (fun _ _ hx => noX_x hx) (fun v10 L1 hp10 => ?_)
    obtain ⟨rfl, rfl⟩ := hp10
    refine (show Go g κ 13 [some (.ref t), some (.int (nI n)), some (.ref p), none] [.ref (kI g n), .ref p] [w1, w0] ((cov T n).length) (4 * (capF (vs ++ cov T n).length - capF vs.length)) from ?_)
    obtain ⟨wc_2, ewc_2⟩ : ∃ w : va_W, w = ([] : List va_W).flatten := ⟨_, rfl⟩
    have hwc_2 : BxE g (kI g n) n wc_2 := by
      rw [ewc_2]
      exact kI_box g (by omega)
    refine g_close (w := wc_2) [] rfl ewc_2 rfl ?_
    refine (show Go g κ 13 [some (.ref t), some (.int (nI n)), some (.ref p), none] [.ref (kI g n), .ref p] [w1, w0, wc_2] ((cov T n).length) (4 * (capF (vs ++ cov T n).length - capF vs.length)) from ?_)
    obtain ⟨ps_3, md_3, hli_3, hln_3, hel_3⟩ := LhP.at (Sub.self hw1)
    refine g_callF (q := 18) (is := [0, 1]) (kc2 := ((cov T n).length) - 1) (ks2 := (4 * (capF (vs ++ cov T n).length - capF vs.length)) - (4 * (capF (vs.length + 1) - capF vs.length))) B [.ref (kI g n)] (ct_add_IlP g J (p := p) (rs := vs) (cap := (capF vs.length)) (a := (kI g n)) (r := n) (mc := 1) (ms := (4 * (capF (vs.length + 1) - capF vs.length))) hw1 hwc_2 (by have := capF_le vs.length; omega) (fun h => ⟨Nat.le_refl _, capF_ms _ h⟩)) dX10_covers_2_13 rfl (ci := 21) rfl (rc_in B (ci := 21) rfl (k := 0) rfl (LhP.hm hw1)) q2512 q709 q711 q81 q713 q708 q707 q712 q710 q318 rfl rfl mojava_util_List_add__Ljava_lang_Object__Z rfl rfl (by decide) (by decide) (Nat.le_of_ble_eq_true rfl) (by omega) (by omega) (fun _ _ hx => noX_x hx) (fun v13 L1 hp13 => ?_)
    obtain ⟨u0_13, rfl, rfl, hu0_13⟩ := hp13
    refine (show Go g κ 18 [some (.ref t), some (.int (nI n)), some (.ref p), none] [.int (nI 1)] [w0, u0_13] (((cov T n).length) - 1) ((4 * (capF (vs ++ cov T n).length - capF vs.length)) - (4 * (capF (vs.length + 1) - capF vs.length))) from ?_)
    have hX0 : (vs ++ (n :: ltL (T.2.2.1 n) 0)).length = vs.length + 1 := by simp [ltL]
    have hc0 : capF (vs ++ (n :: ltL (T.2.2.1 n) 0)).length = capF (vs.length + 1) := by rw [hX0]
    have hr_4 : LhP g (BxE g) p (vs ++ (n :: ltL (T.2.2.1 n) 0)) (capF (vs ++ (n :: ltL (T.2.2.1 n) 0)).length) u0_13 := by rw [hc0, ← capF_s]; exact hu0_13
    refine g_pop (q := 19) B dX10_covers_2_18 rfl rfl ?_
    refine g_iconst (v := nI 0) (q := 20) B dX10_covers_2_19 rfl (by decide) ?_
    refine g_istore_n (q := 21) (lv2 := [some (.ref t), some (.int (nI n)), some (.ref p), some (.int (nI 0))]) B dX10_covers_2_20 rfl (Nat.le_of_ble_eq_true rfl) rfl ?_
    have lp21 : ∀ (n21 : Nat) (k : Nat) (l21_1 : va_W), LhP g (BxE g) p (vs ++ (n :: ltL (T.2.2.1 n) k)) (capF (vs ++ (n :: ltL (T.2.2.1 n) k)).length) l21_1 → (k ≤ 2 ^ T.1) → 2 ^ T.1 - k = n21 → Go g κ 21 [some (.ref t), some (.int (nI n)), some (.ref p), some (.int (nI k))] [] [w0, l21_1] ((ltL (T.2.2.1 n) (2 ^ T.1)).length - (ltL (T.2.2.1 n) k).length) (4 * (capF (vs ++ cov T n).length - capF (vs ++ (n :: ltL (T.2.2.1 n) k)).length)) := by
      intro n21
      induction n21 using Nat.strongRecOn with
      | _ n21 ih21 =>
      intro k l21_1 hl21_1 hk hmu21
      refine g_iload_n (q := 22) B dX10_covers_2_21 rfl rfl ?_
      refine g_aload_n (q := 23) B dX10_covers_2_22 rfl rfl (rv_r _) ?_
      obtain ⟨as_5, al_5, ap_5, fs_5, fl_5, fp_5, hB_5, hfs_5, hfl_5, hfp_5, hc_5_0, hc_5_1, hc_5_2, hc_5_3⟩ := TreeP.at (Sub.self hw0)
      refine g_getM (q := 26) B (ci := 5) (k := 0) (j := 0) in_X10 rfl dX10_covers_2_23 rfl rfl (hc_5_0) (Nat.le_of_ble_eq_true rfl) q2035 rfl rfl ?_
      refine g_icmp_ge (tgt := 61) (q := 29) B dX10_covers_2_26 rfl (by decide) (nI_leI (by omega) (by omega)) (fun c26 => ?_) (fun c26 => ?_)
      · skip
        have hr_6 : LhP g (BxE g) p (vs ++ cov T n) (capF (vs ++ cov T n).length) l21_1 := by rw [hcs]; have z := hl21_1; rw [show k = 2 ^ T.1 by omega] at z; exact z
        refine g_goto (tgt := 89) B dX10_covers_2_61 (by decide) ?_
        exact g_vret B E dX10_covers_2_89 (⟨l21_1, rfl, rfl, hr_6⟩)
      · skip
        refine g_aload_n (q := 30) B dX10_covers_2_29 rfl rfl (rv_r _) ?_
        refine g_getM (q := 33) B (ci := 5) (k := 0) (j := 2) in_X10 rfl dX10_covers_2_30 rfl rfl (hc_5_0) (Nat.le_of_ble_eq_true rfl) q2041 rfl rfl ?_
        refine g_iload_n (q := 34) B dX10_covers_2_33 rfl rfl ?_
        refine g_ialdM (v := nI (T.2.2.1 n)) (q := 35) B (k := 0) dX10_covers_2_34 rfl rfl (hc_5_2) (vp_in_nI (by omega) (by omega)) (by rw [nI_clamp (by omega)]; exact hfl_5 _ (by omega)) ?_
        refine g_iload_n (q := 36) B dX10_covers_2_35 rfl rfl ?_
        refine g_callSN (q := 39) (is := []) (kc2 := (ltL (T.2.2.1 n) (2 ^ T.1)).length - (ltL (T.2.2.1 n) k).length) (ks2 := 4 * (capF (vs ++ cov T n).length - capF (vs ++ (n :: ltL (T.2.2.1 n) k)).length)) B [.int (nI (T.2.2.1 n)), .int (nI k)] (ct_X1_has g J (s := T.2.2.1 n) (l := k)  (by first | assumption | omega | rfl) (by first | assumption | omega | rfl)) dX10_covers_2_36 rfl q2575 q1801 q77 q1802 rfl rfl moX1_has rfl rfl (by decide) (by decide) (Nat.le_of_ble_eq_true rfl) (by omega) (by omega) (fun _ _ hx => noX_x hx) (fun v36 L1 hp36 => ?_)
        obtain ⟨rfl, rfl⟩ := hp36
        refine (show Go g κ 39 [some (.ref t), some (.int (nI n)), some (.ref p), some (.int (nI k))] [.int (nI (if hsB (T.2.2.1 n) k = true then 1 else 0))] [w0, l21_1] ((ltL (T.2.2.1 n) (2 ^ T.1)).length - (ltL (T.2.2.1 n) k).length) (4 * (capF (vs ++ cov T n).length - capF (vs ++ (n :: ltL (T.2.2.1 n) k)).length)) from ?_)
        refine g_if_eq (tgt := 55) (q := 42) B dX10_covers_2_39 rfl (by decide) (bo_eq) (fun c39 => ?_) (fun c39 => ?_)
        · skip
          have hls : ltL (T.2.2.1 n) (k + 1) = ltL (T.2.2.1 n) k := by rw [ltL_s, if_neg c39]
          have hc9 : capF (vs ++ (n :: ltL (T.2.2.1 n) (k + 1))).length = capF (vs ++ (n :: ltL (T.2.2.1 n) k)).length := by rw [hls]
          have hl9 : (ltL (T.2.2.1 n) (k + 1)).length = (ltL (T.2.2.1 n) k).length := by rw [hls]
          have hr_7 : LhP g (BxE g) p (vs ++ (n :: ltL (T.2.2.1 n) (k + 1))) (capF (vs ++ (n :: ltL (T.2.2.1 n) (k + 1))).length) l21_1 := by rw [hls]; exact hl21_1
          refine g_iinc (v := nI (k + 1)) (q := 58) (lv2 := [some (.ref t), some (.int (nI n)), some (.ref p), some (.int (nI (k + 1)))]) B dX10_covers_2_55 rfl rfl (nI_add _ 1) (Nat.le_of_ble_eq_true rfl) rfl ?_
          refine g_goto (tgt := 21) B dX10_covers_2_58 (by decide) ?_
          refine g_room (kc2 := (ltL (T.2.2.1 n) (2 ^ T.1)).length - (ltL (T.2.2.1 n) (k + 1)).length) (ks2 := 4 * (capF (vs ++ cov T n).length - capF (vs ++ (n :: ltL (T.2.2.1 n) (k + 1))).length)) (by omega) (by omega) ?_
          exact ih21 _ (by omega) (k + 1) l21_1 hr_7 (by first | assumption | omega | rfl) rfl
        · skip
          have c39 := Classical.not_not.mp c39
          have hls : ltL (T.2.2.1 n) (k + 1) = ltL (T.2.2.1 n) k ++ [2 * k] := by rw [ltL_s, if_pos c39]
          have hl1 : (ltL (T.2.2.1 n) (k + 1)).length = (ltL (T.2.2.1 n) k).length + 1 := by rw [hls]; simp
          have hl2 := ltL_mo (T.2.2.1 n) (show k + 1 ≤ 2 ^ T.1 by omega)
          have hX : (vs ++ (n :: ltL (T.2.2.1 n) (k + 1))).length = (vs ++ (n :: ltL (T.2.2.1 n) k)).length + 1 := by rw [hls]; simp only [List.length_append, List.length_cons, List.length_nil]; omega
          have hXk : (vs ++ (n :: ltL (T.2.2.1 n) k)).length = vs.length + 1 + (ltL (T.2.2.1 n) k).length := by simp only [List.length_append, List.length_cons]; omega
          have hc1 : capF (vs ++ (n :: ltL (T.2.2.1 n) (k + 1))).length = capF ((vs ++ (n :: ltL (T.2.2.1 n) k)).length + 1) := by rw [hX]
          have hc2 := capF_m (show (vs ++ (n :: ltL (T.2.2.1 n) k)).length + 1 ≤ (vs ++ cov T n).length by omega)
          have hc3 := capF_mo (vs ++ (n :: ltL (T.2.2.1 n) k)).length
          refine g_aload_n (q := 43) B dX10_covers_2_42 rfl rfl (rv_r _) ?_
          refine g_iconst (v := nI 2) (q := 44) B dX10_covers_2_43 rfl (by decide) ?_
          refine g_iload_n (q := 45) B dX10_covers_2_44 rfl rfl ?_
          refine g_imul (v := nI (2 * k)) (q := 46) B dX10_covers_2_45 rfl (pk_mul _ _) ?_
          refine g_callS (q := 49) (is := []) (kc2 := (ltL (T.2.2.1 n) (2 ^ T.1)).length - (ltL (T.2.2.1 n) k).length) (ks2 := 4 * (capF (vs ++ cov T n).length - capF (vs ++ (n :: ltL (T.2.2.1 n) k)).length)) B [.int (nI (2 * k))] (ct_J26_valueOf_k g J (k := 2 * k)  (by omega)) dX10_covers_2_46 rfl q2510 q686 q111 q687 rfl rfl moJ26_valueOf rfl rfl (by decide) (by decide) (Nat.le_of_ble_eq_true rfl) (by omega) (by omega) (fun _ _ hx => noX_x hx) (fun v46 L1 hp46 => ?_)
          obtain ⟨rfl, rfl⟩ := hp46
          refine (show Go g κ 49 [some (.ref t), some (.int (nI n)), some (.ref p), some (.int (nI k))] [.ref (kI g (2 * k)), .ref p] [w0, l21_1] ((ltL (T.2.2.1 n) (2 ^ T.1)).length - (ltL (T.2.2.1 n) k).length) (4 * (capF (vs ++ cov T n).length - capF (vs ++ (n :: ltL (T.2.2.1 n) k)).length)) from ?_)
          obtain ⟨wc_8, ewc_8⟩ : ∃ w : va_W, w = ([] : List va_W).flatten := ⟨_, rfl⟩
          have hwc_8 : BxE g (kI g (2 * k)) (2 * k) wc_8 := by
            rw [ewc_8]
            exact kI_box g (by omega)
          refine g_close (w := wc_8) [] rfl ewc_8 rfl ?_
          refine (show Go g κ 49 [some (.ref t), some (.int (nI n)), some (.ref p), some (.int (nI k))] [.ref (kI g (2 * k)), .ref p] [w0, l21_1, wc_8] ((ltL (T.2.2.1 n) (2 ^ T.1)).length - (ltL (T.2.2.1 n) k).length) (4 * (capF (vs ++ cov T n).length - capF (vs ++ (n :: ltL (T.2.2.1 n) k)).length)) from ?_)
          obtain ⟨ps_9, md_9, hli_9, hln_9, hel_9⟩ := LhP.at (Sub.self hl21_1)
          refine g_callF (q := 54) (is := [1, 1]) (kc2 := ((ltL (T.2.2.1 n) (2 ^ T.1)).length - (ltL (T.2.2.1 n) k).length) - 1) (ks2 := (4 * (capF (vs ++ cov T n).length - capF (vs ++ (n :: ltL (T.2.2.1 n) k)).length)) - (4 * (capF ((vs ++ (n :: ltL (T.2.2.1 n) k)).length + 1) - capF (vs ++ (n :: ltL (T.2.2.1 n) k)).length))) B [.ref (kI g (2 * k))] (ct_add_IlP g J (p := p) (rs := (vs ++ (n :: ltL (T.2.2.1 n) k))) (cap := (capF (vs ++ (n :: ltL (T.2.2.1 n) k)).length)) (a := (kI g (2 * k))) (r := (2 * k)) (mc := 1) (ms := (4 * (capF ((vs ++ (n :: ltL (T.2.2.1 n) k)).length + 1) - capF (vs ++ (n :: ltL (T.2.2.1 n) k)).length))) hl21_1 hwc_8 (by have := capF_le (vs ++ (n :: ltL (T.2.2.1 n) k)).length; omega) (fun h => ⟨Nat.le_refl _, capF_ms _ h⟩)) dX10_covers_2_49 rfl (ci := 21) rfl (rc_in B (ci := 21) rfl (k := 1) rfl (LhP.hm hl21_1)) q2512 q709 q711 q81 q713 q708 q707 q712 q710 q318 rfl rfl mojava_util_List_add__Ljava_lang_Object__Z rfl rfl (by decide) (by decide) (Nat.le_of_ble_eq_true rfl) (by omega) (by omega) (fun _ _ hx => noX_x hx) (fun v49 L1 hp49 => ?_)
          obtain ⟨u0_49, rfl, rfl, hu0_49⟩ := hp49
          refine (show Go g κ 54 [some (.ref t), some (.int (nI n)), some (.ref p), some (.int (nI k))] [.int (nI 1)] [w0, u0_49] (((ltL (T.2.2.1 n) (2 ^ T.1)).length - (ltL (T.2.2.1 n) k).length) - 1) ((4 * (capF (vs ++ cov T n).length - capF (vs ++ (n :: ltL (T.2.2.1 n) k)).length)) - (4 * (capF ((vs ++ (n :: ltL (T.2.2.1 n) k)).length + 1) - capF (vs ++ (n :: ltL (T.2.2.1 n) k)).length))) from ?_)
          have hr_10 : LhP g (BxE g) p (vs ++ (n :: ltL (T.2.2.1 n) (k + 1))) (capF (vs ++ (n :: ltL (T.2.2.1 n) (k + 1))).length) u0_49 := by rw [hc1, hls, ← capF_s]; have z := hu0_49; rw [List.append_assoc, List.cons_append] at z; exact z
          refine g_pop (q := 55) B dX10_covers_2_54 rfl rfl ?_
          refine g_iinc (v := nI (k + 1)) (q := 58) (lv2 := [some (.ref t), some (.int (nI n)), some (.ref p), some (.int (nI (k + 1)))]) B dX10_covers_2_55 rfl rfl (nI_add _ 1) (Nat.le_of_ble_eq_true rfl) rfl ?_
          refine g_goto (tgt := 21) B dX10_covers_2_58 (by decide) ?_
          refine g_room (kc2 := (ltL (T.2.2.1 n) (2 ^ T.1)).length - (ltL (T.2.2.1 n) (k + 1)).length) (ks2 := 4 * (capF (vs ++ cov T n).length - capF (vs ++ (n :: ltL (T.2.2.1 n) (k + 1))).length)) (by omega) (by omega) ?_
          exact ih21 _ (by omega) (k + 1) u0_49 hr_10 (by first | assumption | omega | rfl) rfl
    have hl00 : (ltL (T.2.2.1 n) 0).length = 0 := rfl
    refine g_room (kc2 := (ltL (T.2.2.1 n) (2 ^ T.1)).length - (ltL (T.2.2.1 n) 0).length) (ks2 := 4 * (capF (vs ++ cov T n).length - capF (vs ++ (n :: ltL (T.2.2.1 n) 0)).length)) (by omega) (by omega) ?_
    exact lp21 _ 0 u0_13 hr_4 (Nat.zero_le _) rfl
theorem ct_X10_cover (g : Gv) (J : Jd g) {t : Nat} {T : TrS} {n : Nat} {w0 : va_W} (hw0 : TreeP g t T w0) (hn : n < 31) : Ct g yX10_cover (ws_ yX10_cover cX10_cover 3 (some (.object "java/util/List"))) 13 (1 + (cov T n).length) (3 + 4 * capF (cov T n).length) [.ref t, .int (nI n)] [w0] (fun (rv_ : Option Value) (rL_ : List va_W) => ∃ (p : Nat) (u1 : va_W), rv_ = some (.ref p) ∧ rL_ = [w0, u1] ∧ LhP g (BxE g) p (cov T n) (capF (cov T n).length) u1) noX := by
  refine Ct.of "Keygrove$Tree" [some (.ref t), some (.int (nI n)), none] rfl (by decide) rfl (Nat.le_of_ble_eq_true rfl) rfl ?_
  intro κ B E tb
  have hB := TreeP.b hw0
  have hp2 := p2_4 hB.1
  have hd4 := hB.1
  refine g_new (q := 3) (kc2 := (1 + (cov T n).length) - 1) (ks2 := (3 + 4 * capF (cov T n).length) - 3) (fs := [.int (nI 0), .null, .int (nI 0)]) B (ci := 21) in_J2 tyJ2_ok rfl dX10_cover_0 rfl q2498 q166 q81 (nwJ2) (by omega) (by omega) (fun n0 => ?_)
  refine (show Go g κ 3 [some (.ref t), some (.int (nI n)), none] [.ref n0] [w0, [(n0, .inr (21, [.int (nI 0), .null, .int (nI 0)]))]] ((1 + (cov T n).length) - 1) ((3 + 4 * capF (cov T n).length) - 3) from ?_)
  refine g_dup (q := 4) B dX10_cover_3 rfl rfl ?_
  refine g_callI (q := 7) (is := [1]) (kc2 := (1 + (cov T n).length) - 1) (ks2 := (3 + 4 * capF (cov T n).length) - 3) B [] (ct_J2_init g J (p := n0)  ) dX10_cover_4 rfl rfl q2499 q168 q81 q169 rfl rfl moJ2_init rfl rfl (by decide) (by decide) (Nat.le_of_ble_eq_true rfl) (by omega) (by omega) (fun _ _ hx => noX_x hx) (fun v4 L1 hp4 => ?_)
  obtain ⟨u0_4, rfl, rfl, hu0_4⟩ := hp4
  refine (show Go g κ 7 [some (.ref t), some (.int (nI n)), none] [.ref n0] [w0, u0_4] ((1 + (cov T n).length) - 1) ((3 + 4 * capF (cov T n).length) - 3) from ?_)
  refine g_astore_n (q := 8) (lv2 := [some (.ref t), some (.int (nI n)), some (.ref n0)]) B dX10_cover_7 rfl (Nat.le_of_ble_eq_true rfl) (rv_r _) rfl ?_
  have hr_1 : LhP g (BxE g) n0 ([]) (capF ([] : List Nat).length) u0_4 := (hu0_4.nilH)
  refine g_aload_n (q := 9) B dX10_cover_8 rfl rfl (rv_r _) ?_
  refine g_iload_n (q := 10) B dX10_cover_9 rfl rfl ?_
  refine g_aload_n (q := 11) B dX10_cover_10 rfl rfl (rv_r _) ?_
  have h4 := lev_4 n hn
  have hc00 : capF ([] ++ cov T n).length = capF (cov T n).length := rfl
  rcases (show lev n = 0 ∨ lev n = 1 ∨ lev n = 2 ∨ lev n = 3 ∨ lev n = 4 by omega) with hlm | hlm | hlm | hlm | hlm
  · skip
    have hcl2 := cov_len hB hlm
    refine g_callV (q := 14) (is := [0, 0]) (kc2 := 0) (ks2 := 0) B [.int (nI n), .ref n0] (ct_X10_covers_0 g J (t := t) (T := T) (n := n) (p := n0) (vs := []) hw0 hr_1 (hn) (hlm) (by decide)) dX10_cover_11 rfl (rc_in B (ci := 5) rfl (k := 0) rfl (TreeP.hm hw0)) rfl q2571 q2573 qs38 q123 q2574 rfl rfl moX10_covers_2 rfl rfl (by decide) (by decide) (Nat.le_of_ble_eq_true rfl) (by omega) (by omega) (fun _ _ hx => noX_x hx) (fun v11 L1 hp11 => ?_)
    obtain ⟨u1_11, rfl, rfl, hu1_11⟩ := hp11
    refine (show Go g κ 14 [some (.ref t), some (.int (nI n)), some (.ref n0)] [] [w0, u1_11] 0 0 from ?_)
    have hr_2 : LhP g (BxE g) n0 (cov T n) (capF (cov T n).length) u1_11 := hu1_11
    refine g_aload_n (q := 15) B dX10_cover_14 rfl rfl (rv_r _) ?_
    exact g_aret B E dX10_cover_15 (by first | exact Or.inl ⟨_, rfl⟩ | exact Or.inr ⟨_, rfl⟩) (rv_r _) (⟨n0, u1_11, rfl, rfl, hr_2⟩)
  · skip
    have hcl2 := cov_len hB hlm
    refine g_callV (q := 14) (is := [0, 0]) (kc2 := 0) (ks2 := 0) B [.int (nI n), .ref n0] (ct_X10_covers_1 g J (t := t) (T := T) (n := n) (p := n0) (vs := []) hw0 hr_1 (hn) (hlm) (by decide)) dX10_cover_11 rfl (rc_in B (ci := 5) rfl (k := 0) rfl (TreeP.hm hw0)) rfl q2571 q2573 qs38 q123 q2574 rfl rfl moX10_covers_2 rfl rfl (by decide) (by decide) (Nat.le_of_ble_eq_true rfl) (by omega) (by omega) (fun _ _ hx => noX_x hx) (fun v11 L1 hp11 => ?_)
    obtain ⟨u1_11, rfl, rfl, hu1_11⟩ := hp11
    refine (show Go g κ 14 [some (.ref t), some (.int (nI n)), some (.ref n0)] [] [w0, u1_11] 0 0 from ?_)
    have hr_3 : LhP g (BxE g) n0 (cov T n) (capF (cov T n).length) u1_11 := hu1_11
    refine g_aload_n (q := 15) B dX10_cover_14 rfl rfl (rv_r _) ?_
    exact g_aret B E dX10_cover_15 (by first | exact Or.inl ⟨_, rfl⟩ | exact Or.inr ⟨_, rfl⟩) (rv_r _) (⟨n0, u1_11, rfl, rfl, hr_3⟩)
  · skip
    have hcl2 := cov_len hB hlm
    refine g_callV (q := 14) (is := [0, 0]) (kc2 := 0) (ks2 := 0) B [.int (nI n), .ref n0] (ct_X10_covers_2 g J (t := t) (T := T) (n := n) (p := n0) (vs := []) hw0 hr_1 (hn) (hlm) (by decide)) dX10_cover_11 rfl (rc_in B (ci := 5) rfl (k := 0) rfl (TreeP.hm hw0)) rfl q2571 q2573 qs38 q123 q2574 rfl rfl moX10_covers_2 rfl rfl (by decide) (by decide) (Nat.le_of_ble_eq_true rfl) (by omega) (by omega) (fun _ _ hx => noX_x hx) (fun v11 L1 hp11 => ?_)
    obtain ⟨u1_11, rfl, rfl, hu1_11⟩ := hp11
    refine (show Go g κ 14 [some (.ref t), some (.int (nI n)), some (.ref n0)] [] [w0, u1_11] 0 0 from ?_)
    have hr_4 : LhP g (BxE g) n0 (cov T n) (capF (cov T n).length) u1_11 := hu1_11
    refine g_aload_n (q := 15) B dX10_cover_14 rfl rfl (rv_r _) ?_
    exact g_aret B E dX10_cover_15 (by first | exact Or.inl ⟨_, rfl⟩ | exact Or.inr ⟨_, rfl⟩) (rv_r _) (⟨n0, u1_11, rfl, rfl, hr_4⟩)
  · skip
    have hcl2 := cov_len hB hlm
    refine g_callV (q := 14) (is := [0, 0]) (kc2 := 0) (ks2 := 0) B [.int (nI n), .ref n0] (ct_X10_covers_3 g J (t := t) (T := T) (n := n) (p := n0) (vs := []) hw0 hr_1 (hn) (hlm) (by decide)) dX10_cover_11 rfl (rc_in B (ci := 5) rfl (k := 0) rfl (TreeP.hm hw0)) rfl q2571 q2573 qs38 q123 q2574 rfl rfl moX10_covers_2 rfl rfl (by decide) (by decide) (Nat.le_of_ble_eq_true rfl) (by omega) (by omega) (fun _ _ hx => noX_x hx) (fun v11 L1 hp11 => ?_)
    obtain ⟨u1_11, rfl, rfl, hu1_11⟩ := hp11
    refine (show Go g κ 14 [some (.ref t), some (.int (nI n)), some (.ref n0)] [] [w0, u1_11] 0 0 from ?_)
    have hr_5 : LhP g (BxE g) n0 (cov T n) (capF (cov T n).length) u1_11 := hu1_11
    refine g_aload_n (q := 15) B dX10_cover_14 rfl rfl (rv_r _) ?_
    exact g_aret B E dX10_cover_15 (by first | exact Or.inl ⟨_, rfl⟩ | exact Or.inr ⟨_, rfl⟩) (rv_r _) (⟨n0, u1_11, rfl, rfl, hr_5⟩)
  · skip
    have hcl2 := cov_len hB hlm
    refine g_callV (q := 14) (is := [0, 0]) (kc2 := 0) (ks2 := 0) B [.int (nI n), .ref n0] (ct_X10_covers_4 g J (t := t) (T := T) (n := n) (p := n0) (vs := []) hw0 hr_1 (hn) (hlm) (by decide)) dX10_cover_11 rfl (rc_in B (ci := 5) rfl (k := 0) rfl (TreeP.hm hw0)) rfl q2571 q2573 qs38 q123 q2574 rfl rfl moX10_covers_2 rfl rfl (by decide) (by decide) (Nat.le_of_ble_eq_true rfl) (by omega) (by omega) (fun _ _ hx => noX_x hx) (fun v11 L1 hp11 => ?_)
    obtain ⟨u1_11, rfl, rfl, hu1_11⟩ := hp11
    refine (show Go g κ 14 [some (.ref t), some (.int (nI n)), some (.ref n0)] [] [w0, u1_11] 0 0 from ?_)
    have hr_6 : LhP g (BxE g) n0 (cov T n) (capF (cov T n).length) u1_11 := hu1_11
    refine g_aload_n (q := 15) B dX10_cover_14 rfl rfl (rv_r _) ?_
    exact g_aret B E dX10_cover_15 (by first | exact Or.inl ⟨_, rfl⟩ | exact Or.inr ⟨_, rfl⟩) (rv_r _) (⟨n0, u1_11, rfl, rfl, hr_6⟩)
