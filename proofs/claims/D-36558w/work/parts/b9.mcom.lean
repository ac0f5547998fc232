set_option maxRecDepth 100000
/-- chains of an epoch on the model's side -/
def chM (T : TrS) (sec : Nat) (ss : List Sec) : Nat → List Sec × (Nat → Option Nat)
  | 0 => (ss, fun _ => none)
  | k + 1 => if T.2.1 (2 * k) = none then chM T sec ss k else ((frm (chM T sec ss k).1 (sec, none, 100 + k)).1, fup (chM T sec ss k).2 k (some (frm (chM T sec ss k).1 (sec, none, 100 + k)).2))
theorem chM_n {T : TrS} {sec : Nat} {ss : List Sec} {k : Nat} (h : T.2.1 (2 * k) = none) : chM T sec ss (k + 1) = chM T sec ss k := by rw [chM, if_pos h]
theorem chM_y {T : TrS} {sec : Nat} {ss : List Sec} {k : Nat} (h : ¬ T.2.1 (2 * k) = none) : chM T sec ss (k + 1) = ((frm (chM T sec ss k).1 (sec, none, 100 + k)).1, fup (chM T sec ss k).2 k (some (frm (chM T sec ss k).1 (sec, none, 100 + k)).2)) := by rw [chM, if_neg h]
theorem chM_z (T : TrS) (sec : Nat) (ss : List Sec) : ∀ k i, k ≤ i → (chM T sec ss k).2 i = none
  | 0, _, _ => rfl
  | k + 1, i, h => by
    by_cases z : T.2.1 (2 * k) = none
    · rw [chM_n z]; exact chM_z T sec ss k i (by omega)
    · rw [chM_y z]; show fup (chM T sec ss k).2 k _ i = none; rw [fup_n (by omega)]; exact chM_z T sec ss k i (by omega)
theorem chM_m (T : TrS) (sec : Nat) (ss : List Sec) {k m : Nat} (h : k ≤ m) : (chM T sec ss k).1.length ≤ (chM T sec ss m).1.length := by
  induction m with
  | zero => rw [Nat.le_zero.mp h]; exact Nat.le_refl _
  | succ m ih =>
    rcases Nat.lt_or_ge m k with z | z
    · rw [show k = m + 1 by omega]; exact Nat.le_refl _
    · refine Nat.le_trans (ih z) ?_
      by_cases y : T.2.1 (2 * m) = none
      · rw [chM_n y]; exact Nat.le_refl _
      · rw [chM_y y]; exact (@frm_le _ _).1
theorem chM_b {T : TrS} {sec : Nat} {ss : List Sec} {B : Nat} : ∀ k, (chM T sec ss k).1.length ≤ B → ∀ i n, (chM T sec ss k).2 i = some n → n < B
  | 0, _, i, n, h => by cases h
  | k + 1, hl, i, n, h => by
    by_cases y : T.2.1 (2 * k) = none
    · rw [chM_n y] at h hl; exact chM_b k hl i n h
    · rw [chM_y y] at h hl
      have h : fup (chM T sec ss k).2 k (some (frm (chM T sec ss k).1 (sec, none, 100 + k)).2) i = some n := h
      have hl : (frm (chM T sec ss k).1 (sec, none, 100 + k)).1.length ≤ B := hl
      have h1 := (@frm_le (chM T sec ss k).1 (sec, none, 100 + k)).1
      unfold fup at h
      split at h
      · cases h; have := @frm_lt (chM T sec ss k).1 (sec, none, 100 + k); omega
      · exact chM_b k (by omega) i n h
def PN (T : TrS) : Prop := ∀ l, l < 16 → (T.2.2.2 l = none ↔ T.2.1 (2 * l) = none)
theorem bo_iff {P Q : Prop} [Decidable P] [Decidable Q] (h : P ↔ Q) : nI (if P then 1 else 0) = nI (if Q then 1 else 0) := by
  by_cases hp : P
  · rw [if_pos hp, if_pos (h.mp hp)]
  · rw [if_neg hp, if_neg fun q => hp (h.mpr q)]
theorem bo_and1 {P : Prop} [Decidable P] : nI (if P then 1 else 0) &&& nI 1 = nI (if P then 1 else 0) := by split <;> decide
theorem bo_and0 (x : Int32) : x &&& nI 0 = nI 0 := Int32.and_zero
theorem ct_add_EpL2 (g : Gv) (J : Jd g) {p : Nat} {rs : List MeS} {cap : Nat} {a : Nat} {r : MeS} {w0 : va_W} {w1 : va_W} (hw0 : LhP g (EpP g) p rs cap w0) (hw1 : EpP g a r w1) (hcap : cap ≤ 60) (hrl : rs.length < 40) : Ct g yJ2_add (ws_ yJ2_add cJ2_add 2 (some .boolean)) 6 1 60 [.ref p, .ref a] [w0, w1] (fun (rv_ : Option Value) (rL_ : List va_W) => ∃ (u0 : va_W), rv_ = some (.int (nI 1)) ∧ rL_ = [u0] ∧ LhP g (EpP g) p (rs ++ [r]) (if rs.length = cap then growN cap else cap) u0 ∧ (Sub (EpP g a r) u0)) noX := by
  obtain ⟨ps, h⟩ := hw0
  have hl := h.len.1
  refine Ct.cq (h.push (fun _ _ _ z => EpP.vd z) J hw1 (mc := 1) (ms := 60) (by omega) (fun q => grow_s (by omega) q)) (List.Perm.refl _) ?_ noX_cq
  rintro v R ⟨u, e1, e2, hu⟩
  refine ⟨R, [], by simp, u, e1, e2, ⟨ps ++ [a], by rw [← hl]; exact hu⟩, hu.el (i := ps.length) (by simp) (by rw [hl]; simp)⟩
theorem ct_X3_begins (g : Gv) (J : Jd g) {m : Nat} {ls : Nat} {lb : Nat} {lk : Nat} {lp : Nat} {lr : Nat} {le : Nat} {lm : Nat} {lo : Nat} {th : Nat} {z : Int32} {bo : Nat} {cm : Nat} {ss : List Sec} {e : Nat} {r : MeS} {Es : List MeS} {ecap : Nat} {sec : Nat} {s1 : List Sec} {on : Nat} {s2 : List Sec} {ky : Nat} {TA : Nat} {w1 : va_W} {w2 : va_W} {w3 : va_W} (hw1 : LhP g (SecP g) ls ss (capF ss.length) w1) (hw2 : EpP g e r w2) (hw3 : LhP g (EpP g) le Es ecap w3) (hsec : sec < ss.length) (hf1 : frm ss (sec, none, 5) = (s1, on)) (hf2 : frm s1 (sec, none, 6) = (s2, ky)) (hfl : (chM (eTr r) sec s2 (2 ^ (eTr r).1)).1.length ≤ 980) (hTA : capF (chM (eTr r) sec s2 (2 ^ (eTr r).1)).1.length ≤ TA) (hc0 : eCh r = fun _ => none) (hec : ecap ≤ 60) (hen : Es.length < 40) : Ct g yX3_begins (ws_ yX3_begins cX3_begins 4 none) 9 45 (160 + 4 * (TA - capF ss.length)) [.ref m, .ref e, .int (nI sec)] [[(m, .inr (12, [.ref ls, .ref lb, .ref lk, .ref lp, .ref lr, .ref le, .ref lm, .ref lo, .int (nI th), .int z, .int (nI bo), .int (nI cm)]))], w1, w2, w3] (fun (rv_ : Option Value) (rL_ : List va_W) => ∃ (u1 : va_W) (u2 : va_W), rv_ = none ∧ rL_ = [[(m, .inr (12, [.ref ls, .ref lb, .ref lk, .ref lp, .ref lr, .ref le, .ref lm, .ref lo, .int (nI th), .int z, .int (nI bo), .int (nI cm)]))], u1, u2] ∧ LhP g (SecP g) ls ((chM (eTr r) sec s2 (2 ^ (eTr r).1)).1) (capF ((chM (eTr r) sec s2 (2 ^ (eTr r).1)).1).length) u1 ∧ LhP g (EpP g) le (Es ++ [((eNo r, eTr r, on, ky, (chM (eTr r) sec s2 (2 ^ (eTr r).1)).2, eWy r, eRm r, ePk r) : MeS)]) (if Es.length = ecap then growN ecap else ecap) u2 ∧ (Sub (EpP g e ((eNo r, eTr r, on, ky, (chM (eTr r) sec s2 (2 ^ (eTr r).1)).2, eWy r, eRm r, ePk r) : MeS)) u2)) noX := by
  refine Ct.of "KeygroveModel" [some (.ref m), some (.ref e), some (.int (nI sec)), none] rfl (by decide) rfl (Nat.le_of_ble_eq_true rfl) rfl ?_
  intro κ B E tb
  have hE0 := EpP.b hw2
  have hB := hE0.2.1
  have hp2 := p2_4 hB.1
  have hd4 := hB.1
  obtain ⟨ap_e, an_e, al_e, ac_e, aw_e, am_e, ak_e, fp_e, fn_e, fl_e, fc_e, fw_e, fm_e, fk_e, hE_e, hfp_e, hfn_e, hfl_e, hfc_e, hfw_e, hfm_e, hfk_e, rfl⟩ := hw2
  refine g_open 2 rfl rfl rfl ?_
  refine (show Go g κ 0 [some (.ref m), some (.ref e), some (.int (nI sec)), none] [] [[(m, .inr (12, [.ref ls, .ref lb, .ref lk, .ref lp, .ref lr, .ref le, .ref lm, .ref lo, .int (nI th), .int z, .int (nI bo), .int (nI cm)]))], w1, w3, [(e, .inr (16, [.int (nI (eNo r)), .int (nI (2 ^ (eTr r).1)), .int (nI (eGo r)), .int (nI (eKy r)), .ref ap_e, .ref an_e, .ref al_e, .ref ac_e, .ref aw_e, .ref am_e, .ref ak_e]))], [(ap_e, .inl (g.2.1 0, 16, .inl fp_e))], [(an_e, .inl (g.2.1 0, 31, .inl fn_e))], [(al_e, .inl (g.2.1 0, 31, .inl fl_e))], [(ac_e, .inl (g.2.1 0, 16, .inl fc_e))], [(aw_e, .inl (g.2.1 4, 31, .inl fw_e))], [(am_e, .inl (g.2.1 4, 16, .inl fm_e))], [(ak_e, .inl (g.2.1 0, 16, .inl fk_e))]] 45 (160 + 4 * (TA - capF ss.length)) from ?_)
  have hg1 := Ph_fr hf1
  have hg2 := Ph_fr hf2
  have hg3 := chM_m (eTr r) sec s2 (Nat.zero_le (2 ^ (eTr r).1))
  have hg3 : s2.length ≤ (chM (eTr r) sec s2 (2 ^ (eTr r).1)).1.length := hg3
  have hk1 := capF_m hg1.2.1
  have hk2 := capF_m hg2.2.1
  have hk3 := capF_m hg3
  refine g_aload_n (q := 1) B dX3_begins_0 rfl rfl (rv_r _) ?_
  refine g_aload_n (q := 2) B dX3_begins_1 rfl rfl (rv_r _) ?_
  refine g_iload_n (q := 3) B dX3_begins_2 rfl rfl ?_
  refine g_iconst (v := -1) (q := 4) B dX3_begins_3 rfl (by decide) ?_
  refine g_iconst (v := nI 5) (q := 5) B dX3_begins_4 rfl (by decide) ?_
  refine g_callV (q := 8) (is := [0, 0]) (kc2 := 43) (ks2 := 156 + 4 * (TA - capF s1.length)) B [.int (nI sec), .int (-1), .int (nI 5)] (ct_X3_of g J (m := m) (ls := ls) (lb := lb) (lk := lk) (lp := lp) (lr := lr) (le := le) (lm := lm) (lo := lo) (th := th) (z := z) (bo := bo) (cm := cm) (ss := ss) (o := sec) (q := none) (l := 5) (s2 := s1) (i := on) hw1 (by omega) (hsec) (fun n h => by cases h) (by omega) (hf1)) dX3_begins_5 rfl (rc_at B (ci := 12) rfl (k := 0) rfl) rfl q3302 q3304 qs57 q85 q3305 rfl rfl moX3_of rfl rfl (by decide) (by decide) (Nat.le_of_ble_eq_true rfl) (Nat.le_of_ble_eq_true rfl) (by omega) (fun _ _ hx => noX_x hx) (fun v5 L1 hp5 => ?_)
  obtain ⟨u1_5, rfl, rfl, hu1_5⟩ := hp5
  refine (show Go g κ 8 [some (.ref m), some (.ref e), some (.int (nI sec)), none] [.int (nI on), .ref e] [w3, [(e, .inr (16, [.int (nI (eNo r)), .int (nI (2 ^ (eTr r).1)), .int (nI (eGo r)), .int (nI (eKy r)), .ref ap_e, .ref an_e, .ref al_e, .ref ac_e, .ref aw_e, .ref am_e, .ref ak_e]))], [(ap_e, .inl (g.2.1 0, 16, .inl fp_e))], [(an_e, .inl (g.2.1 0, 31, .inl fn_e))], [(al_e, .inl (g.2.1 0, 31, .inl fl_e))], [(ac_e, .inl (g.2.1 0, 16, .inl fc_e))], [(aw_e, .inl (g.2.1 4, 31, .inl fw_e))], [(am_e, .inl (g.2.1 4, 16, .inl fm_e))], [(ak_e, .inl (g.2.1 0, 16, .inl fk_e))], [(m, .inr (12, [.ref ls, .ref lb, .ref lk, .ref lp, .ref lr, .ref le, .ref lm, .ref lo, .int (nI th), .int z, .int (nI bo), .int (nI cm)]))], u1_5] 43 (156 + 4 * (TA - capF s1.length)) from ?_)
  refine g_putN (q := 11) (L2 := [w3, [(e, .inr (16, [.int (nI (eNo r)), .int (nI (2 ^ (eTr r).1)), .int (nI on), .int (nI (eKy r)), .ref ap_e, .ref an_e, .ref al_e, .ref ac_e, .ref aw_e, .ref am_e, .ref ak_e]))], [(ap_e, .inl (g.2.1 0, 16, .inl fp_e))], [(an_e, .inl (g.2.1 0, 31, .inl fn_e))], [(al_e, .inl (g.2.1 0, 31, .inl fl_e))], [(ac_e, .inl (g.2.1 0, 16, .inl fc_e))], [(aw_e, .inl (g.2.1 4, 31, .inl fw_e))], [(am_e, .inl (g.2.1 4, 16, .inl fm_e))], [(ak_e, .inl (g.2.1 0, 16, .inl fk_e))], [(m, .inr (12, [.ref ls, .ref lb, .ref lk, .ref lp, .ref lr, .ref le, .ref lm, .ref lo, .int (nI th), .int z, .int (nI bo), .int (nI cm)]))], u1_5]) B (ci := 16) (k := 1) (j := 2) in_X13 tyX13 tyX13_ok nmX13 rfl dX3_begins_8 rfl rfl (Nat.le_of_ble_eq_true rfl) q3258 rfl rfl rfl rfl (Nat.le_of_ble_eq_true rfl) rfl ?_
  refine g_aload_n (q := 12) B dX3_begins_11 rfl rfl (rv_r _) ?_
  refine g_aload_n (q := 13) B dX3_begins_12 rfl rfl (rv_r _) ?_
  refine g_iload_n (q := 14) B dX3_begins_13 rfl rfl ?_
  refine g_iconst (v := -1) (q := 15) B dX3_begins_14 rfl (by decide) ?_
  refine g_bipush (v := nI 6) (q := 17) B dX3_begins_15 rfl (by decide) ?_
  refine g_callV (q := 20) (is := [9, 9]) (kc2 := 41) (ks2 := 152 + 4 * (TA - capF s2.length)) B [.int (nI sec), .int (-1), .int (nI 6)] (ct_X3_of g J (m := m) (ls := ls) (lb := lb) (lk := lk) (lp := lp) (lr := lr) (le := le) (lm := lm) (lo := lo) (th := th) (z := z) (bo := bo) (cm := cm) (ss := s1) (o := sec) (q := none) (l := 6) (s2 := s2) (i := ky) hu1_5 (by omega) (by omega) (fun n h => by cases h) (by omega) (hf2)) dX3_begins_17 rfl (rc_at B (ci := 12) rfl (k := 9) rfl) rfl q3302 q3304 qs57 q85 q3305 rfl rfl moX3_of rfl rfl (by decide) (by decide) (Nat.le_of_ble_eq_true rfl) (Nat.le_of_ble_eq_true rfl) (by omega) (fun _ _ hx => noX_x hx) (fun v17 L1 hp17 => ?_)
  obtain ⟨u1_17, rfl, rfl, hu1_17⟩ := hp17
  refine (show Go g κ 20 [some (.ref m), some (.ref e), some (.int (nI sec)), none] [.int (nI ky), .ref e] [w3, [(e, .inr (16, [.int (nI (eNo r)), .int (nI (2 ^ (eTr r).1)), .int (nI on), .int (nI (eKy r)), .ref ap_e, .ref an_e, .ref al_e, .ref ac_e, .ref aw_e, .ref am_e, .ref ak_e]))], [(ap_e, .inl (g.2.1 0, 16, .inl fp_e))], [(an_e, .inl (g.2.1 0, 31, .inl fn_e))], [(al_e, .inl (g.2.1 0, 31, .inl fl_e))], [(ac_e, .inl (g.2.1 0, 16, .inl fc_e))], [(aw_e, .inl (g.2.1 4, 31, .inl fw_e))], [(am_e, .inl (g.2.1 4, 16, .inl fm_e))], [(ak_e, .inl (g.2.1 0, 16, .inl fk_e))], [(m, .inr (12, [.ref ls, .ref lb, .ref lk, .ref lp, .ref lr, .ref le, .ref lm, .ref lo, .int (nI th), .int z, .int (nI bo), .int (nI cm)]))], u1_17] 41 (152 + 4 * (TA - capF s2.length)) from ?_)
  refine g_putN (q := 23) (L2 := [w3, [(e, .inr (16, [.int (nI (eNo r)), .int (nI (2 ^ (eTr r).1)), .int (nI on), .int (nI ky), .ref ap_e, .ref an_e, .ref al_e, .ref ac_e, .ref aw_e, .ref am_e, .ref ak_e]))], [(ap_e, .inl (g.2.1 0, 16, .inl fp_e))], [(an_e, .inl (g.2.1 0, 31, .inl fn_e))], [(al_e, .inl (g.2.1 0, 31, .inl fl_e))], [(ac_e, .inl (g.2.1 0, 16, .inl fc_e))], [(aw_e, .inl (g.2.1 4, 31, .inl fw_e))], [(am_e, .inl (g.2.1 4, 16, .inl fm_e))], [(ak_e, .inl (g.2.1 0, 16, .inl fk_e))], [(m, .inr (12, [.ref ls, .ref lb, .ref lk, .ref lp, .ref lr, .ref le, .ref lm, .ref lo, .int (nI th), .int z, .int (nI bo), .int (nI cm)]))], u1_17]) B (ci := 16) (k := 1) (j := 3) in_X13 tyX13 tyX13_ok nmX13 rfl dX3_begins_20 rfl rfl (Nat.le_of_ble_eq_true rfl) q3259 rfl rfl rfl rfl (Nat.le_of_ble_eq_true rfl) rfl ?_
  refine g_iconst (v := nI 0) (q := 24) B dX3_begins_23 rfl (by decide) ?_
  refine g_istore_n (q := 25) (lv2 := [some (.ref m), some (.ref e), some (.int (nI sec)), some (.int (nI 0))]) B dX3_begins_24 rfl (Nat.le_of_ble_eq_true rfl) rfl ?_
  have lp25 : ∀ (n25 : Nat) (k : Nat) (f1 : Nat → Int32) (l25_10 : va_W), LhP g (SecP g) ls ((chM (eTr r) sec s2 k).1) (capF (chM (eTr r) sec s2 k).1.length) l25_10 → (k ≤ 2 ^ (eTr r).1) → (∀ i, i < 16 → f1 i = oI ((chM (eTr r) sec s2 k).2 i)) → 2 ^ (eTr r).1 - k = n25 → Go g κ 25 [some (.ref m), some (.ref e), some (.int (nI sec)), some (.int (nI k))] [] [w3, [(e, .inr (16, [.int (nI (eNo r)), .int (nI (2 ^ (eTr r).1)), .int (nI on), .int (nI ky), .ref ap_e, .ref an_e, .ref al_e, .ref ac_e, .ref aw_e, .ref am_e, .ref ak_e]))], [(ap_e, .inl (g.2.1 0, 16, .inl fp_e))], [(an_e, .inl (g.2.1 0, 31, .inl fn_e))], [(al_e, .inl (g.2.1 0, 31, .inl fl_e))], [(ac_e, .inl (g.2.1 0, 16, .inl f1))], [(aw_e, .inl (g.2.1 4, 31, .inl fw_e))], [(am_e, .inl (g.2.1 4, 16, .inl fm_e))], [(ak_e, .inl (g.2.1 0, 16, .inl fk_e))], [(m, .inr (12, [.ref ls, .ref lb, .ref lk, .ref lp, .ref lr, .ref le, .ref lm, .ref lo, .int (nI th), .int z, .int (nI bo), .int (nI cm)]))], l25_10] (2 * (16 - k) + 5) (4 * (16 - k) + 80 + 4 * (TA - capF (chM (eTr r) sec s2 k).1.length)) := by
    intro n25
    induction n25 using Nat.strongRecOn with
    | _ n25 ih25 =>
    intro k f1 l25_10 hl25_10 hk hf9 hmu25
    refine g_iload_n (q := 26) B dX3_begins_25 rfl rfl ?_
    refine g_aload_n (q := 27) B dX3_begins_26 rfl rfl (rv_r _) ?_
    refine g_getN (q := 30) B (ci := 16) (k := 1) (j := 1) in_X13 rfl dX3_begins_27 rfl rfl (Nat.le_of_ble_eq_true rfl) q3257 rfl rfl ?_
    refine g_icmp_ge (tgt := 71) (q := 33) B dX3_begins_30 rfl (by decide) (nI_leI (by omega) (by omega)) (fun c30 => ?_) (fun c30 => ?_)
    · skip
      have hke : k = 2 ^ (eTr r).1 := by omega
      subst hke
      refine (show Go g κ 71 [some (.ref m), some (.ref e), some (.int (nI sec)), some (.int (nI (2 ^ (eTr r).1)))] [] [w3, [(e, .inr (16, [.int (nI (eNo r)), .int (nI (2 ^ (eTr r).1)), .int (nI on), .int (nI ky), .ref ap_e, .ref an_e, .ref al_e, .ref ac_e, .ref aw_e, .ref am_e, .ref ak_e]))], [(ap_e, .inl (g.2.1 0, 16, .inl fp_e))], [(an_e, .inl (g.2.1 0, 31, .inl fn_e))], [(al_e, .inl (g.2.1 0, 31, .inl fl_e))], [(ac_e, .inl (g.2.1 0, 16, .inl f1))], [(aw_e, .inl (g.2.1 4, 31, .inl fw_e))], [(am_e, .inl (g.2.1 4, 16, .inl fm_e))], [(ak_e, .inl (g.2.1 0, 16, .inl fk_e))], [(m, .inr (12, [.ref ls, .ref lb, .ref lk, .ref lp, .ref lr, .ref le, .ref lm, .ref lo, .int (nI th), .int z, .int (nI bo), .int (nI cm)]))], l25_10] (2 * (16 - (2 ^ (eTr r).1)) + 5) (4 * (16 - (2 ^ (eTr r).1)) + 80 + 4 * (TA - capF (chM (eTr r) sec s2 (2 ^ (eTr r).1)).1.length)) from ?_)
      obtain ⟨wc_1, ewc_1⟩ : ∃ w : va_W, w = ([[(e, .inr (16, [.int (nI (eNo r)), .int (nI (2 ^ (eTr r).1)), .int (nI on), .int (nI ky), .ref ap_e, .ref an_e, .ref al_e, .ref ac_e, .ref aw_e, .ref am_e, .ref ak_e]))], [(ap_e, .inl (g.2.1 0, 16, .inl fp_e))], [(an_e, .inl (g.2.1 0, 31, .inl fn_e))], [(al_e, .inl (g.2.1 0, 31, .inl fl_e))], [(ac_e, .inl (g.2.1 0, 16, .inl f1))], [(aw_e, .inl (g.2.1 4, 31, .inl fw_e))], [(am_e, .inl (g.2.1 4, 16, .inl fm_e))], [(ak_e, .inl (g.2.1 0, 16, .inl fk_e))]] : List va_W).flatten := ⟨_, rfl⟩
      have hwc_1 : EpP g e ((eNo r, eTr r, on, ky, (chM (eTr r) sec s2 (2 ^ (eTr r).1)).2, eWy r, eRm r, ePk r) : MeS) wc_1 := by
        rw [ewc_1]
        exact ⟨ap_e, an_e, al_e, ac_e, aw_e, am_e, ak_e, fp_e, fn_e, fl_e, f1, fw_e, fm_e, fk_e, (⟨hE_e.1, hE_e.2.1, (show on < 1000 by omega), (show ky < 1000 by omega), (fun i n h => by have := chM_b _ hfl i n h; omega), hE_e.2.2.2.2.2⟩), hfp_e, hfn_e, hfl_e, hf9, hfw_e, hfm_e, hfk_e, rfl⟩
      refine g_close (w := wc_1) [1, 1, 1, 1, 1, 1, 1, 1] rfl ewc_1 rfl ?_
      refine (show Go g κ 71 [some (.ref m), some (.ref e), some (.int (nI sec)), some (.int (nI (2 ^ (eTr r).1)))] [] [w3, [(m, .inr (12, [.ref ls, .ref lb, .ref lk, .ref lp, .ref lr, .ref le, .ref lm, .ref lo, .int (nI th), .int z, .int (nI bo), .int (nI cm)]))], l25_10, wc_1] (2 * (16 - (2 ^ (eTr r).1)) + 5) (4 * (16 - (2 ^ (eTr r).1)) + 80 + 4 * (TA - capF (chM (eTr r) sec s2 (2 ^ (eTr r).1)).1.length)) from ?_)
      refine g_aload_n (q := 72) B dX3_begins_71 rfl rfl (rv_r _) ?_
      refine g_get (q := 75) B (ci := 12) (k := 1) (j := 5) in_X3 rfl dX3_begins_72 rfl rfl (Nat.le_of_ble_eq_true rfl) q3062 rfl rfl ?_
      refine g_aload_n (q := 76) B dX3_begins_75 rfl rfl (rv_r _) ?_
      refine g_callV (q := 79) (is := [0, 2]) (kc2 := (2 * (16 - (2 ^ (eTr r).1)) + 5) - 1) (ks2 := (4 * (16 - (2 ^ (eTr r).1)) + 80 + 4 * (TA - capF (chM (eTr r) sec s2 (2 ^ (eTr r).1)).1.length)) - 60) B [.ref e] (ct_add_EpL2 g J (p := le) (rs := Es) (cap := ecap) (a := e) (r := ((eNo r, eTr r, on, ky, (chM (eTr r) sec s2 (2 ^ (eTr r).1)).2, eWy r, eRm r, ePk r) : MeS)) hw3 hwc_1 (hec) (hen)) dX3_begins_76 rfl (rc_in B (ci := 21) rfl (k := 0) rfl (LhP.hm hw3)) rfl q3144 q711 q3666 q81 q713 rfl rfl moJ2_add rfl rfl (by decide) (by decide) (Nat.le_of_ble_eq_true rfl) (by omega) (by omega) (fun _ _ hx => noX_x hx) (fun v76 L1 hp76 => ?_)
      obtain ⟨u0_76, rfl, rfl, hu0_76, hE_76⟩ := hp76
      refine (show Go g κ 79 [some (.ref m), some (.ref e), some (.int (nI sec)), some (.int (nI (2 ^ (eTr r).1)))] [.int (nI 1)] [[(m, .inr (12, [.ref ls, .ref lb, .ref lk, .ref lp, .ref lr, .ref le, .ref lm, .ref lo, .int (nI th), .int z, .int (nI bo), .int (nI cm)]))], l25_10, u0_76] ((2 * (16 - (2 ^ (eTr r).1)) + 5) - 1) ((4 * (16 - (2 ^ (eTr r).1)) + 80 + 4 * (TA - capF (chM (eTr r) sec s2 (2 ^ (eTr r).1)).1.length)) - 60) from ?_)
      refine g_pop (q := 80) B dX3_begins_79 rfl rfl ?_
      exact g_vret B E dX3_begins_80 (⟨_, _, rfl, rfl, hl25_10, hu0_76, hE_76⟩)
    · skip
      have hgk := chM_m (eTr r) sec s2 (Nat.zero_le k)
      have hgk : s2.length ≤ (chM (eTr r) sec s2 k).1.length := hgk
      have hgt := chM_m (eTr r) sec s2 (show k + 1 ≤ 2 ^ (eTr r).1 by omega)
      refine g_aload_n (q := 34) B dX3_begins_33 rfl rfl (rv_r _) ?_
      refine g_getN (q := 37) B (ci := 16) (k := 1) (j := 7) in_X13 rfl dX3_begins_34 rfl rfl (Nat.le_of_ble_eq_true rfl) q3267 rfl rfl ?_
      refine g_iload_n (q := 38) B dX3_begins_37 rfl rfl ?_
      refine g_aload_n (q := 39) B dX3_begins_38 rfl rfl (rv_r _) ?_
      refine g_getN (q := 42) B (ci := 16) (k := 1) (j := 5) in_X13 rfl dX3_begins_39 rfl rfl (Nat.le_of_ble_eq_true rfl) q3263 rfl rfl ?_
      refine g_iconst (v := nI 2) (q := 43) B dX3_begins_42 rfl (by decide) ?_
      refine g_iload_n (q := 44) B dX3_begins_43 rfl rfl ?_
      refine g_imul (v := nI (2 * k)) (q := 45) B dX3_begins_44 rfl (pk_mul _ _) ?_
      refine g_iald (v := oI (((eTr r).2.1) (2 * k))) (q := 46) B (k := 3) dX3_begins_45 rfl rfl (vp_in_nI (by omega) (by omega)) (by rw [nI_clamp (by omega)]; exact hfn_e _ (by omega)) ?_
      refine g_iconst (v := -1) (q := 47) B dX3_begins_46 rfl (by decide) ?_
      refine g_icmp_ne (tgt := 54) (q := 50) B dX3_begins_47 rfl (by decide) (oI_nn ((fun n h => by have := hE_e.2.1.2.1 _ _ h; omega))) (fun c47 => ?_) (fun c47 => ?_)
      · skip
        obtain ⟨v47, ev47⟩ := Option.ne_none_iff_exists'.mp c47
        obtain ⟨⟨q9, i9⟩, hq9⟩ : ∃ p, frm (chM (eTr r) sec s2 k).1 (sec, none, 100 + k) = p := ⟨_, rfl⟩
        have hcy := chM_y (sec := sec) (ss := s2) c47
        rw [hq9] at hcy
        have hg9 := Ph_fr hq9
        have hgt9 : q9.length ≤ (chM (eTr r) sec s2 (2 ^ (eTr r).1)).1.length := by rw [hcy] at hgt; exact hgt
        have hk9 := capF_m hgt9
        have hk8 := capF_m hg9.2.1
        refine g_aload_n (q := 55) B dX3_begins_54 rfl rfl (rv_r _) ?_
        refine g_iload_n (q := 56) B dX3_begins_55 rfl rfl ?_
        refine g_iconst (v := -1) (q := 57) B dX3_begins_56 rfl (by decide) ?_
        refine g_bipush (v := nI 100) (q := 59) B dX3_begins_57 rfl (by decide) ?_
        refine g_iload_n (q := 60) B dX3_begins_59 rfl rfl ?_
        refine g_iadd (v := nI (100 + k)) (q := 61) B dX3_begins_60 rfl (nI_add _ _) ?_
        refine g_callV (q := 64) (is := [9, 9]) (kc2 := 2 * (15 - k) + 5) (ks2 := 4 * (15 - k) + 80 + 4 * (TA - capF q9.length)) B [.int (nI sec), .int (-1), .int (nI (100 + k))] (ct_X3_of g J (m := m) (ls := ls) (lb := lb) (lk := lk) (lp := lp) (lr := lr) (le := le) (lm := lm) (lo := lo) (th := th) (z := z) (bo := bo) (cm := cm) (ss := (chM (eTr r) sec s2 k).1) (o := sec) (q := none) (l := 100 + k) (s2 := q9) (i := i9) hl25_10 (by omega) (by omega) (fun n h => by cases h) (by omega) (hq9)) dX3_begins_61 rfl (rc_at B (ci := 12) rfl (k := 9) rfl) rfl q3302 q3304 qs57 q85 q3305 rfl rfl moX3_of rfl rfl (by decide) (by decide) (Nat.le_of_ble_eq_true rfl) (by omega) (by omega) (fun _ _ hx => noX_x hx) (fun v61 L1 hp61 => ?_)
        obtain ⟨u1_61, rfl, rfl, hu1_61⟩ := hp61
        refine (show Go g κ 64 [some (.ref m), some (.ref e), some (.int (nI sec)), some (.int (nI k))] [.int (nI i9), .int (nI k), .ref ac_e] [w3, [(e, .inr (16, [.int (nI (eNo r)), .int (nI (2 ^ (eTr r).1)), .int (nI on), .int (nI ky), .ref ap_e, .ref an_e, .ref al_e, .ref ac_e, .ref aw_e, .ref am_e, .ref ak_e]))], [(ap_e, .inl (g.2.1 0, 16, .inl fp_e))], [(an_e, .inl (g.2.1 0, 31, .inl fn_e))], [(al_e, .inl (g.2.1 0, 31, .inl fl_e))], [(ac_e, .inl (g.2.1 0, 16, .inl f1))], [(aw_e, .inl (g.2.1 4, 31, .inl fw_e))], [(am_e, .inl (g.2.1 4, 16, .inl fm_e))], [(ak_e, .inl (g.2.1 0, 16, .inl fk_e))], [(m, .inr (12, [.ref ls, .ref lb, .ref lk, .ref lp, .ref lr, .ref le, .ref lm, .ref lo, .int (nI th), .int z, .int (nI bo), .int (nI cm)]))], u1_61] (2 * (15 - k) + 5) (4 * (15 - k) + 80 + 4 * (TA - capF q9.length)) from ?_)
        refine g_iast (q := 65) (L2 := [w3, [(e, .inr (16, [.int (nI (eNo r)), .int (nI (2 ^ (eTr r).1)), .int (nI on), .int (nI ky), .ref ap_e, .ref an_e, .ref al_e, .ref ac_e, .ref aw_e, .ref am_e, .ref ak_e]))], [(ap_e, .inl (g.2.1 0, 16, .inl fp_e))], [(an_e, .inl (g.2.1 0, 31, .inl fn_e))], [(al_e, .inl (g.2.1 0, 31, .inl fl_e))], [(ac_e, .inl (g.2.1 0, 16, .inl (upd f1 k (nI i9))))], [(aw_e, .inl (g.2.1 4, 31, .inl fw_e))], [(am_e, .inl (g.2.1 4, 16, .inl fm_e))], [(ak_e, .inl (g.2.1 0, 16, .inl fk_e))], [(m, .inr (12, [.ref ls, .ref lb, .ref lk, .ref lp, .ref lr, .ref le, .ref lm, .ref lo, .int (nI th), .int z, .int (nI bo), .int (nI cm)]))], u1_61]) B (k := 5) dX3_begins_64 rfl rfl (vp_in_nI (by omega) (by omega)) (by rw [nI_clamp (by omega)] <;> rfl) ?_
        obtain ⟨f64, ef64⟩ : ∃ f : Nat → Int32, f = upd f1 k (nI i9) := ⟨_, rfl⟩
        have hf64 : ∀ i, i < 16 → f64 i = oI (fup ((chM (eTr r) sec s2 k).2) k (some i9) i) := by rw [ef64]; exact upd_oI hf9 _ (some i9)
        rw [← ef64]
        refine (show Go g κ 65 [some (.ref m), some (.ref e), some (.int (nI sec)), some (.int (nI k))] [] [w3, [(e, .inr (16, [.int (nI (eNo r)), .int (nI (2 ^ (eTr r).1)), .int (nI on), .int (nI ky), .ref ap_e, .ref an_e, .ref al_e, .ref ac_e, .ref aw_e, .ref am_e, .ref ak_e]))], [(ap_e, .inl (g.2.1 0, 16, .inl fp_e))], [(an_e, .inl (g.2.1 0, 31, .inl fn_e))], [(al_e, .inl (g.2.1 0, 31, .inl fl_e))], [(ac_e, .inl (g.2.1 0, 16, .inl f64))], [(aw_e, .inl (g.2.1 4, 31, .inl fw_e))], [(am_e, .inl (g.2.1 4, 16, .inl fm_e))], [(ak_e, .inl (g.2.1 0, 16, .inl fk_e))], [(m, .inr (12, [.ref ls, .ref lb, .ref lk, .ref lp, .ref lr, .ref le, .ref lm, .ref lo, .int (nI th), .int z, .int (nI bo), .int (nI cm)]))], u1_61] (2 * (15 - k) + 5) (4 * (15 - k) + 80 + 4 * (TA - capF q9.length)) from ?_)
        have hr_2 : LhP g (SecP g) ls ((chM (eTr r) sec s2 (k + 1)).1) (capF (chM (eTr r) sec s2 (k + 1)).1.length) u1_61 := by rw [hcy]; exact hu1_61
        have hkq : capF (chM (eTr r) sec s2 (k + 1)).1.length = capF q9.length := by rw [hcy]
        refine g_iinc (v := nI (k + 1)) (q := 68) (lv2 := [some (.ref m), some (.ref e), some (.int (nI sec)), some (.int (nI (k + 1)))]) B dX3_begins_65 rfl rfl (nI_add _ 1) (Nat.le_of_ble_eq_true rfl) rfl ?_
        refine g_goto (tgt := 25) B dX3_begins_68 (by decide) ?_
        refine g_room (kc2 := 2 * (16 - (k + 1)) + 5) (ks2 := 4 * (16 - (k + 1)) + 80 + 4 * (TA - capF (chM (eTr r) sec s2 (k + 1)).1.length)) (by omega) (by omega) ?_
        exact ih25 _ (by omega) (k + 1) f64 u1_61 hr_2 (by omega) (by rw [hcy]; exact hf64) rfl
      · skip
        have c47 := Classical.not_not.mp c47
        have hcy := chM_n (sec := sec) (ss := s2) c47
        refine g_iconst (v := -1) (q := 51) B dX3_begins_50 rfl (by decide) ?_
        refine g_goto (tgt := 64) B dX3_begins_51 (by decide) ?_
        refine g_iast (q := 65) (L2 := [w3, [(e, .inr (16, [.int (nI (eNo r)), .int (nI (2 ^ (eTr r).1)), .int (nI on), .int (nI ky), .ref ap_e, .ref an_e, .ref al_e, .ref ac_e, .ref aw_e, .ref am_e, .ref ak_e]))], [(ap_e, .inl (g.2.1 0, 16, .inl fp_e))], [(an_e, .inl (g.2.1 0, 31, .inl fn_e))], [(al_e, .inl (g.2.1 0, 31, .inl fl_e))], [(ac_e, .inl (g.2.1 0, 16, .inl (upd f1 k (-1))))], [(aw_e, .inl (g.2.1 4, 31, .inl fw_e))], [(am_e, .inl (g.2.1 4, 16, .inl fm_e))], [(ak_e, .inl (g.2.1 0, 16, .inl fk_e))], [(m, .inr (12, [.ref ls, .ref lb, .ref lk, .ref lp, .ref lr, .ref le, .ref lm, .ref lo, .int (nI th), .int z, .int (nI bo), .int (nI cm)]))], l25_10]) B (k := 5) dX3_begins_64 rfl rfl (vp_in_nI (by omega) (by omega)) (by rw [nI_clamp (by omega)] <;> rfl) ?_
        obtain ⟨f64, ef64⟩ : ∃ f : Nat → Int32, f = upd f1 k (-1) := ⟨_, rfl⟩
        have hf64 : ∀ i, i < 16 → f64 i = oI (fup ((chM (eTr r) sec s2 k).2) k none i) := by rw [ef64]; exact upd_oI hf9 _ none
        rw [← ef64]
        refine (show Go g κ 65 [some (.ref m), some (.ref e), some (.int (nI sec)), some (.int (nI k))] [] [w3, [(e, .inr (16, [.int (nI (eNo r)), .int (nI (2 ^ (eTr r).1)), .int (nI on), .int (nI ky), .ref ap_e, .ref an_e, .ref al_e, .ref ac_e, .ref aw_e, .ref am_e, .ref ak_e]))], [(ap_e, .inl (g.2.1 0, 16, .inl fp_e))], [(an_e, .inl (g.2.1 0, 31, .inl fn_e))], [(al_e, .inl (g.2.1 0, 31, .inl fl_e))], [(ac_e, .inl (g.2.1 0, 16, .inl f64))], [(aw_e, .inl (g.2.1 4, 31, .inl fw_e))], [(am_e, .inl (g.2.1 4, 16, .inl fm_e))], [(ak_e, .inl (g.2.1 0, 16, .inl fk_e))], [(m, .inr (12, [.ref ls, .ref lb, .ref lk, .ref lp, .ref lr, .ref le, .ref lm, .ref lo, .int (nI th), .int z, .int (nI bo), .int (nI cm)]))], l25_10] (2 * (16 - k) + 5) (4 * (16 - k) + 80 + 4 * (TA - capF (chM (eTr r) sec s2 k).1.length)) from ?_)
        have hr_3 : LhP g (SecP g) ls ((chM (eTr r) sec s2 (k + 1)).1) (capF (chM (eTr r) sec s2 (k + 1)).1.length) l25_10 := by rw [hcy]; exact hl25_10
        have hkq : capF (chM (eTr r) sec s2 (k + 1)).1.length = capF (chM (eTr r) sec s2 k).1.length := by rw [hcy]
        refine g_iinc (v := nI (k + 1)) (q := 68) (lv2 := [some (.ref m), some (.ref e), some (.int (nI sec)), some (.int (nI (k + 1)))]) B dX3_begins_65 rfl rfl (nI_add _ 1) (Nat.le_of_ble_eq_true rfl) rfl ?_
        refine g_goto (tgt := 25) B dX3_begins_68 (by decide) ?_
        refine g_room (kc2 := 2 * (16 - (k + 1)) + 5) (ks2 := 4 * (16 - (k + 1)) + 80 + 4 * (TA - capF (chM (eTr r) sec s2 (k + 1)).1.length)) (by omega) (by omega) ?_
        exact ih25 _ (by omega) (k + 1) f64 l25_10 hr_3 (by omega) (by rw [hcy]; have z := hf64; rw [fup_idt (chM_z _ _ _ k k (Nat.le_refl k))] at z; exact z) rfl
  have hc01 : capF (chM (eTr r) sec s2 0).1.length = capF s2.length := rfl
  have hc02 : (chM (eTr r) sec s2 0).1.length = s2.length := rfl
  have hr_4 : LhP g (SecP g) ls ((chM (eTr r) sec s2 0).1) (capF (chM (eTr r) sec s2 0).1.length) u1_17 := hu1_17
  refine g_room (kc2 := 2 * (16 - 0) + 5) (ks2 := 4 * (16 - 0) + 80 + 4 * (TA - capF (chM (eTr r) sec s2 0).1.length)) (by omega) (by omega) ?_
  exact lp25 _ 0 fc_e u1_17 hr_4 (Nat.zero_le _) (fun i hi => by rw [hfc_e i hi, hc0]; rfl) rfl
theorem rb_s {T : TrS} {b : Bool} {j l : Nat} (hP : PN T) (hl : l < 16) (hj : 0 < T.1 → l = 2 ^ (T.1 - 1) + j) (hb : b = (decide (0 < T.1) && bare T.2.2.2 T.1 j)) : (T.2.1 (2 * l) = none → b = (decide (0 < T.1) && bare T.2.2.2 T.1 (j + 1))) ∧ (¬ T.2.1 (2 * l) = none → false = (decide (0 < T.1) && bare T.2.2.2 T.1 (j + 1))) := by
  have hp := hP l hl
  rw [bare_s]
  rcases Nat.eq_zero_or_pos T.1 with z | z
  · have e : decide (0 < T.1) = false := by simp [z]
    rw [hb, e]; exact ⟨fun _ => rfl, fun _ => rfl⟩
  · rw [← hj z]
    have e : decide (0 < T.1) = true := by simp [z]
    rw [hb, e]
    constructor
    · intro h; rw [hp.mpr h]; simp
    · intro h
      cases e2 : T.2.2.2 l with
      | none => exact absurd (hp.mp e2) h
      | some x => simp
theorem ct_X3_isRightBlank (g : Gv) (J : Jd g) {e : Nat} {r : MeS} {w0 : va_W} (hw0 : EpP g e r w0) (hPN : PN (eTr r)) : Ct g yX3_isRightBlank (ws_ yX3_isRightBlank cX3_isRightBlank 3 (some .boolean)) 1 0 0 [.ref e] [w0] (fun (rv_ : Option Value) (rL_ : List va_W) => rv_ = some (.int (nI (if (0 < (eTr r).1 ∧ bare (eTr r).2.2.2 (eTr r).1 (2 ^ ((eTr r).1 - 1)) = true) then 1 else 0))) ∧ rL_ = [w0]) noX := by
  refine Ct.of "KeygroveModel" [some (.ref e), none, none] rfl (by decide) rfl (Nat.le_of_ble_eq_true rfl) rfl ?_
  intro κ B E tb
  have hE0 := EpP.b hw0
  have hB := hE0.2.1
  have hp2 := p2_4 hB.1
  have hd4 := hB.1
  refine g_aload_n (q := 1) B dX3_isRightBlank_0 rfl rfl (rv_r _) ?_
  obtain ⟨ap_1, an_1, al_1, ac_1, aw_1, am_1, ak_1, fp_1, fn_1, fl_1, fc_1, fw_1, fm_1, fk_1, hE_1, hfp_1, hfn_1, hfl_1, hfc_1, hfw_1, hfm_1, hfk_1, hc_1_0, hc_1_1, hc_1_2, hc_1_3, hc_1_4, hc_1_5, hc_1_6, hc_1_7⟩ := EpP.at (Sub.self hw0)
  refine g_getNM (q := 4) B (ci := 16) (k := 0) (j := 1) in_X13 rfl dX3_isRightBlank_1 rfl rfl (hc_1_0) (Nat.le_of_ble_eq_true rfl) q3257 rfl rfl ?_
  refine g_iconst (v := nI 1) (q := 5) B dX3_isRightBlank_4 rfl (by decide) ?_
  refine g_icmp_le (tgt := 12) (q := 8) B dX3_isRightBlank_5 rfl (by decide) (nI_leI (by omega) (by omega)) (fun c5 => ?_) (fun c5 => ?_)
  · skip
    refine g_iconst (v := nI 0) (q := 13) B dX3_isRightBlank_12 rfl (by decide) ?_
    refine g_istore_n (q := 14) (lv2 := [some (.ref e), some (.int (nI 0)), none]) B dX3_isRightBlank_13 rfl (Nat.le_of_ble_eq_true rfl) rfl ?_
    refine g_aload_n (q := 15) B dX3_isRightBlank_14 rfl rfl (rv_r _) ?_
    refine g_getNM (q := 18) B (ci := 16) (k := 0) (j := 1) in_X13 rfl dX3_isRightBlank_15 rfl rfl (hc_1_0) (Nat.le_of_ble_eq_true rfl) q3257 rfl rfl ?_
    refine g_iconst (v := nI 2) (q := 19) B dX3_isRightBlank_18 rfl (by decide) ?_
    refine g_idiv (v := nI (2 ^ (eTr r).1 / 2)) (q := 20) B dX3_isRightBlank_19 rfl (by decide) (dv2_I _ (by omega)) ?_
    refine g_istore_n (q := 21) (lv2 := [some (.ref e), some (.int (nI 0)), some (.int (nI (2 ^ (eTr r).1 / 2)))]) B dX3_isRightBlank_20 rfl (Nat.le_of_ble_eq_true rfl) rfl ?_
    have lp21 : ∀ (n21 : Nat) (j : Nat) (b : Bool) , (2 ^ (eTr r).1 / 2 + j ≤ 2 ^ (eTr r).1) → (b = (decide (0 < (eTr r).1) && bare (eTr r).2.2.2 (eTr r).1 j)) → 17 - j = n21 → Go g κ 21 [some (.ref e), some (.int (nI (if b = true then 1 else 0))), some (.int (nI (2 ^ (eTr r).1 / 2 + j)))] [] [w0] 0 0 := by
      intro n21
      induction n21 using Nat.strongRecOn with
      | _ n21 ih21 =>
      intro j b  hj hb hmu21
      refine g_iload_n (q := 22) B dX3_isRightBlank_21 rfl rfl ?_
      refine g_aload_n (q := 23) B dX3_isRightBlank_22 rfl rfl (rv_r _) ?_
      refine g_getNM (q := 26) B (ci := 16) (k := 0) (j := 1) in_X13 rfl dX3_isRightBlank_23 rfl rfl (hc_1_0) (Nat.le_of_ble_eq_true rfl) q3257 rfl rfl ?_
      refine g_icmp_ge (tgt := 55) (q := 29) B dX3_isRightBlank_26 rfl (by decide) (nI_leI (by omega) (by omega)) (fun c26 => ?_) (fun c26 => ?_)
      · skip
        refine g_iload_n (q := 56) B dX3_isRightBlank_55 rfl rfl ?_
        exact g_zret B E dX3_isRightBlank_56 (by split <;> decide) (⟨congrArg (fun y_ => some (Value.int y_)) (bo_iff (by rw [hb, Bool.and_eq_true, decide_eq_true_iff]; refine and_congr_right fun z => ?_; have := pw_h z; rw [show j = 2 ^ ((eTr r).1 - 1) by omega])), rfl⟩)
      · skip
        have hrb := rb_s hPN (show 2 ^ (eTr r).1 / 2 + j < 16 by omega) (fun z => by have := pw_h z; omega) hb
        refine g_iload_n (q := 30) B dX3_isRightBlank_29 rfl rfl ?_
        refine g_aload_n (q := 31) B dX3_isRightBlank_30 rfl rfl (rv_r _) ?_
        refine g_getNM (q := 34) B (ci := 16) (k := 0) (j := 5) in_X13 rfl dX3_isRightBlank_31 rfl rfl (hc_1_0) (Nat.le_of_ble_eq_true rfl) q3263 rfl rfl ?_
        refine g_iconst (v := nI 2) (q := 35) B dX3_isRightBlank_34 rfl (by decide) ?_
        refine g_iload_n (q := 36) B dX3_isRightBlank_35 rfl rfl ?_
        refine g_imul (v := nI (2 * (2 ^ (eTr r).1 / 2 + j))) (q := 37) B dX3_isRightBlank_36 rfl (pk_mul _ _) ?_
        refine g_ialdM (v := oI (((eTr r).2.1) (2 * (2 ^ (eTr r).1 / 2 + j)))) (q := 38) B (k := 0) dX3_isRightBlank_37 rfl rfl (hc_1_2) (vp_in_nI (by omega) (by omega)) (by rw [nI_clamp (by omega)]; exact hfn_1 _ (by omega)) ?_
        refine g_iconst (v := -1) (q := 39) B dX3_isRightBlank_38 rfl (by decide) ?_
        refine g_icmp_ne (tgt := 46) (q := 42) B dX3_isRightBlank_39 rfl (by decide) (oI_nn ((fun n h => by have := hE_1.2.1.2.1 _ _ h; omega))) (fun c39 => ?_) (fun c39 => ?_)
        · skip
          obtain ⟨v39, ev39⟩ := Option.ne_none_iff_exists'.mp c39
          refine g_iconst (v := nI 0) (q := 47) B dX3_isRightBlank_46 rfl (by decide) ?_
          refine g_iand (v := nI 0) (q := 48) B dX3_isRightBlank_47 rfl (bo_and0 _) ?_
          refine g_istore_n (q := 49) (lv2 := [some (.ref e), some (.int (nI 0)), some (.int (nI (2 ^ (eTr r).1 / 2 + j)))]) B dX3_isRightBlank_48 rfl (Nat.le_of_ble_eq_true rfl) rfl ?_
          refine g_iinc (v := nI ((2 ^ (eTr r).1 / 2 + j) + 1)) (q := 52) (lv2 := [some (.ref e), some (.int (nI 0)), some (.int (nI ((2 ^ (eTr r).1 / 2 + j) + 1)))]) B dX3_isRightBlank_49 rfl rfl (nI_add _ 1) (Nat.le_of_ble_eq_true rfl) rfl ?_
          refine g_goto (tgt := 21) B dX3_isRightBlank_52 (by decide) ?_
          exact ih21 _ (by omega) (j + 1) false (by omega) (hrb.2 c39) rfl
        · skip
          have c39 := Classical.not_not.mp c39
          refine g_iconst (v := nI 1) (q := 43) B dX3_isRightBlank_42 rfl (by decide) ?_
          refine g_goto (tgt := 47) B dX3_isRightBlank_43 (by decide) ?_
          refine g_iand (v := nI (if b = true then 1 else 0)) (q := 48) B dX3_isRightBlank_47 rfl bo_and1 ?_
          refine g_istore_n (q := 49) (lv2 := [some (.ref e), some (.int (nI (if b = true then 1 else 0))), some (.int (nI (2 ^ (eTr r).1 / 2 + j)))]) B dX3_isRightBlank_48 rfl (Nat.le_of_ble_eq_true rfl) rfl ?_
          refine g_iinc (v := nI ((2 ^ (eTr r).1 / 2 + j) + 1)) (q := 52) (lv2 := [some (.ref e), some (.int (nI (if b = true then 1 else 0))), some (.int (nI ((2 ^ (eTr r).1 / 2 + j) + 1)))]) B dX3_isRightBlank_49 rfl rfl (nI_add _ 1) (Nat.le_of_ble_eq_true rfl) rfl ?_
          refine g_goto (tgt := 21) B dX3_isRightBlank_52 (by decide) ?_
          exact ih21 _ (by omega) (j + 1) b (by omega) (hrb.1 c39) rfl
    exact lp21 _ 0 false (by omega) (by rw [decide_eq_false (show ¬ 0 < (eTr r).1 from by have := p1_le (d := (eTr r).1) (by omega); omega)]; rfl) rfl
  · skip
    refine g_iconst (v := nI 1) (q := 9) B dX3_isRightBlank_8 rfl (by decide) ?_
    refine g_goto (tgt := 13) B dX3_isRightBlank_9 (by decide) ?_
    refine g_istore_n (q := 14) (lv2 := [some (.ref e), some (.int (nI 1)), none]) B dX3_isRightBlank_13 rfl (Nat.le_of_ble_eq_true rfl) rfl ?_
    refine g_aload_n (q := 15) B dX3_isRightBlank_14 rfl rfl (rv_r _) ?_
    refine g_getNM (q := 18) B (ci := 16) (k := 0) (j := 1) in_X13 rfl dX3_isRightBlank_15 rfl rfl (hc_1_0) (Nat.le_of_ble_eq_true rfl) q3257 rfl rfl ?_
    refine g_iconst (v := nI 2) (q := 19) B dX3_isRightBlank_18 rfl (by decide) ?_
    refine g_idiv (v := nI (2 ^ (eTr r).1 / 2)) (q := 20) B dX3_isRightBlank_19 rfl (by decide) (dv2_I _ (by omega)) ?_
    refine g_istore_n (q := 21) (lv2 := [some (.ref e), some (.int (nI 1)), some (.int (nI (2 ^ (eTr r).1 / 2)))]) B dX3_isRightBlank_20 rfl (Nat.le_of_ble_eq_true rfl) rfl ?_
    have lp21 : ∀ (n21 : Nat) (j : Nat) (b : Bool) , (2 ^ (eTr r).1 / 2 + j ≤ 2 ^ (eTr r).1) → (b = (decide (0 < (eTr r).1) && bare (eTr r).2.2.2 (eTr r).1 j)) → 17 - j = n21 → Go g κ 21 [some (.ref e), some (.int (nI (if b = true then 1 else 0))), some (.int (nI (2 ^ (eTr r).1 / 2 + j)))] [] [w0] 0 0 := by
      intro n21
      induction n21 using Nat.strongRecOn with
      | _ n21 ih21 =>
      intro j b  hj hb hmu21
      refine g_iload_n (q := 22) B dX3_isRightBlank_21 rfl rfl ?_
      refine g_aload_n (q := 23) B dX3_isRightBlank_22 rfl rfl (rv_r _) ?_
      refine g_getNM (q := 26) B (ci := 16) (k := 0) (j := 1) in_X13 rfl dX3_isRightBlank_23 rfl rfl (hc_1_0) (Nat.le_of_ble_eq_true rfl) q3257 rfl rfl ?_
      refine g_icmp_ge (tgt := 55) (q := 29) B dX3_isRightBlank_26 rfl (by decide) (nI_leI (by omega) (by omega)) (fun c26 => ?_) (fun c26 => ?_)
      · skip
        refine g_iload_n (q := 56) B dX3_isRightBlank_55 rfl rfl ?_
        exact g_zret B E dX3_isRightBlank_56 (by split <;> decide) (⟨congrArg (fun y_ => some (Value.int y_)) (bo_iff (by rw [hb, Bool.and_eq_true, decide_eq_true_iff]; refine and_congr_right fun z => ?_; have := pw_h z; rw [show j = 2 ^ ((eTr r).1 - 1) by omega])), rfl⟩)
      · skip
        have hrb := rb_s hPN (show 2 ^ (eTr r).1 / 2 + j < 16 by omega) (fun z => by have := pw_h z; omega) hb
        refine g_iload_n (q := 30) B dX3_isRightBlank_29 rfl rfl ?_
        refine g_aload_n (q := 31) B dX3_isRightBlank_30 rfl rfl (rv_r _) ?_
        refine g_getNM (q := 34) B (ci := 16) (k := 0) (j := 5) in_X13 rfl dX3_isRightBlank_31 rfl rfl (hc_1_0) (Nat.le_of_ble_eq_true rfl) q3263 rfl rfl ?_
        refine g_iconst (v := nI 2) (q := 35) B dX3_isRightBlank_34 rfl (by decide) ?_
        refine g_iload_n (q := 36) B dX3_isRightBlank_35 rfl rfl ?_
        refine g_imul (v := nI (2 * (2 ^ (eTr r).1 / 2 + j))) (q := 37) B dX3_isRightBlank_36 rfl (pk_mul _ _) ?_
        refine g_ialdM (v := oI (((eTr r).2.1) (2 * (2 ^ (eTr r).1 / 2 + j)))) (q := 38) B (k := 0) dX3_isRightBlank_37 rfl rfl (hc_1_2) (vp_in_nI (by omega) (by omega)) (by rw [nI_clamp (by omega)]; exact hfn_1 _ (by omega)) ?_
        refine g_iconst (v := -1) (q := 39) B dX3_isRightBlank_38 rfl (by decide) ?_
        refine g_icmp_ne (tgt := 46) (q := 42) B dX3_isRightBlank_39 rfl (by decide) (oI_nn ((fun n h => by have := hE_1.2.1.2.1 _ _ h; omega))) (fun c39 => ?_) (fun c39 => ?_)
        · skip
          obtain ⟨v39, ev39⟩ := Option.ne_none_iff_exists'.mp c39
          refine g_iconst (v := nI 0) (q := 47) B dX3_isRightBlank_46 rfl (by decide) ?_
          refine g_iand (v := nI 0) (q := 48) B dX3_isRightBlank_47 rfl (bo_and0 _) ?_
          refine g_istore_n (q := 49) (lv2 := [some (.ref e), some (.int (nI 0)), some (.int (nI (2 ^ (eTr r).1 / 2 + j)))]) B dX3_isRightBlank_48 rfl (Nat.le_of_ble_eq_true rfl) rfl ?_
          refine g_iinc (v := nI ((2 ^ (eTr r).1 / 2 + j) + 1)) (q := 52) (lv2 := [some (.ref e), some (.int (nI 0)), some (.int (nI ((2 ^ (eTr r).1 / 2 + j) + 1)))]) B dX3_isRightBlank_49 rfl rfl (nI_add _ 1) (Nat.le_of_ble_eq_true rfl) rfl ?_
          refine g_goto (tgt := 21) B dX3_isRightBlank_52 (by decide) ?_
          exact ih21 _ (by omega) (j + 1) false (by omega) (hrb.2 c39) rfl
        · skip
          have c39 := Classical.not_not.mp c39
          refine g_iconst (v := nI 1) (q := 43) B dX3_isRightBlank_42 rfl (by decide) ?_
          refine g_goto (tgt := 47) B dX3_isRightBlank_43 (by decide) ?_
          refine g_iand (v := nI (if b = true then 1 else 0)) (q := 48) B dX3_isRightBlank_47 rfl bo_and1 ?_
          refine g_istore_n (q := 49) (lv2 := [some (.ref e), some (.int (nI (if b = true then 1 else 0))), some (.int (nI (2 ^ (eTr r).1 / 2 + j)))]) B dX3_isRightBlank_48 rfl (Nat.le_of_ble_eq_true rfl) rfl ?_
          refine g_iinc (v := nI ((2 ^ (eTr r).1 / 2 + j) + 1)) (q := 52) (lv2 := [some (.ref e), some (.int (nI (if b = true then 1 else 0))), some (.int (nI ((2 ^ (eTr r).1 / 2 + j) + 1)))]) B dX3_isRightBlank_49 rfl rfl (nI_add _ 1) (Nat.le_of_ble_eq_true rfl) rfl ?_
          refine g_goto (tgt := 21) B dX3_isRightBlank_52 (by decide) ?_
          exact ih21 _ (by omega) (j + 1) b (by omega) (hrb.1 c39) rfl
    exact lp21 _ 0 true (by omega) (by rw [decide_eq_true (show 0 < (eTr r).1 from p1_gt (by omega))]; rfl) rfl
theorem moX3_nodeAbove : Mo yX3_nodeAbove 2 := by
  refine ⟨by decide, by decide, by decide +kernel⟩
theorem ct_X3_lowest (g : Gv) (J : Jd g) {e : Nat} {r : MeS} {l : Nat} {k0 : Nat} {w0 : va_W} (hw0 : EpP g e r w0) (hl : l < 16) (hk1 : 1 ≤ k0) (hk4 : k0 ≤ 4) (hw : eWy r (nab l k0) = true) (hwn : ∀ j, 1 ≤ j → j < k0 → ¬ eWy r (nab l j) = true) : Ct g yX3_lowest (ws_ yX3_lowest cX3_lowest 3 (some .int)) 1 0 0 [.ref e, .int (nI l)] [w0] (fun (rv_ : Option Value) (rL_ : List va_W) => rv_ = some (.int (nI (nab l k0))) ∧ rL_ = [w0]) noX := by
  refine Ct.of "KeygroveModel" [some (.ref e), some (.int (nI l)), none] rfl (by decide) rfl (Nat.le_of_ble_eq_true rfl) rfl ?_
  intro κ B E tb
  refine g_iconst (v := nI 1) (q := 1) B dX3_lowest_0 rfl (by decide) ?_
  refine g_istore_n (q := 2) (lv2 := [some (.ref e), some (.int (nI l)), some (.int (nI 1))]) B dX3_lowest_1 rfl (Nat.le_of_ble_eq_true rfl) rfl ?_
  have lp2 : ∀ (n2 : Nat) (k : Nat) , (1 ≤ k) → (k ≤ k0) → k0 - k = n2 → Go g κ 2 [some (.ref e), some (.int (nI l)), some (.int (nI k))] [] [w0] 0 0 := by
    intro n2
    induction n2 using Nat.strongRecOn with
    | _ n2 ih2 =>
    intro k  hk hkk hmu2
    have hnc : nab l k < 31 := nab_b k (by omega) l hl
    refine g_aload_n (q := 3) B dX3_lowest_2 rfl rfl (rv_r _) ?_
    obtain ⟨ap_1, an_1, al_1, ac_1, aw_1, am_1, ak_1, fp_1, fn_1, fl_1, fc_1, fw_1, fm_1, fk_1, hE_1, hfp_1, hfn_1, hfl_1, hfc_1, hfw_1, hfm_1, hfk_1, hc_1_0, hc_1_1, hc_1_2, hc_1_3, hc_1_4, hc_1_5, hc_1_6, hc_1_7⟩ := EpP.at (Sub.self hw0)
    refine g_getNM (q := 6) B (ci := 16) (k := 0) (j := 8) in_X13 rfl dX3_lowest_3 rfl rfl (hc_1_0) (Nat.le_of_ble_eq_true rfl) q3269 rfl rfl ?_
    refine g_iload_n (q := 7) B dX3_lowest_6 rfl rfl ?_
    refine g_iload_n (q := 8) B dX3_lowest_7 rfl rfl ?_
    refine g_callS (q := 11) (is := []) (kc2 := 0) (ks2 := 0) B [.int (nI l), .int (nI k)] (ct_X3_nodeAbove g J (l := l) (k := k)  (by first | assumption | omega | rfl) (by first | assumption | omega | rfl)) dX3_lowest_8 rfl q3460 q3461 q85 q3462 rfl rfl moX3_nodeAbove rfl rfl (by decide) (by decide) (Nat.le_of_ble_eq_true rfl) (Nat.le_of_ble_eq_true rfl) (Nat.le_of_ble_eq_true rfl) (fun _ _ hx => noX_x hx) (fun v8 L1 hp8 => ?_)
    obtain ⟨rfl, rfl⟩ := hp8
    refine (show Go g κ 11 [some (.ref e), some (.int (nI l)), some (.int (nI k))] [.int (nI (nab l k)), .ref aw_1] [w0] 0 0 from ?_)
    refine g_zaldM (v := nI (if (eWy r) (nab l k) = true then 1 else 0)) (q := 12) B (k := 0) dX3_lowest_11 rfl rfl (hc_1_5) (vp_in_nI (by omega) (by omega)) (by rw [nI_clamp (by omega)]; exact hfw_1 _ (by omega)) ?_
    refine g_if_ne (tgt := 21) (q := 15) B dX3_lowest_12 rfl (by decide) (bo_ne) (fun c12 => ?_) (fun c12 => ?_)
    · skip
      refine g_iload_n (q := 22) B dX3_lowest_21 rfl rfl ?_
      refine g_iload_n (q := 23) B dX3_lowest_22 rfl rfl ?_
      refine g_callS (q := 26) (is := []) (kc2 := 0) (ks2 := 0) B [.int (nI l), .int (nI k)] (ct_X3_nodeAbove g J (l := l) (k := k)  (by first | assumption | omega | rfl) (by first | assumption | omega | rfl)) dX3_lowest_23 rfl q3460 q3461 q85 q3462 rfl rfl moX3_nodeAbove rfl rfl (by decide) (by decide) (Nat.le_of_ble_eq_true rfl) (Nat.le_of_ble_eq_true rfl) (Nat.le_of_ble_eq_true rfl) (fun _ _ hx => noX_x hx) (fun v23 L1 hp23 => ?_)
      obtain ⟨rfl, rfl⟩ := hp23
      refine (show Go g κ 26 [some (.ref e), some (.int (nI l)), some (.int (nI k))] [.int (nI (nab l k))] [w0] 0 0 from ?_)
      exact g_iret B E dX3_lowest_26 (⟨by rcases Nat.lt_or_ge k k0 with z | z; exact absurd c12 (hwn k hk z); rw [show k = k0 by omega], rfl⟩)
    · skip
      refine g_iinc (v := nI (k + 1)) (q := 18) (lv2 := [some (.ref e), some (.int (nI l)), some (.int (nI (k + 1)))]) B dX3_lowest_15 rfl rfl (nI_add _ 1) (Nat.le_of_ble_eq_true rfl) rfl ?_
      refine g_goto (tgt := 2) B dX3_lowest_18 (by decide) ?_
      exact ih2 _ (by rcases Nat.lt_or_ge k k0 with z | z; omega; rw [show k = k0 by omega] at c12; exact absurd hw c12) (k + 1) (by omega) (by rcases Nat.lt_or_ge k k0 with z | z; omega; rw [show k = k0 by omega] at c12; exact absurd hw c12) rfl
  exact lp2 _ 1 (Nat.le_refl _) (hk1) rfl
theorem ct_X13_nodes_s (g : Gv) (J : Jd g) {e : Nat} {r : MeS} {W0 : va_W} (hS0 : Sub (EpP g e r) W0) : Ct g yX13_nodes (ws_ yX13_nodes cX13_nodes 1 (some .int)) 0 0 0 [.ref e] [W0] (fun (rv_ : Option Value) (rL_ : List va_W) => rv_ = some (.int (nI (2 * 2 ^ (eTr r).1 - 1))) ∧ rL_ = [W0]) noX := by
  obtain ⟨w_, R_, hp_, hw_⟩ := hS0
  refine Ct.lift (ct_X13_nodes g J (e := e) (r := r) hw_ ) [R_] ?_ ?_
  · refine sub_in 0 rfl hp_ rfl
  · rintro v L ⟨e1, rfl⟩
    exact ⟨_, [], sub_out 0 rfl hp_ rfl, ⟨e1, rfl⟩⟩
theorem ct_X13_next_s (g : Gv) (J : Jd g) {e : Nat} {r : MeS} {W0 : va_W} (hS0 : Sub (EpP g e r) W0) (hno : eNo r < 90) : Ct g yX13_next (ws_ yX13_next cX13_next 3 (some (.object "KeygroveModel$Epoch"))) 2 8 170 [.ref e] [W0] (fun (rv_ : Option Value) (rL_ : List va_W) => ∃ (n : Nat) (u1 : va_W), rv_ = some (.ref n) ∧ rL_ = [W0, u1] ∧ EpP g n ((eNo r + 1, eTr r, 0, 0, fun _ => none, fun _ => false, fun _ => false, fun _ => none) : MeS) u1) noX := by
  obtain ⟨w_, R_, hp_, hw_⟩ := hS0
  refine Ct.lift (ct_X13_next g J (e := e) (r := r) hw_ hno) [R_] ?_ ?_
  · refine sub_in 0 rfl hp_ rfl
  · rintro v L ⟨n, u1, e1, rfl, hu1⟩
    exact ⟨_, [], sub_out 0 rfl hp_ rfl, ⟨n, u1, e1, rfl, hu1⟩⟩
theorem ct_X3_lowest_s (g : Gv) (J : Jd g) {e : Nat} {r : MeS} {l : Nat} {k0 : Nat} {W0 : va_W} (hS0 : Sub (EpP g e r) W0) (hl : l < 16) (hk1 : 1 ≤ k0) (hk4 : k0 ≤ 4) (hw : eWy r (nab l k0) = true) (hwn : ∀ j, 1 ≤ j → j < k0 → ¬ eWy r (nab l j) = true) : Ct g yX3_lowest (ws_ yX3_lowest cX3_lowest 3 (some .int)) 1 0 0 [.ref e, .int (nI l)] [W0] (fun (rv_ : Option Value) (rL_ : List va_W) => rv_ = some (.int (nI (nab l k0))) ∧ rL_ = [W0]) noX := by
  obtain ⟨w_, R_, hp_, hw_⟩ := hS0
  refine Ct.lift (ct_X3_lowest g J (e := e) (r := r) (l := l) (k0 := k0) hw_ hl hk1 hk4 hw hwn) [R_] ?_ ?_
  · refine sub_in 0 rfl hp_ rfl
  · rintro v L ⟨e1, rfl⟩
    exact ⟨_, [], sub_out 0 rfl hp_ rfl, ⟨e1, rfl⟩⟩
theorem ct_X3_coverOf_s (g : Gv) (J : Jd g) {e : Nat} {r : MeS} {n : Nat} {W0 : va_W} (hS0 : Sub (EpP g e r) W0) (hLt : LtB (eTr r)) (hn : n < 31) : Ct g yX3_coverOf (ws_ yX3_coverOf cX3_coverOf 3 (some (.object "java/util/ArrayList"))) 13 (1 + (cov (eTr r) n).length) (3 + 4 * capF (cov (eTr r) n).length) [.ref e, .int (nI n)] [W0] (fun (rv_ : Option Value) (rL_ : List va_W) => ∃ (p : Nat) (u1 : va_W), rv_ = some (.ref p) ∧ rL_ = [W0, u1] ∧ LhP g (BxE g) p (cov (eTr r) n) (capF (cov (eTr r) n).length) u1) noX := by
  obtain ⟨w_, R_, hp_, hw_⟩ := hS0
  refine Ct.lift (ct_X3_coverOf g J (e := e) (r := r) (n := n) hw_ hLt hn) [R_] ?_ ?_
  · refine sub_in 0 rfl hp_ rfl
  · rintro v L ⟨p, u1, e1, rfl, hu1⟩
    exact ⟨_, [], sub_out 0 rfl hp_ rfl, ⟨p, u1, e1, rfl, hu1⟩⟩
def getN (r : MpS) (E : MeS) (fm n : Nat) : Option Nat := if n < 2 * 2 ^ (eTr E).1 - 1 ∧ (0 < lev n ∧ cvr n (mLf r) = true) ∧ eWy E n = true ∧ fm ≤ lev n then (eTr E).2.1 n
  else if n < 2 * 2 ^ (eTr E).1 - 1 ∧ (eTr E).2.1 n ≠ none ∧ mNd r n = (eTr E).2.1 n then mNd r n else none
def getR (r : MpS) (E : MeS) (fm : Nat) : MpS := (mEp r, mLf r, mLs r, mRn r, fun n => if n < 31 then getN r E fm n else mNd r n, mCh r, mEv r)
theorem get_fs {r : MpS} {Ep : MeS} {fm k : Nat} (i : Nat) : fup (fun i => if i < k then getN r Ep fm i else mNd r i) k (getN r Ep fm k) i = if i < k + 1 then getN r Ep fm i else mNd r i := by
  unfold fup
  split
  · rename_i e; rw [e, if_pos (Nat.lt_succ_self k)]
  · rename_i e
    show (if i < k then getN r Ep fm i else mNd r i) = if i < k + 1 then getN r Ep fm i else mNd r i
    by_cases z : i < k
    · rw [if_pos z, if_pos (by omega)]
    · rw [if_neg z, if_neg (by omega)]
theorem getN_b {r : MpS} {Ep : MeS} {fm k n : Nat} (h1 : TrB (eTr Ep)) (h2 : ∀ i n, mNd r i = some n → n < 1000) (h : getN r Ep fm k = some n) : n < 1000 := by
  unfold getN at h
  split at h
  · exact h1.2.1 _ _ h
  · split at h
    · exact h2 _ _ h
    · cases h
theorem ct_X3_gets (g : Gv) (J : Jd g) {a : Nat} {r : MpS} {e : Nat} {Ep : MeS} {fm : Nat} {w0 : va_W} {we : va_W} (hw0 : MpP g a r w0) (hE : Sub (EpP g e Ep) we) (hfm : fm < 100) : Ct g yX3_gets (ws_ yX3_gets cX3_gets 6 none) 3 0 0 [.ref a, .ref e, .int (nI fm)] [w0, we] (fun (rv_ : Option Value) (rL_ : List va_W) => ∃ (u0 : va_W), rv_ = none ∧ rL_ = [u0, we] ∧ MpP g a (getR r Ep fm) u0) noX := by
  refine Ct.of "KeygroveModel" [some (.ref a), some (.ref e), some (.int (nI fm)), none, none, none] rfl (by decide) rfl (Nat.le_of_ble_eq_true rfl) rfl ?_
  intro κ B E tb
  have hEB := EpP.b2 hE
  have hTB9 := hEB.2.1
  have hp2 := p2_4 hTB9.1
  obtain ⟨nd, ch, ev, cv, fn, fc, v0, v1, hM, hfn, hoc, hcv, hv0, hv1, rfl⟩ := hw0
  refine g_open 0 rfl rfl rfl ?_
  refine (show Go g κ 0 [some (.ref a), some (.ref e), some (.int (nI fm)), none, none, none] [] [we, [(a, .inr (13, [.int (oI (mEp r)), .int (nI (mLf r)), .int (nI (mLs r)), .int (oI (mRn r)), .ref nd, .ref ch, .ref ev]))], [(nd, .inl (g.2.1 0, 31, .inl fn))], [(ch, .inl (g.2.1 5, 16, .inr (.inr (.inr (.inr fc)))))], v0, v1] 0 0 from ?_)
  obtain ⟨m1, m2, m3, m4, m5, m6, m7, m8⟩ := hM
  refine g_iconst (v := nI 0) (q := 1) B dX3_gets_0 rfl (by decide) ?_
  refine g_istore_n (q := 2) (lv2 := [some (.ref a), some (.ref e), some (.int (nI fm)), some (.int (nI 0)), none, none]) B dX3_gets_1 rfl (Nat.le_of_ble_eq_true rfl) rfl ?_
  have lp2 : ∀ (n2 : Nat) (k : Nat) (f1 : Nat → Int32) , (k ≤ 31) → (∀ i, i < 31 → f1 i = oI ((fun i => if i < k then getN r Ep fm i else mNd r i) i)) → (∀ i n, (if i < k then getN r Ep fm i else mNd r i) = some n → n < 1000) → 31 - k = n2 → Go g κ 2 [some (.ref a), some (.ref e), some (.int (nI fm)), some (.int (nI k)), none, none] [] [we, [(a, .inr (13, [.int (oI (mEp r)), .int (nI (mLf r)), .int (nI (mLs r)), .int (oI (mRn r)), .ref nd, .ref ch, .ref ev]))], [(nd, .inl (g.2.1 0, 31, .inl f1))], [(ch, .inl (g.2.1 5, 16, .inr (.inr (.inr (.inr fc)))))], v0, v1] 0 0 := by
    intro n2
    induction n2 using Nat.strongRecOn with
    | _ n2 ih2 =>
    intro k f1  hk hf9 hgb hmu2
    refine g_iload_n (q := 3) B dX3_gets_2 rfl rfl ?_
    refine g_bipush (v := nI 31) (q := 5) B dX3_gets_3 rfl (by decide) ?_
    refine g_icmp_ge (tgt := 132) (q := 8) B dX3_gets_5 rfl (by decide) (nI_leI (by omega) (by omega)) (fun c5 => ?_) (fun c5 => ?_)
    · skip
      obtain ⟨wc_1, ewc_1⟩ : ∃ w : va_W, w = ([[(a, .inr (13, [.int (oI (mEp r)), .int (nI (mLf r)), .int (nI (mLs r)), .int (oI (mRn r)), .ref nd, .ref ch, .ref ev]))], [(nd, .inl (g.2.1 0, 31, .inl f1))], [(ch, .inl (g.2.1 5, 16, .inr (.inr (.inr (.inr fc)))))], v0, v1] : List va_W).flatten := ⟨_, rfl⟩
      have hwc_1 : MpP g a (getR r Ep fm) wc_1 := by
        rw [ewc_1]
        exact ⟨nd, ch, ev, cv, f1, fc, _, _, (by exact ⟨m1, m2, m3, m4, (fun i n h => by have h : (if i < 31 then getN r Ep fm i else mNd r i) = some n := h; exact hgb i n (by rw [show k = 31 by omega]; exact h)), m6, m7, m8⟩), (fun i hi => by have z := hf9 i hi; rw [show k = 31 by omega] at z; exact z), hoc, hcv, hv0, hv1, rfl⟩
      refine g_close (w := wc_1) [1, 1, 1, 1, 1] rfl ewc_1 rfl ?_
      refine (show Go g κ 132 [some (.ref a), some (.ref e), some (.int (nI fm)), some (.int (nI k)), none, none] [] [we, wc_1] 0 0 from ?_)
      refine g_pk [1, 0] rfl rfl ?_
      refine (show Go g κ 132 [some (.ref a), some (.ref e), some (.int (nI fm)), some (.int (nI k)), none, none] [] [wc_1, we] 0 0 from ?_)
      exact g_vret B E dX3_gets_132 (⟨wc_1, rfl, rfl, hwc_1⟩)
    · skip
      have hgk : (if k < k then getN r Ep fm k else mNd r k) = mNd r k := if_neg (Nat.lt_irrefl k)
      have hlv4 := lev_4 k (by omega)
      refine g_iload_n (q := 9) B dX3_gets_8 rfl rfl ?_
      refine g_aload_n (q := 10) B dX3_gets_9 rfl rfl (rv_r _) ?_
      refine g_callV (q := 13) (is := [0]) (kc2 := 0) (ks2 := 0) B [] (ct_X13_nodes_s g J (e := e) (r := Ep) (W0 := we)  (hE)) dX3_gets_10 rfl (rc_in B (ci := 16) rfl (k := 0) rfl (Sub.hm (hE) fun _ z => EpP.hm z)) rfl q3434 q3435 q3436 q137 q3437 rfl rfl moX13_nodes rfl rfl (by decide) (by decide) (Nat.le_of_ble_eq_true rfl) (Nat.le_of_ble_eq_true rfl) (Nat.le_of_ble_eq_true rfl) (fun _ _ hx => noX_x hx) (fun v10 L1 hp10 => ?_)
      obtain ⟨rfl, rfl⟩ := hp10
      refine (show Go g κ 13 [some (.ref a), some (.ref e), some (.int (nI fm)), some (.int (nI k)), none, none] [.int (nI (2 * 2 ^ (eTr Ep).1 - 1)), .int (nI k)] [[(a, .inr (13, [.int (oI (mEp r)), .int (nI (mLf r)), .int (nI (mLs r)), .int (oI (mRn r)), .ref nd, .ref ch, .ref ev]))], [(nd, .inl (g.2.1 0, 31, .inl f1))], [(ch, .inl (g.2.1 5, 16, .inr (.inr (.inr (.inr fc)))))], v0, v1, we] 0 0 from ?_)
      refine g_icmp_ge (tgt := 48) (q := 16) B dX3_gets_13 rfl (by decide) (nI_leI (by omega) (by omega)) (fun c13 => ?_) (fun c13 => ?_)
      · skip
        have c13 : ¬ k < 2 * 2 ^ (eTr Ep).1 - 1 := by omega
        refine g_iconst (v := nI 0) (q := 49) B dX3_gets_48 rfl (by decide) ?_
        refine g_istore (q := 51) (lv2 := [some (.ref a), some (.ref e), some (.int (nI fm)), some (.int (nI k)), some (.int (nI 0)), none]) B dX3_gets_49 rfl (Nat.le_of_ble_eq_true rfl) rfl ?_
        refine g_iload_n (q := 52) B dX3_gets_51 rfl rfl ?_
        refine g_aload_n (q := 53) B dX3_gets_52 rfl rfl (rv_r _) ?_
        refine g_callV (q := 56) (is := [5]) (kc2 := 0) (ks2 := 0) B [] (ct_X13_nodes_s g J (e := e) (r := Ep) (W0 := we)  (hE)) dX3_gets_53 rfl (rc_in B (ci := 16) rfl (k := 5) rfl (Sub.hm (hE) fun _ z => EpP.hm z)) rfl q3434 q3435 q3436 q137 q3437 rfl rfl moX13_nodes rfl rfl (by decide) (by decide) (Nat.le_of_ble_eq_true rfl) (Nat.le_of_ble_eq_true rfl) (Nat.le_of_ble_eq_true rfl) (fun _ _ hx => noX_x hx) (fun v53 L1 hp53 => ?_)
        obtain ⟨rfl, rfl⟩ := hp53
        refine (show Go g κ 56 [some (.ref a), some (.ref e), some (.int (nI fm)), some (.int (nI k)), some (.int (nI 0)), none] [.int (nI (2 * 2 ^ (eTr Ep).1 - 1)), .int (nI k)] [[(a, .inr (13, [.int (oI (mEp r)), .int (nI (mLf r)), .int (nI (mLs r)), .int (oI (mRn r)), .ref nd, .ref ch, .ref ev]))], [(nd, .inl (g.2.1 0, 31, .inl f1))], [(ch, .inl (g.2.1 5, 16, .inr (.inr (.inr (.inr fc)))))], v0, v1, we] 0 0 from ?_)
        refine g_icmp_ge (tgt := 88) (q := 59) B dX3_gets_56 rfl (by decide) (nI_leI (by omega) (by omega)) (fun c56 => ?_) (fun c56 => ?_)
        · skip
          have c56 : ¬ k < 2 * 2 ^ (eTr Ep).1 - 1 := by omega
          refine g_iconst (v := nI 0) (q := 89) B dX3_gets_88 rfl (by decide) ?_
          refine g_istore (q := 91) (lv2 := [some (.ref a), some (.ref e), some (.int (nI fm)), some (.int (nI k)), some (.int (nI 0)), some (.int (nI 0))]) B dX3_gets_89 rfl (Nat.le_of_ble_eq_true rfl) rfl ?_
          refine g_aload_n (q := 92) B dX3_gets_91 rfl rfl (rv_r _) ?_
          refine g_getN (q := 95) B (ci := 13) (k := 0) (j := 4) in_X5 rfl dX3_gets_92 rfl rfl (Nat.le_of_ble_eq_true rfl) q3124 rfl rfl ?_
          refine g_iload_n (q := 96) B dX3_gets_95 rfl rfl ?_
          refine g_iload (q := 98) B dX3_gets_96 rfl rfl ?_
          refine g_if_eq (tgt := 110) (q := 101) B dX3_gets_98 rfl (by decide) (iff_true_intro (by decide)) (fun _ => ?_) (fun z => absurd trivial z)
          refine g_iload (q := 112) B dX3_gets_110 rfl rfl ?_
          refine g_if_eq (tgt := 124) (q := 115) B dX3_gets_112 rfl (by decide) (iff_true_intro (by decide)) (fun _ => ?_) (fun z => absurd trivial z)
          refine g_iconst (v := -1) (q := 125) B dX3_gets_124 rfl (by decide) ?_
          have hgv : getN r Ep fm k = none := by unfold getN; rw [if_neg (by rintro ⟨z1, z2, z3, z4⟩; first | exact c13 z1 | exact c24 z2 | exact c33 z3 | exact c41 z4), if_neg (by rintro ⟨z1, z2, z3⟩; first | exact c56 z1 | exact z2 c66 | exact c81 z3 | exact c81 (z3.trans ev66))]
          refine g_iast (q := 126) (L2 := [[(a, .inr (13, [.int (oI (mEp r)), .int (nI (mLf r)), .int (nI (mLs r)), .int (oI (mRn r)), .ref nd, .ref ch, .ref ev]))], [(nd, .inl (g.2.1 0, 31, .inl (upd f1 k (-1))))], [(ch, .inl (g.2.1 5, 16, .inr (.inr (.inr (.inr fc)))))], v0, v1, we]) B (k := 1) dX3_gets_125 rfl rfl (vp_in_nI (by omega) (by omega)) (by rw [nI_clamp (by omega)] <;> rfl) ?_
          obtain ⟨f125, ef125⟩ : ∃ f : Nat → Int32, f = upd f1 k (-1) := ⟨_, rfl⟩
          have hf125 : ∀ i, i < 31 → f125 i = oI (fup (fun i => if i < k then getN r Ep fm i else mNd r i) k none i) := by rw [ef125]; exact upd_oI hf9 _ none
          rw [← ef125]
          refine (show Go g κ 126 [some (.ref a), some (.ref e), some (.int (nI fm)), some (.int (nI k)), some (.int (nI 0)), some (.int (nI 0))] [] [[(a, .inr (13, [.int (oI (mEp r)), .int (nI (mLf r)), .int (nI (mLs r)), .int (oI (mRn r)), .ref nd, .ref ch, .ref ev]))], [(nd, .inl (g.2.1 0, 31, .inl f125))], [(ch, .inl (g.2.1 5, 16, .inr (.inr (.inr (.inr fc)))))], v0, v1, we] 0 0 from ?_)
          refine g_iinc (v := nI (k + 1)) (q := 129) (lv2 := [some (.ref a), some (.ref e), some (.int (nI fm)), some (.int (nI (k + 1))), some (.int (nI 0)), some (.int (nI 0))]) B dX3_gets_126 rfl rfl (nI_add _ 1) (Nat.le_of_ble_eq_true rfl) rfl ?_
          refine g_goto (tgt := 2) B dX3_gets_129 (by decide) ?_
          refine g_fg 4 rfl ?_
          refine g_fg 5 rfl ?_
          refine g_pk [5, 0, 0, 0, 0, 0] rfl rfl ?_
          refine (show Go g κ 2 [some (.ref a), some (.ref e), some (.int (nI fm)), some (.int (nI (k + 1))), none, none] [] [we, [(a, .inr (13, [.int (oI (mEp r)), .int (nI (mLf r)), .int (nI (mLs r)), .int (oI (mRn r)), .ref nd, .ref ch, .ref ev]))], [(nd, .inl (g.2.1 0, 31, .inl f125))], [(ch, .inl (g.2.1 5, 16, .inr (.inr (.inr (.inr fc)))))], v0, v1] 0 0 from ?_)
          exact ih2 _ (by omega) (k + 1) f125 (by omega) (fun i hi => by rw [hf125 i hi, ← hgv, get_fs]) (fun i n h => by rw [← get_fs] at h; unfold fup at h; split at h; exact getN_b hTB9 m5 h; exact hgb i n h) rfl
        · skip
          have c56 : k < 2 * 2 ^ (eTr Ep).1 - 1 := by omega
          refine g_aload_n (q := 60) B dX3_gets_59 rfl rfl (rv_r _) ?_
          obtain ⟨ap_2, an_2, al_2, ac_2, aw_2, am_2, ak_2, fp_2, fn_2, fl_2, fc_2, fw_2, fm_2, fk_2, hE_2, hfp_2, hfn_2, hfl_2, hfc_2, hfw_2, hfm_2, hfk_2, hc_2_0, hc_2_1, hc_2_2, hc_2_3, hc_2_4, hc_2_5, hc_2_6, hc_2_7⟩ := EpP.at (hE)
          refine g_getNM (q := 63) B (ci := 16) (k := 5) (j := 5) in_X13 rfl dX3_gets_60 rfl rfl (hc_2_0) (Nat.le_of_ble_eq_true rfl) q3263 rfl rfl ?_
          refine g_iload_n (q := 64) B dX3_gets_63 rfl rfl ?_
          refine g_ialdM (v := oI (((eTr Ep).2.1) k)) (q := 65) B (k := 5) dX3_gets_64 rfl rfl (hc_2_2) (vp_in_nI (by omega) (by omega)) (by rw [nI_clamp (by omega)]; exact hfn_2 _ (by omega)) ?_
          refine g_iconst (v := -1) (q := 66) B dX3_gets_65 rfl (by decide) ?_
          refine g_icmp_eq (tgt := 88) (q := 69) B dX3_gets_66 rfl (by decide) (oI_n ((fun n h => by have := hE_2.2.1.2.1 _ _ h; omega))) (fun c66 => ?_) (fun c66 => ?_)
          · skip
            refine g_iconst (v := nI 0) (q := 89) B dX3_gets_88 rfl (by decide) ?_
            refine g_istore (q := 91) (lv2 := [some (.ref a), some (.ref e), some (.int (nI fm)), some (.int (nI k)), some (.int (nI 0)), some (.int (nI 0))]) B dX3_gets_89 rfl (Nat.le_of_ble_eq_true rfl) rfl ?_
            refine g_aload_n (q := 92) B dX3_gets_91 rfl rfl (rv_r _) ?_
            refine g_getN (q := 95) B (ci := 13) (k := 0) (j := 4) in_X5 rfl dX3_gets_92 rfl rfl (Nat.le_of_ble_eq_true rfl) q3124 rfl rfl ?_
            refine g_iload_n (q := 96) B dX3_gets_95 rfl rfl ?_
            refine g_iload (q := 98) B dX3_gets_96 rfl rfl ?_
            refine g_if_eq (tgt := 110) (q := 101) B dX3_gets_98 rfl (by decide) (iff_true_intro (by decide)) (fun _ => ?_) (fun z => absurd trivial z)
            refine g_iload (q := 112) B dX3_gets_110 rfl rfl ?_
            refine g_if_eq (tgt := 124) (q := 115) B dX3_gets_112 rfl (by decide) (iff_true_intro (by decide)) (fun _ => ?_) (fun z => absurd trivial z)
            refine g_iconst (v := -1) (q := 125) B dX3_gets_124 rfl (by decide) ?_
            have hgv : getN r Ep fm k = none := by unfold getN; rw [if_neg (by rintro ⟨z1, z2, z3, z4⟩; first | exact c13 z1 | exact c24 z2 | exact c33 z3 | exact c41 z4), if_neg (by rintro ⟨z1, z2, z3⟩; first | exact c56 z1 | exact z2 c66 | exact c81 z3 | exact c81 (z3.trans ev66))]
            refine g_iast (q := 126) (L2 := [[(a, .inr (13, [.int (oI (mEp r)), .int (nI (mLf r)), .int (nI (mLs r)), .int (oI (mRn r)), .ref nd, .ref ch, .ref ev]))], [(nd, .inl (g.2.1 0, 31, .inl (upd f1 k (-1))))], [(ch, .inl (g.2.1 5, 16, .inr (.inr (.inr (.inr fc)))))], v0, v1, we]) B (k := 1) dX3_gets_125 rfl rfl (vp_in_nI (by omega) (by omega)) (by rw [nI_clamp (by omega)] <;> rfl) ?_
            obtain ⟨f125, ef125⟩ : ∃ f : Nat → Int32, f = upd f1 k (-1) := ⟨_, rfl⟩
            have hf125 : ∀ i, i < 31 → f125 i = oI (fup (fun i => if i < k then getN r Ep fm i else mNd r i) k none i) := by rw [ef125]; exact upd_oI hf9 _ none
            rw [← ef125]
            refine (show Go g κ 126 [some (.ref a), some (.ref e), some (.int (nI fm)), some (.int (nI k)), some (.int (nI 0)), some (.int (nI 0))] [] [[(a, .inr (13, [.int (oI (mEp r)), .int (nI (mLf r)), .int (nI (mLs r)), .int (oI (mRn r)), .ref nd, .ref ch, .ref ev]))], [(nd, .inl (g.2.1 0, 31, .inl f125))], [(ch, .inl (g.2.1 5, 16, .inr (.inr (.inr (.inr fc)))))], v0, v1, we] 0 0 from ?_)
            refine g_iinc (v := nI (k + 1)) (q := 129) (lv2 := [some (.ref a), some (.ref e), some (.int (nI fm)), some (.int (nI (k + 1))), some (.int (nI 0)), some (.int (nI 0))]) B dX3_gets_126 rfl rfl (nI_add _ 1) (Nat.le_of_ble_eq_true rfl) rfl ?_
            refine g_goto (tgt := 2) B dX3_gets_129 (by decide) ?_
            refine g_fg 4 rfl ?_
            refine g_fg 5 rfl ?_
            refine g_pk [5, 0, 0, 0, 0, 0] rfl rfl ?_
            refine (show Go g κ 2 [some (.ref a), some (.ref e), some (.int (nI fm)), some (.int (nI (k + 1))), none, none] [] [we, [(a, .inr (13, [.int (oI (mEp r)), .int (nI (mLf r)), .int (nI (mLs r)), .int (oI (mRn r)), .ref nd, .ref ch, .ref ev]))], [(nd, .inl (g.2.1 0, 31, .inl f125))], [(ch, .inl (g.2.1 5, 16, .inr (.inr (.inr (.inr fc)))))], v0, v1] 0 0 from ?_)
            exact ih2 _ (by omega) (k + 1) f125 (by omega) (fun i hi => by rw [hf125 i hi, ← hgv, get_fs]) (fun i n h => by rw [← get_fs] at h; unfold fup at h; split at h; exact getN_b hTB9 m5 h; exact hgb i n h) rfl
          · skip
            obtain ⟨v66, ev66⟩ := Option.ne_none_iff_exists'.mp c66
            refine g_aload_n (q := 70) B dX3_gets_69 rfl rfl (rv_r _) ?_
            refine g_getN (q := 73) B (ci := 13) (k := 0) (j := 4) in_X5 rfl dX3_gets_70 rfl rfl (Nat.le_of_ble_eq_true rfl) q3124 rfl rfl ?_
            refine g_iload_n (q := 74) B dX3_gets_73 rfl rfl ?_
            refine g_iald (v := oI ((fun i => if i < k then getN r Ep fm i else mNd r i) k)) (q := 75) B (k := 1) dX3_gets_74 rfl rfl (vp_in_nI (by omega) (by omega)) (by rw [nI_clamp (by omega)]; exact hf9 _ (by omega)) ?_
            refine g_stk (y := .int (oI (mNd r k))) (by show Value.int (oI (if k < k then getN r Ep fm k else mNd r k)) = _; rw [hgk]) ?_
            refine (show Go g κ 75 [some (.ref a), some (.ref e), some (.int (nI fm)), some (.int (nI k)), some (.int (nI 0)), none] [.int (oI (mNd r k))] [[(a, .inr (13, [.int (oI (mEp r)), .int (nI (mLf r)), .int (nI (mLs r)), .int (oI (mRn r)), .ref nd, .ref ch, .ref ev]))], [(nd, .inl (g.2.1 0, 31, .inl f1))], [(ch, .inl (g.2.1 5, 16, .inr (.inr (.inr (.inr fc)))))], v0, v1, we] 0 0 from ?_)
            refine g_aload_n (q := 76) B dX3_gets_75 rfl rfl (rv_r _) ?_
            refine g_getNM (q := 79) B (ci := 16) (k := 5) (j := 5) in_X13 rfl dX3_gets_76 rfl rfl (hc_2_0) (Nat.le_of_ble_eq_true rfl) q3263 rfl rfl ?_
            refine g_iload_n (q := 80) B dX3_gets_79 rfl rfl ?_
            refine g_ialdM (v := oI (((eTr Ep).2.1) k)) (q := 81) B (k := 5) dX3_gets_80 rfl rfl (hc_2_2) (vp_in_nI (by omega) (by omega)) (by rw [nI_clamp (by omega)]; exact hfn_2 _ (by omega)) ?_
            refine g_stk (y := .int (nI v66)) (by rw [ev66]; rfl) ?_
            have hv66 := hTB9.2.1 _ _ ev66
            refine g_icmp_ne (tgt := 88) (q := 84) B dX3_gets_81 rfl (by decide) (oI_ne ((fun n h => by have := m5 _ _ h; omega)) (by omega)) (fun c81 => ?_) (fun c81 => ?_)
            · skip
              refine g_iconst (v := nI 0) (q := 89) B dX3_gets_88 rfl (by decide) ?_
              refine g_istore (q := 91) (lv2 := [some (.ref a), some (.ref e), some (.int (nI fm)), some (.int (nI k)), some (.int (nI 0)), some (.int (nI 0))]) B dX3_gets_89 rfl (Nat.le_of_ble_eq_true rfl) rfl ?_
              refine g_aload_n (q := 92) B dX3_gets_91 rfl rfl (rv_r _) ?_
              refine g_getN (q := 95) B (ci := 13) (k := 0) (j := 4) in_X5 rfl dX3_gets_92 rfl rfl (Nat.le_of_ble_eq_true rfl) q3124 rfl rfl ?_
              refine g_iload_n (q := 96) B dX3_gets_95 rfl rfl ?_
              refine g_iload (q := 98) B dX3_gets_96 rfl rfl ?_
              refine g_if_eq (tgt := 110) (q := 101) B dX3_gets_98 rfl (by decide) (iff_true_intro (by decide)) (fun _ => ?_) (fun z => absurd trivial z)
              refine g_iload (q := 112) B dX3_gets_110 rfl rfl ?_
              refine g_if_eq (tgt := 124) (q := 115) B dX3_gets_112 rfl (by decide) (iff_true_intro (by decide)) (fun _ => ?_) (fun z => absurd trivial z)
              refine g_iconst (v := -1) (q := 125) B dX3_gets_124 rfl (by decide) ?_
              have hgv : getN r Ep fm k = none := by unfold getN; rw [if_neg (by rintro ⟨z1, z2, z3, z4⟩; first | exact c13 z1 | exact c24 z2 | exact c33 z3 | exact c41 z4), if_neg (by rintro ⟨z1, z2, z3⟩; first | exact c56 z1 | exact z2 c66 | exact c81 z3 | exact c81 (z3.trans ev66))]
              refine g_iast (q := 126) (L2 := [[(a, .inr (13, [.int (oI (mEp r)), .int (nI (mLf r)), .int (nI (mLs r)), .int (oI (mRn r)), .ref nd, .ref ch, .ref ev]))], [(nd, .inl (g.2.1 0, 31, .inl (upd f1 k (-1))))], [(ch, .inl (g.2.1 5, 16, .inr (.inr (.inr (.inr fc)))))], v0, v1, we]) B (k := 1) dX3_gets_125 rfl rfl (vp_in_nI (by omega) (by omega)) (by rw [nI_clamp (by omega)] <;> rfl) ?_
              obtain ⟨f125, ef125⟩ : ∃ f : Nat → Int32, f = upd f1 k (-1) := ⟨_, rfl⟩
              have hf125 : ∀ i, i < 31 → f125 i = oI (fup (fun i => if i < k then getN r Ep fm i else mNd r i) k none i) := by rw [ef125]; exact upd_oI hf9 _ none
              rw [← ef125]
              refine (show Go g κ 126 [some (.ref a), some (.ref e), some (.int (nI fm)), some (.int (nI k)), some (.int (nI 0)), some (.int (nI 0))] [] [[(a, .inr (13, [.int (oI (mEp r)), .int (nI (mLf r)), .int (nI (mLs r)), .int (oI (mRn r)), .ref nd, .ref ch, .ref ev]))], [(nd, .inl (g.2.1 0, 31, .inl f125))], [(ch, .inl (g.2.1 5, 16, .inr (.inr (.inr (.inr fc)))))], v0, v1, we] 0 0 from ?_)
              refine g_iinc (v := nI (k + 1)) (q := 129) (lv2 := [some (.ref a), some (.ref e), some (.int (nI fm)), some (.int (nI (k + 1))), some (.int (nI 0)), some (.int (nI 0))]) B dX3_gets_126 rfl rfl (nI_add _ 1) (Nat.le_of_ble_eq_true rfl) rfl ?_
              refine g_goto (tgt := 2) B dX3_gets_129 (by decide) ?_
              refine g_fg 4 rfl ?_
              refine g_fg 5 rfl ?_
              refine g_pk [5, 0, 0, 0, 0, 0] rfl rfl ?_
              refine (show Go g κ 2 [some (.ref a), some (.ref e), some (.int (nI fm)), some (.int (nI (k + 1))), none, none] [] [we, [(a, .inr (13, [.int (oI (mEp r)), .int (nI (mLf r)), .int (nI (mLs r)), .int (oI (mRn r)), .ref nd, .ref ch, .ref ev]))], [(nd, .inl (g.2.1 0, 31, .inl f125))], [(ch, .inl (g.2.1 5, 16, .inr (.inr (.inr (.inr fc)))))], v0, v1] 0 0 from ?_)
              exact ih2 _ (by omega) (k + 1) f125 (by omega) (fun i hi => by rw [hf125 i hi, ← hgv, get_fs]) (fun i n h => by rw [← get_fs] at h; unfold fup at h; split at h; exact getN_b hTB9 m5 h; exact hgb i n h) rfl
            · skip
              have c81 := Classical.not_not.mp c81
              refine g_iconst (v := nI 1) (q := 85) B dX3_gets_84 rfl (by decide) ?_
              refine g_goto (tgt := 89) B dX3_gets_85 (by decide) ?_
              refine g_istore (q := 91) (lv2 := [some (.ref a), some (.ref e), some (.int (nI fm)), some (.int (nI k)), some (.int (nI 0)), some (.int (nI 1))]) B dX3_gets_89 rfl (Nat.le_of_ble_eq_true rfl) rfl ?_
              refine g_aload_n (q := 92) B dX3_gets_91 rfl rfl (rv_r _) ?_
              refine g_getN (q := 95) B (ci := 13) (k := 0) (j := 4) in_X5 rfl dX3_gets_92 rfl rfl (Nat.le_of_ble_eq_true rfl) q3124 rfl rfl ?_
              refine g_iload_n (q := 96) B dX3_gets_95 rfl rfl ?_
              refine g_iload (q := 98) B dX3_gets_96 rfl rfl ?_
              refine g_if_eq (tgt := 110) (q := 101) B dX3_gets_98 rfl (by decide) (iff_true_intro (by decide)) (fun _ => ?_) (fun z => absurd trivial z)
              refine g_iload (q := 112) B dX3_gets_110 rfl rfl ?_
              refine g_if_eq (tgt := 124) (q := 115) B dX3_gets_112 rfl (by decide) (iff_false_intro (by decide)) (fun z => z.elim) (fun _ => ?_)
              refine g_aload_n (q := 116) B dX3_gets_115 rfl rfl (rv_r _) ?_
              refine g_getN (q := 119) B (ci := 13) (k := 0) (j := 4) in_X5 rfl dX3_gets_116 rfl rfl (Nat.le_of_ble_eq_true rfl) q3124 rfl rfl ?_
              refine g_iload_n (q := 120) B dX3_gets_119 rfl rfl ?_
              refine g_iald (v := oI ((fun i => if i < k then getN r Ep fm i else mNd r i) k)) (q := 121) B (k := 1) dX3_gets_120 rfl rfl (vp_in_nI (by omega) (by omega)) (by rw [nI_clamp (by omega)]; exact hf9 _ (by omega)) ?_
              refine g_stk (y := .int (oI (mNd r k))) (by show Value.int (oI (if k < k then getN r Ep fm k else mNd r k)) = _; rw [hgk]) ?_
              refine (show Go g κ 121 [some (.ref a), some (.ref e), some (.int (nI fm)), some (.int (nI k)), some (.int (nI 0)), some (.int (nI 1))] [.int (oI (mNd r k)), .int (nI k), .ref nd] [[(a, .inr (13, [.int (oI (mEp r)), .int (nI (mLf r)), .int (nI (mLs r)), .int (oI (mRn r)), .ref nd, .ref ch, .ref ev]))], [(nd, .inl (g.2.1 0, 31, .inl f1))], [(ch, .inl (g.2.1 5, 16, .inr (.inr (.inr (.inr fc)))))], v0, v1, we] 0 0 from ?_)
              refine g_goto (tgt := 125) B dX3_gets_121 (by decide) ?_
              have hgv : getN r Ep fm k = mNd r k := by unfold getN; rw [if_neg (by rintro ⟨z1, z2, z3, z4⟩; first | exact c13 z1 | exact c24 z2 | exact c33 z3 | exact c41 z4), if_pos ⟨c56, c66, by first | exact c81 | rw [c81, ev66]⟩]
              refine g_iast (q := 126) (L2 := [[(a, .inr (13, [.int (oI (mEp r)), .int (nI (mLf r)), .int (nI (mLs r)), .int (oI (mRn r)), .ref nd, .ref ch, .ref ev]))], [(nd, .inl (g.2.1 0, 31, .inl (upd f1 k (oI (mNd r k)))))], [(ch, .inl (g.2.1 5, 16, .inr (.inr (.inr (.inr fc)))))], v0, v1, we]) B (k := 1) dX3_gets_125 rfl rfl (vp_in_nI (by omega) (by omega)) (by rw [nI_clamp (by omega)] <;> rfl) ?_
              obtain ⟨f125, ef125⟩ : ∃ f : Nat → Int32, f = upd f1 k (oI (mNd r k)) := ⟨_, rfl⟩
              have hf125 : ∀ i, i < 31 → f125 i = oI (fup (fun i => if i < k then getN r Ep fm i else mNd r i) k (mNd r k) i) := by rw [ef125]; exact upd_oI hf9 _ (mNd r k)
              rw [← ef125]
              refine (show Go g κ 126 [some (.ref a), some (.ref e), some (.int (nI fm)), some (.int (nI k)), some (.int (nI 0)), some (.int (nI 1))] [] [[(a, .inr (13, [.int (oI (mEp r)), .int (nI (mLf r)), .int (nI (mLs r)), .int (oI (mRn r)), .ref nd, .ref ch, .ref ev]))], [(nd, .inl (g.2.1 0, 31, .inl f125))], [(ch, .inl (g.2.1 5, 16, .inr (.inr (.inr (.inr fc)))))], v0, v1, we] 0 0 from ?_)
              refine g_iinc (v := nI (k + 1)) (q := 129) (lv2 := [some (.ref a), some (.ref e), some (.int (nI fm)), some (.int (nI (k + 1))), some (.int (nI 0)), some (.int (nI 1))]) B dX3_gets_126 rfl rfl (nI_add _ 1) (Nat.le_of_ble_eq_true rfl) rfl ?_
              refine g_goto (tgt := 2) B dX3_gets_129 (by decide) ?_
              refine g_fg 4 rfl ?_
              refine g_fg 5 rfl ?_
              refine g_pk [5, 0, 0, 0, 0, 0] rfl rfl ?_
              refine (show Go g κ 2 [some (.ref a), some (.ref e), some (.int (nI fm)), some (.int (nI (k + 1))), none, none] [] [we, [(a, .inr (13, [.int (oI (mEp r)), .int (nI (mLf r)), .int (nI (mLs r)), .int (oI (mRn r)), .ref nd, .ref ch, .ref ev]))], [(nd, .inl (g.2.1 0, 31, .inl f125))], [(ch, .inl (g.2.1 5, 16, .inr (.inr (.inr (.inr fc)))))], v0, v1] 0 0 from ?_)
              exact ih2 _ (by omega) (k + 1) f125 (by omega) (fun i hi => by rw [hf125 i hi, ← hgv, get_fs]) (fun i n h => by rw [← get_fs] at h; unfold fup at h; split at h; exact getN_b hTB9 m5 h; exact hgb i n h) rfl
      · skip
        have c13 : k < 2 * 2 ^ (eTr Ep).1 - 1 := by omega
        refine g_iload_n (q := 17) B dX3_gets_16 rfl rfl ?_
        refine g_aload_n (q := 18) B dX3_gets_17 rfl rfl (rv_r _) ?_
        refine g_getN (q := 21) B (ci := 13) (k := 0) (j := 1) in_X5 rfl dX3_gets_18 rfl rfl (Nat.le_of_ble_eq_true rfl) q3119 rfl rfl ?_
        refine g_callS (q := 24) (is := []) (kc2 := 0) (ks2 := 0) B [.int (nI k), .int (nI (mLf r))] (ct_X3_isAbove g J (n := k) (l := mLf r)  (by omega) (by omega)) dX3_gets_21 rfl q3438 q3439 q85 q3440 rfl rfl moX3_isAbove rfl rfl (by decide) (by decide) (Nat.le_of_ble_eq_true rfl) (Nat.le_of_ble_eq_true rfl) (Nat.le_of_ble_eq_true rfl) (fun _ _ hx => noX_x hx) (fun v21 L1 hp21 => ?_)
        obtain ⟨rfl, rfl⟩ := hp21
        refine (show Go g κ 24 [some (.ref a), some (.ref e), some (.int (nI fm)), some (.int (nI k)), none, none] [.int (nI (if 0 < lev k ∧ cvr k (mLf r) = true then 1 else 0))] [[(a, .inr (13, [.int (oI (mEp r)), .int (nI (mLf r)), .int (nI (mLs r)), .int (oI (mRn r)), .ref nd, .ref ch, .ref ev]))], [(nd, .inl (g.2.1 0, 31, .inl f1))], [(ch, .inl (g.2.1 5, 16, .inr (.inr (.inr (.inr fc)))))], v0, v1, we] 0 0 from ?_)
        refine g_if_eq (tgt := 48) (q := 27) B dX3_gets_24 rfl (by decide) (bo_eq) (fun c24 => ?_) (fun c24 => ?_)
        · skip
          refine g_iconst (v := nI 0) (q := 49) B dX3_gets_48 rfl (by decide) ?_
          refine g_istore (q := 51) (lv2 := [some (.ref a), some (.ref e), some (.int (nI fm)), some (.int (nI k)), some (.int (nI 0)), none]) B dX3_gets_49 rfl (Nat.le_of_ble_eq_true rfl) rfl ?_
          refine g_iload_n (q := 52) B dX3_gets_51 rfl rfl ?_
          refine g_aload_n (q := 53) B dX3_gets_52 rfl rfl (rv_r _) ?_
          refine g_callV (q := 56) (is := [5]) (kc2 := 0) (ks2 := 0) B [] (ct_X13_nodes_s g J (e := e) (r := Ep) (W0 := we)  (hE)) dX3_gets_53 rfl (rc_in B (ci := 16) rfl (k := 5) rfl (Sub.hm (hE) fun _ z => EpP.hm z)) rfl q3434 q3435 q3436 q137 q3437 rfl rfl moX13_nodes rfl rfl (by decide) (by decide) (Nat.le_of_ble_eq_true rfl) (Nat.le_of_ble_eq_true rfl) (Nat.le_of_ble_eq_true rfl) (fun _ _ hx => noX_x hx) (fun v53 L1 hp53 => ?_)
          obtain ⟨rfl, rfl⟩ := hp53
          refine (show Go g κ 56 [some (.ref a), some (.ref e), some (.int (nI fm)), some (.int (nI k)), some (.int (nI 0)), none] [.int (nI (2 * 2 ^ (eTr Ep).1 - 1)), .int (nI k)] [[(a, .inr (13, [.int (oI (mEp r)), .int (nI (mLf r)), .int (nI (mLs r)), .int (oI (mRn r)), .ref nd, .ref ch, .ref ev]))], [(nd, .inl (g.2.1 0, 31, .inl f1))], [(ch, .inl (g.2.1 5, 16, .inr (.inr (.inr (.inr fc)))))], v0, v1, we] 0 0 from ?_)
          refine g_icmp_ge (tgt := 88) (q := 59) B dX3_gets_56 rfl (by decide) (nI_leI (by omega) (by omega)) (fun c56 => ?_) (fun c56 => ?_)
          · skip
            have c56 : ¬ k < 2 * 2 ^ (eTr Ep).1 - 1 := by omega
            refine g_iconst (v := nI 0) (q := 89) B dX3_gets_88 rfl (by decide) ?_
            refine g_istore (q := 91) (lv2 := [some (.ref a), some (.ref e), some (.int (nI fm)), some (.int (nI k)), some (.int (nI 0)), some (.int (nI 0))]) B dX3_gets_89 rfl (Nat.le_of_ble_eq_true rfl) rfl ?_
            refine g_aload_n (q := 92) B dX3_gets_91 rfl rfl (rv_r _) ?_
            refine g_getN (q := 95) B (ci := 13) (k := 0) (j := 4) in_X5 rfl dX3_gets_92 rfl rfl (Nat.le_of_ble_eq_true rfl) q3124 rfl rfl ?_
            refine g_iload_n (q := 96) B dX3_gets_95 rfl rfl ?_
            refine g_iload (q := 98) B dX3_gets_96 rfl rfl ?_
            refine g_if_eq (tgt := 110) (q := 101) B dX3_gets_98 rfl (by decide) (iff_true_intro (by decide)) (fun _ => ?_) (fun z => absurd trivial z)
            refine g_iload (q := 112) B dX3_gets_110 rfl rfl ?_
            refine g_if_eq (tgt := 124) (q := 115) B dX3_gets_112 rfl (by decide) (iff_true_intro (by decide)) (fun _ => ?_) (fun z => absurd trivial z)
            refine g_iconst (v := -1) (q := 125) B dX3_gets_124 rfl (by decide) ?_
            have hgv : getN r Ep fm k = none := by unfold getN; rw [if_neg (by rintro ⟨z1, z2, z3, z4⟩; first | exact c13 z1 | exact c24 z2 | exact c33 z3 | exact c41 z4), if_neg (by rintro ⟨z1, z2, z3⟩; first | exact c56 z1 | exact z2 c66 | exact c81 z3 | exact c81 (z3.trans ev66))]
            refine g_iast (q := 126) (L2 := [[(a, .inr (13, [.int (oI (mEp r)), .int (nI (mLf r)), .int (nI (mLs r)), .int (oI (mRn r)), .ref nd, .ref ch, .ref ev]))], [(nd, .inl (g.2.1 0, 31, .inl (upd f1 k (-1))))], [(ch, .inl (g.2.1 5, 16, .inr (.inr (.inr (.inr fc)))))], v0, v1, we]) B (k := 1) dX3_gets_125 rfl rfl (vp_in_nI (by omega) (by omega)) (by rw [nI_clamp (by omega)] <;> rfl) ?_
            obtain ⟨f125, ef125⟩ : ∃ f : Nat → Int32, f = upd f1 k (-1) := ⟨_, rfl⟩
            have hf125 : ∀ i, i < 31 → f125 i = oI (fup (fun i => if i < k then getN r Ep fm i else mNd r i) k none i) := by rw [ef125]; exact upd_oI hf9 _ none
            rw [← ef125]
            refine (show Go g κ 126 [some (.ref a), some (.ref e), some (.int (nI fm)), some (.int (nI k)), some (.int (nI 0)), some (.int (nI 0))] [] [[(a, .inr (13, [.int (oI (mEp r)), .int (nI (mLf r)), .int (nI (mLs r)), .int (oI (mRn r)), .ref nd, .ref ch, .ref ev]))], [(nd, .inl (g.2.1 0, 31, .inl f125))], [(ch, .inl (g.2.1 5, 16, .inr (.inr (.inr (.inr fc)))))], v0, v1, we] 0 0 from ?_)
            refine g_iinc (v := nI (k + 1)) (q := 129) (lv2 := [some (.ref a), some (.ref e), some (.int (nI fm)), some (.int (nI (k + 1))), some (.int (nI 0)), some (.int (nI 0))]) B dX3_gets_126 rfl rfl (nI_add _ 1) (Nat.le_of_ble_eq_true rfl) rfl ?_
            refine g_goto (tgt := 2) B dX3_gets_129 (by decide) ?_
            refine g_fg 4 rfl ?_
            refine g_fg 5 rfl ?_
            refine g_pk [5, 0, 0, 0, 0, 0] rfl rfl ?_
            refine (show Go g κ 2 [some (.ref a), some (.ref e), some (.int (nI fm)), some (.int (nI (k + 1))), none, none] [] [we, [(a, .inr (13, [.int (oI (mEp r)), .int (nI (mLf r)), .int (nI (mLs r)), .int (oI (mRn r)), .ref nd, .ref ch, .ref ev]))], [(nd, .inl (g.2.1 0, 31, .inl f125))], [(ch, .inl (g.2.1 5, 16, .inr (.inr (.inr (.inr fc)))))], v0, v1] 0 0 from ?_)
            exact ih2 _ (by omega) (k + 1) f125 (by omega) (fun i hi => by rw [hf125 i hi, ← hgv, get_fs]) (fun i n h => by rw [← get_fs] at h; unfold fup at h; split at h; exact getN_b hTB9 m5 h; exact hgb i n h) rfl
          · skip
            have c56 : k < 2 * 2 ^ (eTr Ep).1 - 1 := by omega
            refine g_aload_n (q := 60) B dX3_gets_59 rfl rfl (rv_r _) ?_
            obtain ⟨ap_3, an_3, al_3, ac_3, aw_3, am_3, ak_3, fp_3, fn_3, fl_3, fc_3, fw_3, fm_3, fk_3, hE_3, hfp_3, hfn_3, hfl_3, hfc_3, hfw_3, hfm_3, hfk_3, hc_3_0, hc_3_1, hc_3_2, hc_3_3, hc_3_4, hc_3_5, hc_3_6, hc_3_7⟩ := EpP.at (hE)
            refine g_getNM (q := 63) B (ci := 16) (k := 5) (j := 5) in_X13 rfl dX3_gets_60 rfl rfl (hc_3_0) (Nat.le_of_ble_eq_true rfl) q3263 rfl rfl ?_
            refine g_iload_n (q := 64) B dX3_gets_63 rfl rfl ?_
            refine g_ialdM (v := oI (((eTr Ep).2.1) k)) (q := 65) B (k := 5) dX3_gets_64 rfl rfl (hc_3_2) (vp_in_nI (by omega) (by omega)) (by rw [nI_clamp (by omega)]; exact hfn_3 _ (by omega)) ?_
            refine g_iconst (v := -1) (q := 66) B dX3_gets_65 rfl (by decide) ?_
            refine g_icmp_eq (tgt := 88) (q := 69) B dX3_gets_66 rfl (by decide) (oI_n ((fun n h => by have := hE_3.2.1.2.1 _ _ h; omega))) (fun c66 => ?_) (fun c66 => ?_)
            · skip
              refine g_iconst (v := nI 0) (q := 89) B dX3_gets_88 rfl (by decide) ?_
              refine g_istore (q := 91) (lv2 := [some (.ref a), some (.ref e), some (.int (nI fm)), some (.int (nI k)), some (.int (nI 0)), some (.int (nI 0))]) B dX3_gets_89 rfl (Nat.le_of_ble_eq_true rfl) rfl ?_
              refine g_aload_n (q := 92) B dX3_gets_91 rfl rfl (rv_r _) ?_
              refine g_getN (q := 95) B (ci := 13) (k := 0) (j := 4) in_X5 rfl dX3_gets_92 rfl rfl (Nat.le_of_ble_eq_true rfl) q3124 rfl rfl ?_
              refine g_iload_n (q := 96) B dX3_gets_95 rfl rfl ?_
              refine g_iload (q := 98) B dX3_gets_96 rfl rfl ?_
              refine g_if_eq (tgt := 110) (q := 101) B dX3_gets_98 rfl (by decide) (iff_true_intro (by decide)) (fun _ => ?_) (fun z => absurd trivial z)
              refine g_iload (q := 112) B dX3_gets_110 rfl rfl ?_
              refine g_if_eq (tgt := 124) (q := 115) B dX3_gets_112 rfl (by decide) (iff_true_intro (by decide)) (fun _ => ?_) (fun z => absurd trivial z)
              refine g_iconst (v := -1) (q := 125) B dX3_gets_124 rfl (by decide) ?_
              have hgv : getN r Ep fm k = none := by unfold getN; rw [if_neg (by rintro ⟨z1, z2, z3, z4⟩; first | exact c13 z1 | exact c24 z2 | exact c33 z3 | exact c41 z4), if_neg (by rintro ⟨z1, z2, z3⟩; first | exact c56 z1 | exact z2 c66 | exact c81 z3 | exact c81 (z3.trans ev66))]
              refine g_iast (q := 126) (L2 := [[(a, .inr (13, [.int (oI (mEp r)), .int (nI (mLf r)), .int (nI (mLs r)), .int (oI (mRn r)), .ref nd, .ref ch, .ref ev]))], [(nd, .inl (g.2.1 0, 31, .inl (upd f1 k (-1))))], [(ch, .inl (g.2.1 5, 16, .inr (.inr (.inr (.inr fc)))))], v0, v1, we]) B (k := 1) dX3_gets_125 rfl rfl (vp_in_nI (by omega) (by omega)) (by rw [nI_clamp (by omega)] <;> rfl) ?_
              obtain ⟨f125, ef125⟩ : ∃ f : Nat → Int32, f = upd f1 k (-1) := ⟨_, rfl⟩
              have hf125 : ∀ i, i < 31 → f125 i = oI (fup (fun i => if i < k then getN r Ep fm i else mNd r i) k none i) := by rw [ef125]; exact upd_oI hf9 _ none
              rw [← ef125]
              refine (show Go g κ 126 [some (.ref a), some (.ref e), some (.int (nI fm)), some (.int (nI k)), some (.int (nI 0)), some (.int (nI 0))] [] [[(a, .inr (13, [.int (oI (mEp r)), .int (nI (mLf r)), .int (nI (mLs r)), .int (oI (mRn r)), .ref nd, .ref ch, .ref ev]))], [(nd, .inl (g.2.1 0, 31, .inl f125))], [(ch, .inl (g.2.1 5, 16, .inr (.inr (.inr (.inr fc)))))], v0, v1, we] 0 0 from ?_)
              refine g_iinc (v := nI (k + 1)) (q := 129) (lv2 := [some (.ref a), some (.ref e), some (.int (nI fm)), some (.int (nI (k + 1))), some (.int (nI 0)), some (.int (nI 0))]) B dX3_gets_126 rfl rfl (nI_add _ 1) (Nat.le_of_ble_eq_true rfl) rfl ?_
              refine g_goto (tgt := 2) B dX3_gets_129 (by decide) ?_
              refine g_fg 4 rfl ?_
              refine g_fg 5 rfl ?_
              refine g_pk [5, 0, 0, 0, 0, 0] rfl rfl ?_
              refine (show Go g κ 2 [some (.ref a), some (.ref e), some (.int (nI fm)), some (.int (nI (k + 1))), none, none] [] [we, [(a, .inr (13, [.int (oI (mEp r)), .int (nI (mLf r)), .int (nI (mLs r)), .int (oI (mRn r)), .ref nd, .ref ch, .ref ev]))], [(nd, .inl (g.2.1 0, 31, .inl f125))], [(ch, .inl (g.2.1 5, 16, .inr (.inr (.inr (.inr fc)))))], v0, v1] 0 0 from ?_)
              exact ih2 _ (by omega) (k + 1) f125 (by omega) (fun i hi => by rw [hf125 i hi, ← hgv, get_fs]) (fun i n h => by rw [← get_fs] at h; unfold fup at h; split at h; exact getN_b hTB9 m5 h; exact hgb i n h) rfl
            · skip
              obtain ⟨v66, ev66⟩ := Option.ne_none_iff_exists'.mp c66
              refine g_aload_n (q := 70) B dX3_gets_69 rfl rfl (rv_r _) ?_
              refine g_getN (q := 73) B (ci := 13) (k := 0) (j := 4) in_X5 rfl dX3_gets_70 rfl rfl (Nat.le_of_ble_eq_true rfl) q3124 rfl rfl ?_
              refine g_iload_n (q := 74) B dX3_gets_73 rfl rfl ?_
              refine g_iald (v := oI ((fun i => if i < k then getN r Ep fm i else mNd r i) k)) (q := 75) B (k := 1) dX3_gets_74 rfl rfl (vp_in_nI (by omega) (by omega)) (by rw [nI_clamp (by omega)]; exact hf9 _ (by omega)) ?_
              refine g_stk (y := .int (oI (mNd r k))) (by show Value.int (oI (if k < k then getN r Ep fm k else mNd r k)) = _; rw [hgk]) ?_
              refine (show Go g κ 75 [some (.ref a), some (.ref e), some (.int (nI fm)), some (.int (nI k)), some (.int (nI 0)), none] [.int (oI (mNd r k))] [[(a, .inr (13, [.int (oI (mEp r)), .int (nI (mLf r)), .int (nI (mLs r)), .int (oI (mRn r)), .ref nd, .ref ch, .ref ev]))], [(nd, .inl (g.2.1 0, 31, .inl f1))], [(ch, .inl (g.2.1 5, 16, .inr (.inr (.inr (.inr fc)))))], v0, v1, we] 0 0 from ?_)
              refine g_aload_n (q := 76) B dX3_gets_75 rfl rfl (rv_r _) ?_
              refine g_getNM (q := 79) B (ci := 16) (k := 5) (j := 5) in_X13 rfl dX3_gets_76 rfl rfl (hc_3_0) (Nat.le_of_ble_eq_true rfl) q3263 rfl rfl ?_
              refine g_iload_n (q := 80) B dX3_gets_79 rfl rfl ?_
              refine g_ialdM (v := oI (((eTr Ep).2.1) k)) (q := 81) B (k := 5) dX3_gets_80 rfl rfl (hc_3_2) (vp_in_nI (by omega) (by omega)) (by rw [nI_clamp (by omega)]; exact hfn_3 _ (by omega)) ?_
              refine g_stk (y := .int (nI v66)) (by rw [ev66]; rfl) ?_
              have hv66 := hTB9.2.1 _ _ ev66
              refine g_icmp_ne (tgt := 88) (q := 84) B dX3_gets_81 rfl (by decide) (oI_ne ((fun n h => by have := m5 _ _ h; omega)) (by omega)) (fun c81 => ?_) (fun c81 => ?_)
              · skip
                refine g_iconst (v := nI 0) (q := 89) B dX3_gets_88 rfl (by decide) ?_
                refine g_istore (q := 91) (lv2 := [some (.ref a), some (.ref e), some (.int (nI fm)), some (.int (nI k)), some (.int (nI 0)), some (.int (nI 0))]) B dX3_gets_89 rfl (Nat.le_of_ble_eq_true rfl) rfl ?_
                refine g_aload_n (q := 92) B dX3_gets_91 rfl rfl (rv_r _) ?_
                refine g_getN (q := 95) B (ci := 13) (k := 0) (j := 4) in_X5 rfl dX3_gets_92 rfl rfl (Nat.le_of_ble_eq_true rfl) q3124 rfl rfl ?_
                refine g_iload_n (q := 96) B dX3_gets_95 rfl rfl ?_
                refine g_iload (q := 98) B dX3_gets_96 rfl rfl ?_
                refine g_if_eq (tgt := 110) (q := 101) B dX3_gets_98 rfl (by decide) (iff_true_intro (by decide)) (fun _ => ?_) (fun z => absurd trivial z)
                refine g_iload (q := 112) B dX3_gets_110 rfl rfl ?_
                refine g_if_eq (tgt := 124) (q := 115) B dX3_gets_112 rfl (by decide) (iff_true_intro (by decide)) (fun _ => ?_) (fun z => absurd trivial z)
                refine g_iconst (v := -1) (q := 125) B dX3_gets_124 rfl (by decide) ?_
                have hgv : getN r Ep fm k = none := by unfold getN; rw [if_neg (by rintro ⟨z1, z2, z3, z4⟩; first | exact c13 z1 | exact c24 z2 | exact c33 z3 | exact c41 z4), if_neg (by rintro ⟨z1, z2, z3⟩; first | exact c56 z1 | exact z2 c66 | exact c81 z3 | exact c81 (z3.trans ev66))]
                refine g_iast (q := 126) (L2 := [[(a, .inr (13, [.int (oI (mEp r)), .int (nI (mLf r)), .int (nI (mLs r)), .int (oI (mRn r)), .ref nd, .ref ch, .ref ev]))], [(nd, .inl (g.2.1 0, 31, .inl (upd f1 k (-1))))], [(ch, .inl (g.2.1 5, 16, .inr (.inr (.inr (.inr fc)))))], v0, v1, we]) B (k := 1) dX3_gets_125 rfl rfl (vp_in_nI (by omega) (by omega)) (by rw [nI_clamp (by omega)] <;> rfl) ?_
                obtain ⟨f125, ef125⟩ : ∃ f : Nat → Int32, f = upd f1 k (-1) := ⟨_, rfl⟩
                have hf125 : ∀ i, i < 31 → f125 i = oI (fup (fun i => if i < k then getN r Ep fm i else mNd r i) k none i) := by rw [ef125]; exact upd_oI hf9 _ none
                rw [← ef125]
                refine (show Go g κ 126 [some (.ref a), some (.ref e), some (.int (nI fm)), some (.int (nI k)), some (.int (nI 0)), some (.int (nI 0))] [] [[(a, .inr (13, [.int (oI (mEp r)), .int (nI (mLf r)), .int (nI (mLs r)), .int (oI (mRn r)), .ref nd, .ref ch, .ref ev]))], [(nd, .inl (g.2.1 0, 31, .inl f125))], [(ch, .inl (g.2.1 5, 16, .inr (.inr (.inr (.inr fc)))))], v0, v1, we] 0 0 from ?_)
                refine g_iinc (v := nI (k + 1)) (q := 129) (lv2 := [some (.ref a), some (.ref e), some (.int (nI fm)), some (.int (nI (k + 1))), some (.int (nI 0)), some (.int (nI 0))]) B dX3_gets_126 rfl rfl (nI_add _ 1) (Nat.le_of_ble_eq_true rfl) rfl ?_
                refine g_goto (tgt := 2) B dX3_gets_129 (by decide) ?_
                refine g_fg 4 rfl ?_
                refine g_fg 5 rfl ?_
                refine g_pk [5, 0, 0, 0, 0, 0] rfl rfl ?_
                refine (show Go g κ 2 [some (.ref a), some (.ref e), some (.int (nI fm)), some (.int (nI (k + 1))), none, none] [] [we, [(a, .inr (13, [.int (oI (mEp r)), .int (nI (mLf r)), .int (nI (mLs r)), .int (oI (mRn r)), .ref nd, .ref ch, .ref ev]))], [(nd, .inl (g.2.1 0, 31, .inl f125))], [(ch, .inl (g.2.1 5, 16, .inr (.inr (.inr (.inr fc)))))], v0, v1] 0 0 from ?_)
                exact ih2 _ (by omega) (k + 1) f125 (by omega) (fun i hi => by rw [hf125 i hi, ← hgv, get_fs]) (fun i n h => by rw [← get_fs] at h; unfold fup at h; split at h; exact getN_b hTB9 m5 h; exact hgb i n h) rfl
              · skip
                have c81 := Classical.not_not.mp c81
                refine g_iconst (v := nI 1) (q := 85) B dX3_gets_84 rfl (by decide) ?_
                refine g_goto (tgt := 89) B dX3_gets_85 (by decide) ?_
                refine g_istore (q := 91) (lv2 := [some (.ref a), some (.ref e), some (.int (nI fm)), some (.int (nI k)), some (.int (nI 0)), some (.int (nI 1))]) B dX3_gets_89 rfl (Nat.le_of_ble_eq_true rfl) rfl ?_
                refine g_aload_n (q := 92) B dX3_gets_91 rfl rfl (rv_r _) ?_
                refine g_getN (q := 95) B (ci := 13) (k := 0) (j := 4) in_X5 rfl dX3_gets_92 rfl rfl (Nat.le_of_ble_eq_true rfl) q3124 rfl rfl ?_
                refine g_iload_n (q := 96) B dX3_gets_95 rfl rfl ?_
                refine g_iload (q := 98) B dX3_gets_96 rfl rfl ?_
                refine g_if_eq (tgt := 110) (q := 101) B dX3_gets_98 rfl (by decide) (iff_true_intro (by decide)) (fun _ => ?_) (fun z => absurd trivial z)
                refine g_iload (q := 112) B dX3_gets_110 rfl rfl ?_
                refine g_if_eq (tgt := 124) (q := 115) B dX3_gets_112 rfl (by decide) (iff_false_intro (by decide)) (fun z => z.elim) (fun _ => ?_)
                refine g_aload_n (q := 116) B dX3_gets_115 rfl rfl (rv_r _) ?_
                refine g_getN (q := 119) B (ci := 13) (k := 0) (j := 4) in_X5 rfl dX3_gets_116 rfl rfl (Nat.le_of_ble_eq_true rfl) q3124 rfl rfl ?_
                refine g_iload_n (q := 120) B dX3_gets_119 rfl rfl ?_
                refine g_iald (v := oI ((fun i => if i < k then getN r Ep fm i else mNd r i) k)) (q := 121) B (k := 1) dX3_gets_120 rfl rfl (vp_in_nI (by omega) (by omega)) (by rw [nI_clamp (by omega)]; exact hf9 _ (by omega)) ?_
                refine g_stk (y := .int (oI (mNd r k))) (by show Value.int (oI (if k < k then getN r Ep fm k else mNd r k)) = _; rw [hgk]) ?_
                refine (show Go g κ 121 [some (.ref a), some (.ref e), some (.int (nI fm)), some (.int (nI k)), some (.int (nI 0)), some (.int (nI 1))] [.int (oI (mNd r k)), .int (nI k), .ref nd] [[(a, .inr (13, [.int (oI (mEp r)), .int (nI (mLf r)), .int (nI (mLs r)), .int (oI (mRn r)), .ref nd, .ref ch, .ref ev]))], [(nd, .inl (g.2.1 0, 31, .inl f1))], [(ch, .inl (g.2.1 5, 16, .inr (.inr (.inr (.inr fc)))))], v0, v1, we] 0 0 from ?_)
                refine g_goto (tgt := 125) B dX3_gets_121 (by decide) ?_
                have hgv : getN r Ep fm k = mNd r k := by unfold getN; rw [if_neg (by rintro ⟨z1, z2, z3, z4⟩; first | exact c13 z1 | exact c24 z2 | exact c33 z3 | exact c41 z4), if_pos ⟨c56, c66, by first | exact c81 | rw [c81, ev66]⟩]
                refine g_iast (q := 126) (L2 := [[(a, .inr (13, [.int (oI (mEp r)), .int (nI (mLf r)), .int (nI (mLs r)), .int (oI (mRn r)), .ref nd, .ref ch, .ref ev]))], [(nd, .inl (g.2.1 0, 31, .inl (upd f1 k (oI (mNd r k)))))], [(ch, .inl (g.2.1 5, 16, .inr (.inr (.inr (.inr fc)))))], v0, v1, we]) B (k := 1) dX3_gets_125 rfl rfl (vp_in_nI (by omega) (by omega)) (by rw [nI_clamp (by omega)] <;> rfl) ?_
                obtain ⟨f125, ef125⟩ : ∃ f : Nat → Int32, f = upd f1 k (oI (mNd r k)) := ⟨_, rfl⟩
                have hf125 : ∀ i, i < 31 → f125 i = oI (fup (fun i => if i < k then getN r Ep fm i else mNd r i) k (mNd r k) i) := by rw [ef125]; exact upd_oI hf9 _ (mNd r k)
                rw [← ef125]
                refine (show Go g κ 126 [some (.ref a), some (.ref e), some (.int (nI fm)), some (.int (nI k)), some (.int (nI 0)), some (.int (nI 1))] [] [[(a, .inr (13, [.int (oI (mEp r)), .int (nI (mLf r)), .int (nI (mLs r)), .int (oI (mRn r)), .ref nd, .ref ch, .ref ev]))], [(nd, .inl (g.2.1 0, 31, .inl f125))], [(ch, .inl (g.2.1 5, 16, .inr (.inr (.inr (.inr fc)))))], v0, v1, we] 0 0 from ?_)
                refine g_iinc (v := nI (k + 1)) (q := 129) (lv2 := [some (.ref a), some (.ref e), some (.int (nI fm)), some (.int (nI (k + 1))), some (.int (nI 0)), some (.int (nI 1))]) B dX3_gets_126 rfl rfl (nI_add _ 1) (Nat.le_of_ble_eq_true rfl) rfl ?_
                refine g_goto (tgt := 2) B dX3_gets_129 (by decide) ?_
                refine g_fg 4 rfl ?_
                refine g_fg 5 rfl ?_
                refine g_pk [5, 0, 0, 0, 0, 0] rfl rfl ?_
                refine (show Go g κ 2 [some (.ref a), some (.ref e), some (.int (nI fm)), some (.int (nI (k + 1))), none, none] [] [we, [(a, .inr (13, [.int (oI (mEp r)), .int (nI (mLf r)), .int (nI (mLs r)), .int (oI (mRn r)), .ref nd, .ref ch, .ref ev]))], [(nd, .inl (g.2.1 0, 31, .inl f125))], [(ch, .inl (g.2.1 5, 16, .inr (.inr (.inr (.inr fc)))))], v0, v1] 0 0 from ?_)
                exact ih2 _ (by omega) (k + 1) f125 (by omega) (fun i hi => by rw [hf125 i hi, ← hgv, get_fs]) (fun i n h => by rw [← get_fs] at h; unfold fup at h; split at h; exact getN_b hTB9 m5 h; exact hgb i n h) rfl
        · skip
          have c24 := Classical.not_not.mp c24
          refine g_aload_n (q := 28) B dX3_gets_27 rfl rfl (rv_r _) ?_
          obtain ⟨ap_4, an_4, al_4, ac_4, aw_4, am_4, ak_4, fp_4, fn_4, fl_4, fc_4, fw_4, fm_4, fk_4, hE_4, hfp_4, hfn_4, hfl_4, hfc_4, hfw_4, hfm_4, hfk_4, hc_4_0, hc_4_1, hc_4_2, hc_4_3, hc_4_4, hc_4_5, hc_4_6, hc_4_7⟩ := EpP.at (hE)
          refine g_getNM (q := 31) B (ci := 16) (k := 5) (j := 8) in_X13 rfl dX3_gets_28 rfl rfl (hc_4_0) (Nat.le_of_ble_eq_true rfl) q3269 rfl rfl ?_
          refine g_iload_n (q := 32) B dX3_gets_31 rfl rfl ?_
          refine g_zaldM (v := nI (if (eWy Ep) k = true then 1 else 0)) (q := 33) B (k := 5) dX3_gets_32 rfl rfl (hc_4_5) (vp_in_nI (by omega) (by omega)) (by rw [nI_clamp (by omega)]; exact hfw_4 _ (by omega)) ?_
          refine g_if_eq (tgt := 48) (q := 36) B dX3_gets_33 rfl (by decide) (bo_eq) (fun c33 => ?_) (fun c33 => ?_)
          · skip
            refine g_iconst (v := nI 0) (q := 49) B dX3_gets_48 rfl (by decide) ?_
            refine g_istore (q := 51) (lv2 := [some (.ref a), some (.ref e), some (.int (nI fm)), some (.int (nI k)), some (.int (nI 0)), none]) B dX3_gets_49 rfl (Nat.le_of_ble_eq_true rfl) rfl ?_
            refine g_iload_n (q := 52) B dX3_gets_51 rfl rfl ?_
            refine g_aload_n (q := 53) B dX3_gets_52 rfl rfl (rv_r _) ?_
            refine g_callV (q := 56) (is := [5]) (kc2 := 0) (ks2 := 0) B [] (ct_X13_nodes_s g J (e := e) (r := Ep) (W0 := we)  (hE)) dX3_gets_53 rfl (rc_in B (ci := 16) rfl (k := 5) rfl (Sub.hm (hE) fun _ z => EpP.hm z)) rfl q3434 q3435 q3436 q137 q3437 rfl rfl moX13_nodes rfl rfl (by decide) (by decide) (Nat.le_of_ble_eq_true rfl) (Nat.le_of_ble_eq_true rfl) (Nat.le_of_ble_eq_true rfl) (fun _ _ hx => noX_x hx) (fun v53 L1 hp53 => ?_)
            obtain ⟨rfl, rfl⟩ := hp53
            refine (show Go g κ 56 [some (.ref a), some (.ref e), some (.int (nI fm)), some (.int (nI k)), some (.int (nI 0)), none] [.int (nI (2 * 2 ^ (eTr Ep).1 - 1)), .int (nI k)] [[(a, .inr (13, [.int (oI (mEp r)), .int (nI (mLf r)), .int (nI (mLs r)), .int (oI (mRn r)), .ref nd, .ref ch, .ref ev]))], [(nd, .inl (g.2.1 0, 31, .inl f1))], [(ch, .inl (g.2.1 5, 16, .inr (.inr (.inr (.inr fc)))))], v0, v1, we] 0 0 from ?_)
            refine g_icmp_ge (tgt := 88) (q := 59) B dX3_gets_56 rfl (by decide) (nI_leI (by omega) (by omega)) (fun c56 => ?_) (fun c56 => ?_)
            · skip
              have c56 : ¬ k < 2 * 2 ^ (eTr Ep).1 - 1 := by omega
              refine g_iconst (v := nI 0) (q := 89) B dX3_gets_88 rfl (by decide) ?_
              refine g_istore (q := 91) (lv2 := [some (.ref a), some (.ref e), some (.int (nI fm)), some (.int (nI k)), some (.int (nI 0)), some (.int (nI 0))]) B dX3_gets_89 rfl (Nat.le_of_ble_eq_true rfl) rfl ?_
              refine g_aload_n (q := 92) B dX3_gets_91 rfl rfl (rv_r _) ?_
              refine g_getN (q := 95) B (ci := 13) (k := 0) (j := 4) in_X5 rfl dX3_gets_92 rfl rfl (Nat.le_of_ble_eq_true rfl) q3124 rfl rfl ?_
              refine g_iload_n (q := 96) B dX3_gets_95 rfl rfl ?_
              refine g_iload (q := 98) B dX3_gets_96 rfl rfl ?_
              refine g_if_eq (tgt := 110) (q := 101) B dX3_gets_98 rfl (by decide) (iff_true_intro (by decide)) (fun _ => ?_) (fun z => absurd trivial z)
              refine g_iload (q := 112) B dX3_gets_110 rfl rfl ?_
              refine g_if_eq (tgt := 124) (q := 115) B dX3_gets_112 rfl (by decide) (iff_true_intro (by decide)) (fun _ => ?_) (fun z => absurd trivial z)
              refine g_iconst (v := -1) (q := 125) B dX3_gets_124 rfl (by decide) ?_
              have hgv : getN r Ep fm k = none := by unfold getN; rw [if_neg (by rintro ⟨z1, z2, z3, z4⟩; first | exact c13 z1 | exact c24 z2 | exact c33 z3 | exact c41 z4), if_neg (by rintro ⟨z1, z2, z3⟩; first | exact c56 z1 | exact z2 c66 | exact c81 z3 | exact c81 (z3.trans ev66))]
              refine g_iast (q := 126) (L2 := [[(a, .inr (13, [.int (oI (mEp r)), .int (nI (mLf r)), .int (nI (mLs r)), .int (oI (mRn r)), .ref nd, .ref ch, .ref ev]))], [(nd, .inl (g.2.1 0, 31, .inl (upd f1 k (-1))))], [(ch, .inl (g.2.1 5, 16, .inr (.inr (.inr (.inr fc)))))], v0, v1, we]) B (k := 1) dX3_gets_125 rfl rfl (vp_in_nI (by omega) (by omega)) (by rw [nI_clamp (by omega)] <;> rfl) ?_
              obtain ⟨f125, ef125⟩ : ∃ f : Nat → Int32, f = upd f1 k (-1) := ⟨_, rfl⟩
              have hf125 : ∀ i, i < 31 → f125 i = oI (fup (fun i => if i < k then getN r Ep fm i else mNd r i) k none i) := by rw [ef125]; exact upd_oI hf9 _ none
              rw [← ef125]
              refine (show Go g κ 126 [some (.ref a), some (.ref e), some (.int (nI fm)), some (.int (nI k)), some (.int (nI 0)), some (.int (nI 0))] [] [[(a, .inr (13, [.int (oI (mEp r)), .int (nI (mLf r)), .int (nI (mLs r)), .int (oI (mRn r)), .ref nd, .ref ch, .ref ev]))], [(nd, .inl (g.2.1 0, 31, .inl f125))], [(ch, .inl (g.2.1 5, 16, .inr (.inr (.inr (.inr fc)))))], v0, v1, we] 0 0 from ?_)
              refine g_iinc (v := nI (k + 1)) (q := 129) (lv2 := [some (.ref a), some (.ref e), some (.int (nI fm)), some (.int (nI (k + 1))), some (.int (nI 0)), some (.int (nI 0))]) B dX3_gets_126 rfl rfl (nI_add _ 1) (Nat.le_of_ble_eq_true rfl) rfl ?_
              refine g_goto (tgt := 2) B dX3_gets_129 (by decide) ?_
              refine g_fg 4 rfl ?_
              refine g_fg 5 rfl ?_
              refine g_pk [5, 0, 0, 0, 0, 0] rfl rfl ?_
              refine (show Go g κ 2 [some (.ref a), some (.ref e), some (.int (nI fm)), some (.int (nI (k + 1))), none, none] [] [we, [(a, .inr (13, [.int (oI (mEp r)), .int (nI (mLf r)), .int (nI (mLs r)), .int (oI (mRn r)), .ref nd, .ref ch, .ref ev]))], [(nd, .inl (g.2.1 0, 31, .inl f125))], [(ch, .inl (g.2.1 5, 16, .inr (.inr (.inr (.inr fc)))))], v0, v1] 0 0 from ?_)
              exact ih2 _ (by omega) (k + 1) f125 (by omega) (fun i hi => by rw [hf125 i hi, ← hgv, get_fs]) (fun i n h => by rw [← get_fs] at h; unfold fup at h; split at h; exact getN_b hTB9 m5 h; exact hgb i n h) rfl
            · skip
              have c56 : k < 2 * 2 ^ (eTr Ep).1 - 1 := by omega
              refine g_aload_n (q := 60) B dX3_gets_59 rfl rfl (rv_r _) ?_
              refine g_getNM (q := 63) B (ci := 16) (k := 5) (j := 5) in_X13 rfl dX3_gets_60 rfl rfl (hc_4_0) (Nat.le_of_ble_eq_true rfl) q3263 rfl rfl ?_
              refine g_iload_n (q := 64) B dX3_gets_63 rfl rfl ?_
              refine g_ialdM (v := oI (((eTr Ep).2.1) k)) (q := 65) B (k := 5) dX3_gets_64 rfl rfl (hc_4_2) (vp_in_nI (by omega) (by omega)) (by rw [nI_clamp (by omega)]; exact hfn_4 _ (by omega)) ?_
              refine g_iconst (v := -1) (q := 66) B dX3_gets_65 rfl (by decide) ?_
              refine g_icmp_eq (tgt := 88) (q := 69) B dX3_gets_66 rfl (by decide) (oI_n ((fun n h => by have := hE_4.2.1.2.1 _ _ h; omega))) (fun c66 => ?_) (fun c66 => ?_)
              · skip
                refine g_iconst (v := nI 0) (q := 89) B dX3_gets_88 rfl (by decide) ?_
                refine g_istore (q := 91) (lv2 := [some (.ref a), some (.ref e), some (.int (nI fm)), some (.int (nI k)), some (.int (nI 0)), some (.int (nI 0))]) B dX3_gets_89 rfl (Nat.le_of_ble_eq_true rfl) rfl ?_
                refine g_aload_n (q := 92) B dX3_gets_91 rfl rfl (rv_r _) ?_
                refine g_getN (q := 95) B (ci := 13) (k := 0) (j := 4) in_X5 rfl dX3_gets_92 rfl rfl (Nat.le_of_ble_eq_true rfl) q3124 rfl rfl ?_
                refine g_iload_n (q := 96) B dX3_gets_95 rfl rfl ?_
                refine g_iload (q := 98) B dX3_gets_96 rfl rfl ?_
                refine g_if_eq (tgt := 110) (q := 101) B dX3_gets_98 rfl (by decide) (iff_true_intro (by decide)) (fun _ => ?_) (fun z => absurd trivial z)
                refine g_iload (q := 112) B dX3_gets_110 rfl rfl ?_
                refine g_if_eq (tgt := 124) (q := 115) B dX3_gets_112 rfl (by decide) (iff_true_intro (by decide)) (fun _ => ?_) (fun z => absurd trivial z)
                refine g_iconst (v := -1) (q := 125) B dX3_gets_124 rfl (by decide) ?_
                have hgv : getN r Ep fm k = none := by unfold getN; rw [if_neg (by rintro ⟨z1, z2, z3, z4⟩; first | exact c13 z1 | exact c24 z2 | exact c33 z3 | exact c41 z4), if_neg (by rintro ⟨z1, z2, z3⟩; first | exact c56 z1 | exact z2 c66 | exact c81 z3 | exact c81 (z3.trans ev66))]
                refine g_iast (q := 126) (L2 := [[(a, .inr (13, [.int (oI (mEp r)), .int (nI (mLf r)), .int (nI (mLs r)), .int (oI (mRn r)), .ref nd, .ref ch, .ref ev]))], [(nd, .inl (g.2.1 0, 31, .inl (upd f1 k (-1))))], [(ch, .inl (g.2.1 5, 16, .inr (.inr (.inr (.inr fc)))))], v0, v1, we]) B (k := 1) dX3_gets_125 rfl rfl (vp_in_nI (by omega) (by omega)) (by rw [nI_clamp (by omega)] <;> rfl) ?_
                obtain ⟨f125, ef125⟩ : ∃ f : Nat → Int32, f = upd f1 k (-1) := ⟨_, rfl⟩
                have hf125 : ∀ i, i < 31 → f125 i = oI (fup (fun i => if i < k then getN r Ep fm i else mNd r i) k none i) := by rw [ef125]; exact upd_oI hf9 _ none
                rw [← ef125]
                refine (show Go g κ 126 [some (.ref a), some (.ref e), some (.int (nI fm)), some (.int (nI k)), some (.int (nI 0)), some (.int (nI 0))] [] [[(a, .inr (13, [.int (oI (mEp r)), .int (nI (mLf r)), .int (nI (mLs r)), .int (oI (mRn r)), .ref nd, .ref ch, .ref ev]))], [(nd, .inl (g.2.1 0, 31, .inl f125))], [(ch, .inl (g.2.1 5, 16, .inr (.inr (.inr (.inr fc)))))], v0, v1, we] 0 0 from ?_)
                refine g_iinc (v := nI (k + 1)) (q := 129) (lv2 := [some (.ref a), some (.ref e), some (.int (nI fm)), some (.int (nI (k + 1))), some (.int (nI 0)), some (.int (nI 0))]) B dX3_gets_126 rfl rfl (nI_add _ 1) (Nat.le_of_ble_eq_true rfl) rfl ?_
                refine g_goto (tgt := 2) B dX3_gets_129 (by decide) ?_
                refine g_fg 4 rfl ?_
                refine g_fg 5 rfl ?_
                refine g_pk [5, 0, 0, 0, 0, 0] rfl rfl ?_
                refine (show Go g κ 2 [some (.ref a), some (.ref e), some (.int (nI fm)), some (.int (nI (k + 1))), none, none] [] [we, [(a, .inr (13, [.int (oI (mEp r)), .int (nI (mLf r)), .int (nI (mLs r)), .int (oI (mRn r)), .ref nd, .ref ch, .ref ev]))], [(nd, .inl (g.2.1 0, 31, .inl f125))], [(ch, .inl (g.2.1 5, 16, .inr (.inr (.inr (.inr fc)))))], v0, v1] 0 0 from ?_)
                exact ih2 _ (by omega) (k + 1) f125 (by omega) (fun i hi => by rw [hf125 i hi, ← hgv, get_fs]) (fun i n h => by rw [← get_fs] at h; unfold fup at h; split at h; exact getN_b hTB9 m5 h; exact hgb i n h) rfl
              · skip
                obtain ⟨v66, ev66⟩ := Option.ne_none_iff_exists'.mp c66
                refine g_aload_n (q := 70) B dX3_gets_69 rfl rfl (rv_r _) ?_
                refine g_getN (q := 73) B (ci := 13) (k := 0) (j := 4) in_X5 rfl dX3_gets_70 rfl rfl (Nat.le_of_ble_eq_true rfl) q3124 rfl rfl ?_
                refine g_iload_n (q := 74) B dX3_gets_73 rfl rfl ?_
                refine g_iald (v := oI ((fun i => if i < k then getN r Ep fm i else mNd r i) k)) (q := 75) B (k := 1) dX3_gets_74 rfl rfl (vp_in_nI (by omega) (by omega)) (by rw [nI_clamp (by omega)]; exact hf9 _ (by omega)) ?_
                refine g_stk (y := .int (oI (mNd r k))) (by show Value.int (oI (if k < k then getN r Ep fm k else mNd r k)) = _; rw [hgk]) ?_
                refine (show Go g κ 75 [some (.ref a), some (.ref e), some (.int (nI fm)), some (.int (nI k)), some (.int (nI 0)), none] [.int (oI (mNd r k))] [[(a, .inr (13, [.int (oI (mEp r)), .int (nI (mLf r)), .int (nI (mLs r)), .int (oI (mRn r)), .ref nd, .ref ch, .ref ev]))], [(nd, .inl (g.2.1 0, 31, .inl f1))], [(ch, .inl (g.2.1 5, 16, .inr (.inr (.inr (.inr fc)))))], v0, v1, we] 0 0 from ?_)
                refine g_aload_n (q := 76) B dX3_gets_75 rfl rfl (rv_r _) ?_
                refine g_getNM (q := 79) B (ci := 16) (k := 5) (j := 5) in_X13 rfl dX3_gets_76 rfl rfl (hc_4_0) (Nat.le_of_ble_eq_true rfl) q3263 rfl rfl ?_
                refine g_iload_n (q := 80) B dX3_gets_79 rfl rfl ?_
                refine g_ialdM (v := oI (((eTr Ep).2.1) k)) (q := 81) B (k := 5) dX3_gets_80 rfl rfl (hc_4_2) (vp_in_nI (by omega) (by omega)) (by rw [nI_clamp (by omega)]; exact hfn_4 _ (by omega)) ?_
                refine g_stk (y := .int (nI v66)) (by rw [ev66]; rfl) ?_
                have hv66 := hTB9.2.1 _ _ ev66
                refine g_icmp_ne (tgt := 88) (q := 84) B dX3_gets_81 rfl (by decide) (oI_ne ((fun n h => by have := m5 _ _ h; omega)) (by omega)) (fun c81 => ?_) (fun c81 => ?_)
                · skip
                  refine g_iconst (v := nI 0) (q := 89) B dX3_gets_88 rfl (by decide) ?_
                  refine g_istore (q := 91) (lv2 := [some (.ref a), some (.ref e), some (.int (nI fm)), some (.int (nI k)), some (.int (nI 0)), some (.int (nI 0))]) B dX3_gets_89 rfl (Nat.le_of_ble_eq_true rfl) rfl ?_
                  refine g_aload_n (q := 92) B dX3_gets_91 rfl rfl (rv_r _) ?_
                  refine g_getN (q := 95) B (ci := 13) (k := 0) (j := 4) in_X5 rfl dX3_gets_92 rfl rfl (Nat.le_of_ble_eq_true rfl) q3124 rfl rfl ?_
                  refine g_iload_n (q := 96) B dX3_gets_95 rfl rfl ?_
                  refine g_iload (q := 98) B dX3_gets_96 rfl rfl ?_
                  refine g_if_eq (tgt := 110) (q := 101) B dX3_gets_98 rfl (by decide) (iff_true_intro (by decide)) (fun _ => ?_) (fun z => absurd trivial z)
                  refine g_iload (q := 112) B dX3_gets_110 rfl rfl ?_
                  refine g_if_eq (tgt := 124) (q := 115) B dX3_gets_112 rfl (by decide) (iff_true_intro (by decide)) (fun _ => ?_) (fun z => absurd trivial z)
                  refine g_iconst (v := -1) (q := 125) B dX3_gets_124 rfl (by decide) ?_
                  have hgv : getN r Ep fm k = none := by unfold getN; rw [if_neg (by rintro ⟨z1, z2, z3, z4⟩; first | exact c13 z1 | exact c24 z2 | exact c33 z3 | exact c41 z4), if_neg (by rintro ⟨z1, z2, z3⟩; first | exact c56 z1 | exact z2 c66 | exact c81 z3 | exact c81 (z3.trans ev66))]
                  refine g_iast (q := 126) (L2 := [[(a, .inr (13, [.int (oI (mEp r)), .int (nI (mLf r)), .int (nI (mLs r)), .int (oI (mRn r)), .ref nd, .ref ch, .ref ev]))], [(nd, .inl (g.2.1 0, 31, .inl (upd f1 k (-1))))], [(ch, .inl (g.2.1 5, 16, .inr (.inr (.inr (.inr fc)))))], v0, v1, we]) B (k := 1) dX3_gets_125 rfl rfl (vp_in_nI (by omega) (by omega)) (by rw [nI_clamp (by omega)] <;> rfl) ?_
                  obtain ⟨f125, ef125⟩ : ∃ f : Nat → Int32, f = upd f1 k (-1) := ⟨_, rfl⟩
                  have hf125 : ∀ i, i < 31 → f125 i = oI (fup (fun i => if i < k then getN r Ep fm i else mNd r i) k none i) := by rw [ef125]; exact upd_oI hf9 _ none
                  rw [← ef125]
                  refine (show Go g κ 126 [some (.ref a), some (.ref e), some (.int (nI fm)), some (.int (nI k)), some (.int (nI 0)), some (.int (nI 0))] [] [[(a, .inr (13, [.int (oI (mEp r)), .int (nI (mLf r)), .int (nI (mLs r)), .int (oI (mRn r)), .ref nd, .ref ch, .ref ev]))], [(nd, .inl (g.2.1 0, 31, .inl f125))], [(ch, .inl (g.2.1 5, 16, .inr (.inr (.inr (.inr fc)))))], v0, v1, we] 0 0 from ?_)
                  refine g_iinc (v := nI (k + 1)) (q := 129) (lv2 := [some (.ref a), some (.ref e), some (.int (nI fm)), some (.int (nI (k + 1))), some (.int (nI 0)), some (.int (nI 0))]) B dX3_gets_126 rfl rfl (nI_add _ 1) (Nat.le_of_ble_eq_true rfl) rfl ?_
                  refine g_goto (tgt := 2) B dX3_gets_129 (by decide) ?_
                  refine g_fg 4 rfl ?_
                  refine g_fg 5 rfl ?_
                  refine g_pk [5, 0, 0, 0, 0, 0] rfl rfl ?_
                  refine (show Go g κ 2 [some (.ref a), some (.ref e), some (.int (nI fm)), some (.int (nI (k + 1))), none, none] [] [we, [(a, .inr (13, [.int (oI (mEp r)), .int (nI (mLf r)), .int (nI (mLs r)), .int (oI (mRn r)), .ref nd, .ref ch, .ref ev]))], [(nd, .inl (g.2.1 0, 31, .inl f125))], [(ch, .inl (g.2.1 5, 16, .inr (.inr (.inr (.inr fc)))))], v0, v1] 0 0 from ?_)
                  exact ih2 _ (by omega) (k + 1) f125 (by omega) (fun i hi => by rw [hf125 i hi, ← hgv, get_fs]) (fun i n h => by rw [← get_fs] at h; unfold fup at h; split at h; exact getN_b hTB9 m5 h; exact hgb i n h) rfl
                · skip
                  have c81 := Classical.not_not.mp c81
                  refine g_iconst (v := nI 1) (q := 85) B dX3_gets_84 rfl (by decide) ?_
                  refine g_goto (tgt := 89) B dX3_gets_85 (by decide) ?_
                  refine g_istore (q := 91) (lv2 := [some (.ref a), some (.ref e), some (.int (nI fm)), some (.int (nI k)), some (.int (nI 0)), some (.int (nI 1))]) B dX3_gets_89 rfl (Nat.le_of_ble_eq_true rfl) rfl ?_
                  refine g_aload_n (q := 92) B dX3_gets_91 rfl rfl (rv_r _) ?_
                  refine g_getN (q := 95) B (ci := 13) (k := 0) (j := 4) in_X5 rfl dX3_gets_92 rfl rfl (Nat.le_of_ble_eq_true rfl) q3124 rfl rfl ?_
                  refine g_iload_n (q := 96) B dX3_gets_95 rfl rfl ?_
                  refine g_iload (q := 98) B dX3_gets_96 rfl rfl ?_
                  refine g_if_eq (tgt := 110) (q := 101) B dX3_gets_98 rfl (by decide) (iff_true_intro (by decide)) (fun _ => ?_) (fun z => absurd trivial z)
                  refine g_iload (q := 112) B dX3_gets_110 rfl rfl ?_
                  refine g_if_eq (tgt := 124) (q := 115) B dX3_gets_112 rfl (by decide) (iff_false_intro (by decide)) (fun z => z.elim) (fun _ => ?_)
                  refine g_aload_n (q := 116) B dX3_gets_115 rfl rfl (rv_r _) ?_
                  refine g_getN (q := 119) B (ci := 13) (k := 0) (j := 4) in_X5 rfl dX3_gets_116 rfl rfl (Nat.le_of_ble_eq_true rfl) q3124 rfl rfl ?_
                  refine g_iload_n (q := 120) B dX3_gets_119 rfl rfl ?_
                  refine g_iald (v := oI ((fun i => if i < k then getN r Ep fm i else mNd r i) k)) (q := 121) B (k := 1) dX3_gets_120 rfl rfl (vp_in_nI (by omega) (by omega)) (by rw [nI_clamp (by omega)]; exact hf9 _ (by omega)) ?_
                  refine g_stk (y := .int (oI (mNd r k))) (by show Value.int (oI (if k < k then getN r Ep fm k else mNd r k)) = _; rw [hgk]) ?_
                  refine (show Go g κ 121 [some (.ref a), some (.ref e), some (.int (nI fm)), some (.int (nI k)), some (.int (nI 0)), some (.int (nI 1))] [.int (oI (mNd r k)), .int (nI k), .ref nd] [[(a, .inr (13, [.int (oI (mEp r)), .int (nI (mLf r)), .int (nI (mLs r)), .int (oI (mRn r)), .ref nd, .ref ch, .ref ev]))], [(nd, .inl (g.2.1 0, 31, .inl f1))], [(ch, .inl (g.2.1 5, 16, .inr (.inr (.inr (.inr fc)))))], v0, v1, we] 0 0 from ?_)
                  refine g_goto (tgt := 125) B dX3_gets_121 (by decide) ?_
                  have hgv : getN r Ep fm k = mNd r k := by unfold getN; rw [if_neg (by rintro ⟨z1, z2, z3, z4⟩; first | exact c13 z1 | exact c24 z2 | exact c33 z3 | exact c41 z4), if_pos ⟨c56, c66, by first | exact c81 | rw [c81, ev66]⟩]
                  refine g_iast (q := 126) (L2 := [[(a, .inr (13, [.int (oI (mEp r)), .int (nI (mLf r)), .int (nI (mLs r)), .int (oI (mRn r)), .ref nd, .ref ch, .ref ev]))], [(nd, .inl (g.2.1 0, 31, .inl (upd f1 k (oI (mNd r k)))))], [(ch, .inl (g.2.1 5, 16, .inr (.inr (.inr (.inr fc)))))], v0, v1, we]) B (k := 1) dX3_gets_125 rfl rfl (vp_in_nI (by omega) (by omega)) (by rw [nI_clamp (by omega)] <;> rfl) ?_
                  obtain ⟨f125, ef125⟩ : ∃ f : Nat → Int32, f = upd f1 k (oI (mNd r k)) := ⟨_, rfl⟩
                  have hf125 : ∀ i, i < 31 → f125 i = oI (fup (fun i => if i < k then getN r Ep fm i else mNd r i) k (mNd r k) i) := by rw [ef125]; exact upd_oI hf9 _ (mNd r k)
                  rw [← ef125]
                  refine (show Go g κ 126 [some (.ref a), some (.ref e), some (.int (nI fm)), some (.int (nI k)), some (.int (nI 0)), some (.int (nI 1))] [] [[(a, .inr (13, [.int (oI (mEp r)), .int (nI (mLf r)), .int (nI (mLs r)), .int (oI (mRn r)), .ref nd, .ref ch, .ref ev]))], [(nd, .inl (g.2.1 0, 31, .inl f125))], [(ch, .inl (g.2.1 5, 16, .inr (.inr (.inr (.inr fc)))))], v0, v1, we] 0 0 from ?_)
                  refine g_iinc (v := nI (k + 1)) (q := 129) (lv2 := [some (.ref a), some (.ref e), some (.int (nI fm)), some (.int (nI (k + 1))), some (.int (nI 0)), some (.int (nI 1))]) B dX3_gets_126 rfl rfl (nI_add _ 1) (Nat.le_of_ble_eq_true rfl) rfl ?_
                  refine g_goto (tgt := 2) B dX3_gets_129 (by decide) ?_
                  refine g_fg 4 rfl ?_
                  refine g_fg 5 rfl ?_
                  refine g_pk [5, 0, 0, 0, 0, 0] rfl rfl ?_
                  refine (show Go g κ 2 [some (.ref a), some (.ref e), some (.int (nI fm)), some (.int (nI (k + 1))), none, none] [] [we, [(a, .inr (13, [.int (oI (mEp r)), .int (nI (mLf r)), .int (nI (mLs r)), .int (oI (mRn r)), .ref nd, .ref ch, .ref ev]))], [(nd, .inl (g.2.1 0, 31, .inl f125))], [(ch, .inl (g.2.1 5, 16, .inr (.inr (.inr (.inr fc)))))], v0, v1] 0 0 from ?_)
                  exact ih2 _ (by omega) (k + 1) f125 (by omega) (fun i hi => by rw [hf125 i hi, ← hgv, get_fs]) (fun i n h => by rw [← get_fs] at h; unfold fup at h; split at h; exact getN_b hTB9 m5 h; exact hgb i n h) rfl
          · skip
            have c33 := Classical.not_not.mp c33
            refine g_iload_n (q := 37) B dX3_gets_36 rfl rfl ?_
            refine g_callS (q := 40) (is := []) (kc2 := 0) (ks2 := 0) B [.int (nI k)] (ct_X3_level g J (n := k)  (by omega)) dX3_gets_37 rfl q3441 q3442 q85 q3443 rfl rfl moX3_level rfl rfl (by decide) (by decide) (Nat.le_of_ble_eq_true rfl) (Nat.le_of_ble_eq_true rfl) (Nat.le_of_ble_eq_true rfl) (fun _ _ hx => noX_x hx) (fun v37 L1 hp37 => ?_)
            obtain ⟨rfl, rfl⟩ := hp37
            refine (show Go g κ 40 [some (.ref a), some (.ref e), some (.int (nI fm)), some (.int (nI k)), none, none] [.int (nI (lev k))] [[(a, .inr (13, [.int (oI (mEp r)), .int (nI (mLf r)), .int (nI (mLs r)), .int (oI (mRn r)), .ref nd, .ref ch, .ref ev]))], [(nd, .inl (g.2.1 0, 31, .inl f1))], [(ch, .inl (g.2.1 5, 16, .inr (.inr (.inr (.inr fc)))))], v0, v1, we] 0 0 from ?_)
            refine g_iload_n (q := 41) B dX3_gets_40 rfl rfl ?_
            refine g_icmp_lt (Pp := ¬ fm ≤ lev k) (tgt := 48) (q := 44) B dX3_gets_41 rfl (by decide) (by rw [Int32.lt_iff_toInt_lt, nI_ti (by omega), nI_ti (by omega)]; omega) (fun c41 => ?_) (fun c41 => ?_)
            · skip
              refine g_iconst (v := nI 0) (q := 49) B dX3_gets_48 rfl (by decide) ?_
              refine g_istore (q := 51) (lv2 := [some (.ref a), some (.ref e), some (.int (nI fm)), some (.int (nI k)), some (.int (nI 0)), none]) B dX3_gets_49 rfl (Nat.le_of_ble_eq_true rfl) rfl ?_
              refine g_iload_n (q := 52) B dX3_gets_51 rfl rfl ?_
              refine g_aload_n (q := 53) B dX3_gets_52 rfl rfl (rv_r _) ?_
              refine g_callV (q := 56) (is := [5]) (kc2 := 0) (ks2 := 0) B [] (ct_X13_nodes_s g J (e := e) (r := Ep) (W0 := we)  (hE)) dX3_gets_53 rfl (rc_in B (ci := 16) rfl (k := 5) rfl (Sub.hm (hE) fun _ z => EpP.hm z)) rfl q3434 q3435 q3436 q137 q3437 rfl rfl moX13_nodes rfl rfl (by decide) (by decide) (Nat.le_of_ble_eq_true rfl) (Nat.le_of_ble_eq_true rfl) (Nat.le_of_ble_eq_true rfl) (fun _ _ hx => noX_x hx) (fun v53 L1 hp53 => ?_)
              obtain ⟨rfl, rfl⟩ := hp53
              refine (show Go g κ 56 [some (.ref a), some (.ref e), some (.int (nI fm)), some (.int (nI k)), some (.int (nI 0)), none] [.int (nI (2 * 2 ^ (eTr Ep).1 - 1)), .int (nI k)] [[(a, .inr (13, [.int (oI (mEp r)), .int (nI (mLf r)), .int (nI (mLs r)), .int (oI (mRn r)), .ref nd, .ref ch, .ref ev]))], [(nd, .inl (g.2.1 0, 31, .inl f1))], [(ch, .inl (g.2.1 5, 16, .inr (.inr (.inr (.inr fc)))))], v0, v1, we] 0 0 from ?_)
              refine g_icmp_ge (tgt := 88) (q := 59) B dX3_gets_56 rfl (by decide) (nI_leI (by omega) (by omega)) (fun c56 => ?_) (fun c56 => ?_)
              · skip
                have c56 : ¬ k < 2 * 2 ^ (eTr Ep).1 - 1 := by omega
                refine g_iconst (v := nI 0) (q := 89) B dX3_gets_88 rfl (by decide) ?_
                refine g_istore (q := 91) (lv2 := [some (.ref a), some (.ref e), some (.int (nI fm)), some (.int (nI k)), some (.int (nI 0)), some (.int (nI 0))]) B dX3_gets_89 rfl (Nat.le_of_ble_eq_true rfl) rfl ?_
                refine g_aload_n (q := 92) B dX3_gets_91 rfl rfl (rv_r _) ?_
                refine g_getN (q := 95) B (ci := 13) (k := 0) (j := 4) in_X5 rfl dX3_gets_92 rfl rfl (Nat.le_of_ble_eq_true rfl) q3124 rfl rfl ?_
                refine g_iload_n (q := 96) B dX3_gets_95 rfl rfl ?_
                refine g_iload (q := 98) B dX3_gets_96 rfl rfl ?_
                refine g_if_eq (tgt := 110) (q := 101) B dX3_gets_98 rfl (by decide) (iff_true_intro (by decide)) (fun _ => ?_) (fun z => absurd trivial z)
                refine g_iload (q := 112) B dX3_gets_110 rfl rfl ?_
                refine g_if_eq (tgt := 124) (q := 115) B dX3_gets_112 rfl (by decide) (iff_true_intro (by decide)) (fun _ => ?_) (fun z => absurd trivial z)
                refine g_iconst (v := -1) (q := 125) B dX3_gets_124 rfl (by decide) ?_
                have hgv : getN r Ep fm k = none := by unfold getN; rw [if_neg (by rintro ⟨z1, z2, z3, z4⟩; first | exact c13 z1 | exact c24 z2 | exact c33 z3 | exact c41 z4), if_neg (by rintro ⟨z1, z2, z3⟩; first | exact c56 z1 | exact z2 c66 | exact c81 z3 | exact c81 (z3.trans ev66))]
                refine g_iast (q := 126) (L2 := [[(a, .inr (13, [.int (oI (mEp r)), .int (nI (mLf r)), .int (nI (mLs r)), .int (oI (mRn r)), .ref nd, .ref ch, .ref ev]))], [(nd, .inl (g.2.1 0, 31, .inl (upd f1 k (-1))))], [(ch, .inl (g.2.1 5, 16, .inr (.inr (.inr (.inr fc)))))], v0, v1, we]) B (k := 1) dX3_gets_125 rfl rfl (vp_in_nI (by omega) (by omega)) (by rw [nI_clamp (by omega)] <;> rfl) ?_
                obtain ⟨f125, ef125⟩ : ∃ f : Nat → Int32, f = upd f1 k (-1) := ⟨_, rfl⟩
                have hf125 : ∀ i, i < 31 → f125 i = oI (fup (fun i => if i < k then getN r Ep fm i else mNd r i) k none i) := by rw [ef125]; exact upd_oI hf9 _ none
                rw [← ef125]
                refine (show Go g κ 126 [some (.ref a), some (.ref e), some (.int (nI fm)), some (.int (nI k)), some (.int (nI 0)), some (.int (nI 0))] [] [[(a, .inr (13, [.int (oI (mEp r)), .int (nI (mLf r)), .int (nI (mLs r)), .int (oI (mRn r)), .ref nd, .ref ch, .ref ev]))], [(nd, .inl (g.2.1 0, 31, .inl f125))], [(ch, .inl (g.2.1 5, 16, .inr (.inr (.inr (.inr fc)))))], v0, v1, we] 0 0 from ?_)
                refine g_iinc (v := nI (k + 1)) (q := 129) (lv2 := [some (.ref a), some (.ref e), some (.int (nI fm)), some (.int (nI (k + 1))), some (.int (nI 0)), some (.int (nI 0))]) B dX3_gets_126 rfl rfl (nI_add _ 1) (Nat.le_of_ble_eq_true rfl) rfl ?_
                refine g_goto (tgt := 2) B dX3_gets_129 (by decide) ?_
                refine g_fg 4 rfl ?_
                refine g_fg 5 rfl ?_
                refine g_pk [5, 0, 0, 0, 0, 0] rfl rfl ?_
                refine (show Go g κ 2 [some (.ref a), some (.ref e), some (.int (nI fm)), some (.int (nI (k + 1))), none, none] [] [we, [(a, .inr (13, [.int (oI (mEp r)), .int (nI (mLf r)), .int (nI (mLs r)), .int (oI (mRn r)), .ref nd, .ref ch, .ref ev]))], [(nd, .inl (g.2.1 0, 31, .inl f125))], [(ch, .inl (g.2.1 5, 16, .inr (.inr (.inr (.inr fc)))))], v0, v1] 0 0 from ?_)
                exact ih2 _ (by omega) (k + 1) f125 (by omega) (fun i hi => by rw [hf125 i hi, ← hgv, get_fs]) (fun i n h => by rw [← get_fs] at h; unfold fup at h; split at h; exact getN_b hTB9 m5 h; exact hgb i n h) rfl
              · skip
                have c56 : k < 2 * 2 ^ (eTr Ep).1 - 1 := by omega
                refine g_aload_n (q := 60) B dX3_gets_59 rfl rfl (rv_r _) ?_
                refine g_getNM (q := 63) B (ci := 16) (k := 5) (j := 5) in_X13 rfl dX3_gets_60 rfl rfl (hc_4_0) (Nat.le_of_ble_eq_true rfl) q3263 rfl rfl ?_
                refine g_iload_n (q := 64) B dX3_gets_63 rfl rfl ?_
                refine g_ialdM (v := oI (((eTr Ep).2.1) k)) (q := 65) B (k := 5) dX3_gets_64 rfl rfl (hc_4_2) (vp_in_nI (by omega) (by omega)) (by rw [nI_clamp (by omega)]; exact hfn_4 _ (by omega)) ?_
                refine g_iconst (v := -1) (q := 66) B dX3_gets_65 rfl (by decide) ?_
                refine g_icmp_eq (tgt := 88) (q := 69) B dX3_gets_66 rfl (by decide) (oI_n ((fun n h => by have := hE_4.2.1.2.1 _ _ h; omega))) (fun c66 => ?_) (fun c66 => ?_)
                · skip
                  refine g_iconst (v := nI 0) (q := 89) B dX3_gets_88 rfl (by decide) ?_
                  refine g_istore (q := 91) (lv2 := [some (.ref a), some (.ref e), some (.int (nI fm)), some (.int (nI k)), some (.int (nI 0)), some (.int (nI 0))]) B dX3_gets_89 rfl (Nat.le_of_ble_eq_true rfl) rfl ?_
                  refine g_aload_n (q := 92) B dX3_gets_91 rfl rfl (rv_r _) ?_
                  refine g_getN (q := 95) B (ci := 13) (k := 0) (j := 4) in_X5 rfl dX3_gets_92 rfl rfl (Nat.le_of_ble_eq_true rfl) q3124 rfl rfl ?_
                  refine g_iload_n (q := 96) B dX3_gets_95 rfl rfl ?_
                  refine g_iload (q := 98) B dX3_gets_96 rfl rfl ?_
                  refine g_if_eq (tgt := 110) (q := 101) B dX3_gets_98 rfl (by decide) (iff_true_intro (by decide)) (fun _ => ?_) (fun z => absurd trivial z)
                  refine g_iload (q := 112) B dX3_gets_110 rfl rfl ?_
                  refine g_if_eq (tgt := 124) (q := 115) B dX3_gets_112 rfl (by decide) (iff_true_intro (by decide)) (fun _ => ?_) (fun z => absurd trivial z)
                  refine g_iconst (v := -1) (q := 125) B dX3_gets_124 rfl (by decide) ?_
                  have hgv : getN r Ep fm k = none := by unfold getN; rw [if_neg (by rintro ⟨z1, z2, z3, z4⟩; first | exact c13 z1 | exact c24 z2 | exact c33 z3 | exact c41 z4), if_neg (by rintro ⟨z1, z2, z3⟩; first | exact c56 z1 | exact z2 c66 | exact c81 z3 | exact c81 (z3.trans ev66))]
                  refine g_iast (q := 126) (L2 := [[(a, .inr (13, [.int (oI (mEp r)), .int (nI (mLf r)), .int (nI (mLs r)), .int (oI (mRn r)), .ref nd, .ref ch, .ref ev]))], [(nd, .inl (g.2.1 0, 31, .inl (upd f1 k (-1))))], [(ch, .inl (g.2.1 5, 16, .inr (.inr (.inr (.inr fc)))))], v0, v1, we]) B (k := 1) dX3_gets_125 rfl rfl (vp_in_nI (by omega) (by omega)) (by rw [nI_clamp (by omega)] <;> rfl) ?_
                  obtain ⟨f125, ef125⟩ : ∃ f : Nat → Int32, f = upd f1 k (-1) := ⟨_, rfl⟩
                  have hf125 : ∀ i, i < 31 → f125 i = oI (fup (fun i => if i < k then getN r Ep fm i else mNd r i) k none i) := by rw [ef125]; exact upd_oI hf9 _ none
                  rw [← ef125]
                  refine (show Go g κ 126 [some (.ref a), some (.ref e), some (.int (nI fm)), some (.int (nI k)), some (.int (nI 0)), some (.int (nI 0))] [] [[(a, .inr (13, [.int (oI (mEp r)), .int (nI (mLf r)), .int (nI (mLs r)), .int (oI (mRn r)), .ref nd, .ref ch, .ref ev]))], [(nd, .inl (g.2.1 0, 31, .inl f125))], [(ch, .inl (g.2.1 5, 16, .inr (.inr (.inr (.inr fc)))))], v0, v1, we] 0 0 from ?_)
                  refine g_iinc (v := nI (k + 1)) (q := 129) (lv2 := [some (.ref a), some (.ref e), some (.int (nI fm)), some (.int (nI (k + 1))), some (.int (nI 0)), some (.int (nI 0))]) B dX3_gets_126 rfl rfl (nI_add _ 1) (Nat.le_of_ble_eq_true rfl) rfl ?_
                  refine g_goto (tgt := 2) B dX3_gets_129 (by decide) ?_
                  refine g_fg 4 rfl ?_
                  refine g_fg 5 rfl ?_
                  refine g_pk [5, 0, 0, 0, 0, 0] rfl rfl ?_
                  refine (show Go g κ 2 [some (.ref a), some (.ref e), some (.int (nI fm)), some (.int (nI (k + 1))), none, none] [] [we, [(a, .inr (13, [.int (oI (mEp r)), .int (nI (mLf r)), .int (nI (mLs r)), .int (oI (mRn r)), .ref nd, .ref ch, .ref ev]))], [(nd, .inl (g.2.1 0, 31, .inl f125))], [(ch, .inl (g.2.1 5, 16, .inr (.inr (.inr (.inr fc)))))], v0, v1] 0 0 from ?_)
                  exact ih2 _ (by omega) (k + 1) f125 (by omega) (fun i hi => by rw [hf125 i hi, ← hgv, get_fs]) (fun i n h => by rw [← get_fs] at h; unfold fup at h; split at h; exact getN_b hTB9 m5 h; exact hgb i n h) rfl
                · skip
                  obtain ⟨v66, ev66⟩ := Option.ne_none_iff_exists'.mp c66
                  refine g_aload_n (q := 70) B dX3_gets_69 rfl rfl (rv_r _) ?_
                  refine g_getN (q := 73) B (ci := 13) (k := 0) (j := 4) in_X5 rfl dX3_gets_70 rfl rfl (Nat.le_of_ble_eq_true rfl) q3124 rfl rfl ?_
                  refine g_iload_n (q := 74) B dX3_gets_73 rfl rfl ?_
                  refine g_iald (v := oI ((fun i => if i < k then getN r Ep fm i else mNd r i) k)) (q := 75) B (k := 1) dX3_gets_74 rfl rfl (vp_in_nI (by omega) (by omega)) (by rw [nI_clamp (by omega)]; exact hf9 _ (by omega)) ?_
                  refine g_stk (y := .int (oI (mNd r k))) (by show Value.int (oI (if k < k then getN r Ep fm k else mNd r k)) = _; rw [hgk]) ?_
                  refine (show Go g κ 75 [some (.ref a), some (.ref e), some (.int (nI fm)), some (.int (nI k)), some (.int (nI 0)), none] [.int (oI (mNd r k))] [[(a, .inr (13, [.int (oI (mEp r)), .int (nI (mLf r)), .int (nI (mLs r)), .int (oI (mRn r)), .ref nd, .ref ch, .ref ev]))], [(nd, .inl (g.2.1 0, 31, .inl f1))], [(ch, .inl (g.2.1 5, 16, .inr (.inr (.inr (.inr fc)))))], v0, v1, we] 0 0 from ?_)
                  refine g_aload_n (q := 76) B dX3_gets_75 rfl rfl (rv_r _) ?_
                  refine g_getNM (q := 79) B (ci := 16) (k := 5) (j := 5) in_X13 rfl dX3_gets_76 rfl rfl (hc_4_0) (Nat.le_of_ble_eq_true rfl) q3263 rfl rfl ?_
                  refine g_iload_n (q := 80) B dX3_gets_79 rfl rfl ?_
                  refine g_ialdM (v := oI (((eTr Ep).2.1) k)) (q := 81) B (k := 5) dX3_gets_80 rfl rfl (hc_4_2) (vp_in_nI (by omega) (by omega)) (by rw [nI_clamp (by omega)]; exact hfn_4 _ (by omega)) ?_
                  refine g_stk (y := .int (nI v66)) (by rw [ev66]; rfl) ?_
                  have hv66 := hTB9.2.1 _ _ ev66
                  refine g_icmp_ne (tgt := 88) (q := 84) B dX3_gets_81 rfl (by decide) (oI_ne ((fun n h => by have := m5 _ _ h; omega)) (by omega)) (fun c81 => ?_) (fun c81 => ?_)
                  · skip
                    refine g_iconst (v := nI 0) (q := 89) B dX3_gets_88 rfl (by decide) ?_
                    refine g_istore (q := 91) (lv2 := [some (.ref a), some (.ref e), some (.int (nI fm)), some (.int (nI k)), some (.int (nI 0)), some (.int (nI 0))]) B dX3_gets_89 rfl (Nat.le_of_ble_eq_true rfl) rfl ?_
                    refine g_aload_n (q := 92) B dX3_gets_91 rfl rfl (rv_r _) ?_
                    refine g_getN (q := 95) B (ci := 13) (k := 0) (j := 4) in_X5 rfl dX3_gets_92 rfl rfl (Nat.le_of_ble_eq_true rfl) q3124 rfl rfl ?_
                    refine g_iload_n (q := 96) B dX3_gets_95 rfl rfl ?_
                    refine g_iload (q := 98) B dX3_gets_96 rfl rfl ?_
                    refine g_if_eq (tgt := 110) (q := 101) B dX3_gets_98 rfl (by decide) (iff_true_intro (by decide)) (fun _ => ?_) (fun z => absurd trivial z)
                    refine g_iload (q := 112) B dX3_gets_110 rfl rfl ?_
                    refine g_if_eq (tgt := 124) (q := 115) B dX3_gets_112 rfl (by decide) (iff_true_intro (by decide)) (fun _ => ?_) (fun z => absurd trivial z)
                    refine g_iconst (v := -1) (q := 125) B dX3_gets_124 rfl (by decide) ?_
                    have hgv : getN r Ep fm k = none := by unfold getN; rw [if_neg (by rintro ⟨z1, z2, z3, z4⟩; first | exact c13 z1 | exact c24 z2 | exact c33 z3 | exact c41 z4), if_neg (by rintro ⟨z1, z2, z3⟩; first | exact c56 z1 | exact z2 c66 | exact c81 z3 | exact c81 (z3.trans ev66))]
                    refine g_iast (q := 126) (L2 := [[(a, .inr (13, [.int (oI (mEp r)), .int (nI (mLf r)), .int (nI (mLs r)), .int (oI (mRn r)), .ref nd, .ref ch, .ref ev]))], [(nd, .inl (g.2.1 0, 31, .inl (upd f1 k (-1))))], [(ch, .inl (g.2.1 5, 16, .inr (.inr (.inr (.inr fc)))))], v0, v1, we]) B (k := 1) dX3_gets_125 rfl rfl (vp_in_nI (by omega) (by omega)) (by rw [nI_clamp (by omega)] <;> rfl) ?_
                    obtain ⟨f125, ef125⟩ : ∃ f : Nat → Int32, f = upd f1 k (-1) := ⟨_, rfl⟩
                    have hf125 : ∀ i, i < 31 → f125 i = oI (fup (fun i => if i < k then getN r Ep fm i else mNd r i) k none i) := by rw [ef125]; exact upd_oI hf9 _ none
                    rw [← ef125]
                    refine (show Go g κ 126 [some (.ref a), some (.ref e), some (.int (nI fm)), some (.int (nI k)), some (.int (nI 0)), some (.int (nI 0))] [] [[(a, .inr (13, [.int (oI (mEp r)), .int (nI (mLf r)), .int (nI (mLs r)), .int (oI (mRn r)), .ref nd, .ref ch, .ref ev]))], [(nd, .inl (g.2.1 0, 31, .inl f125))], [(ch, .inl (g.2.1 5, 16, .inr (.inr (.inr (.inr fc)))))], v0, v1, we] 0 0 from ?_)
                    refine g_iinc (v := nI (k + 1)) (q := 129) (lv2 := [some (.ref a), some (.ref e), some (.int (nI fm)), some (.int (nI (k + 1))), some (.int (nI 0)), some (.int (nI 0))]) B dX3_gets_126 rfl rfl (nI_add _ 1) (Nat.le_of_ble_eq_true rfl) rfl ?_
                    refine g_goto (tgt := 2) B dX3_gets_129 (by decide) ?_
                    refine g_fg 4 rfl ?_
                    refine g_fg 5 rfl ?_
                    refine g_pk [5, 0, 0, 0, 0, 0] rfl rfl ?_
                    refine (show Go g κ 2 [some (.ref a), some (.ref e), some (.int (nI fm)), some (.int (nI (k + 1))), none, none] [] [we, [(a, .inr (13, [.int (oI (mEp r)), .int (nI (mLf r)), .int (nI (mLs r)), .int (oI (mRn r)), .ref nd, .ref ch, .ref ev]))], [(nd, .inl (g.2.1 0, 31, .inl f125))], [(ch, .inl (g.2.1 5, 16, .inr (.inr (.inr (.inr fc)))))], v0, v1] 0 0 from ?_)
                    exact ih2 _ (by omega) (k + 1) f125 (by omega) (fun i hi => by rw [hf125 i hi, ← hgv, get_fs]) (fun i n h => by rw [← get_fs] at h; unfold fup at h; split at h; exact getN_b hTB9 m5 h; exact hgb i n h) rfl
                  · skip
                    have c81 := Classical.not_not.mp c81
                    refine g_iconst (v := nI 1) (q := 85) B dX3_gets_84 rfl (by decide) ?_
                    refine g_goto (tgt := 89) B dX3_gets_85 (by decide) ?_
                    refine g_istore (q := 91) (lv2 := [some (.ref a), some (.ref e), some (.int (nI fm)), some (.int (nI k)), some (.int (nI 0)), some (.int (nI 1))]) B dX3_gets_89 rfl (Nat.le_of_ble_eq_true rfl) rfl ?_
                    refine g_aload_n (q := 92) B dX3_gets_91 rfl rfl (rv_r _) ?_
                    refine g_getN (q := 95) B (ci := 13) (k := 0) (j := 4) in_X5 rfl dX3_gets_92 rfl rfl (Nat.le_of_ble_eq_true rfl) q3124 rfl rfl ?_
                    refine g_iload_n (q := 96) B dX3_gets_95 rfl rfl ?_
                    refine g_iload (q := 98) B dX3_gets_96 rfl rfl ?_
                    refine g_if_eq (tgt := 110) (q := 101) B dX3_gets_98 rfl (by decide) (iff_true_intro (by decide)) (fun _ => ?_) (fun z => absurd trivial z)
                    refine g_iload (q := 112) B dX3_gets_110 rfl rfl ?_
                    refine g_if_eq (tgt := 124) (q := 115) B dX3_gets_112 rfl (by decide) (iff_false_intro (by decide)) (fun z => z.elim) (fun _ => ?_)
                    refine g_aload_n (q := 116) B dX3_gets_115 rfl rfl (rv_r _) ?_
                    refine g_getN (q := 119) B (ci := 13) (k := 0) (j := 4) in_X5 rfl dX3_gets_116 rfl rfl (Nat.le_of_ble_eq_true rfl) q3124 rfl rfl ?_
                    refine g_iload_n (q := 120) B dX3_gets_119 rfl rfl ?_
                    refine g_iald (v := oI ((fun i => if i < k then getN r Ep fm i else mNd r i) k)) (q := 121) B (k := 1) dX3_gets_120 rfl rfl (vp_in_nI (by omega) (by omega)) (by rw [nI_clamp (by omega)]; exact hf9 _ (by omega)) ?_
                    refine g_stk (y := .int (oI (mNd r k))) (by show Value.int (oI (if k < k then getN r Ep fm k else mNd r k)) = _; rw [hgk]) ?_
                    refine (show Go g κ 121 [some (.ref a), some (.ref e), some (.int (nI fm)), some (.int (nI k)), some (.int (nI 0)), some (.int (nI 1))] [.int (oI (mNd r k)), .int (nI k), .ref nd] [[(a, .inr (13, [.int (oI (mEp r)), .int (nI (mLf r)), .int (nI (mLs r)), .int (oI (mRn r)), .ref nd, .ref ch, .ref ev]))], [(nd, .inl (g.2.1 0, 31, .inl f1))], [(ch, .inl (g.2.1 5, 16, .inr (.inr (.inr (.inr fc)))))], v0, v1, we] 0 0 from ?_)
                    refine g_goto (tgt := 125) B dX3_gets_121 (by decide) ?_
                    have hgv : getN r Ep fm k = mNd r k := by unfold getN; rw [if_neg (by rintro ⟨z1, z2, z3, z4⟩; first | exact c13 z1 | exact c24 z2 | exact c33 z3 | exact c41 z4), if_pos ⟨c56, c66, by first | exact c81 | rw [c81, ev66]⟩]
                    refine g_iast (q := 126) (L2 := [[(a, .inr (13, [.int (oI (mEp r)), .int (nI (mLf r)), .int (nI (mLs r)), .int (oI (mRn r)), .ref nd, .ref ch, .ref ev]))], [(nd, .inl (g.2.1 0, 31, .inl (upd f1 k (oI (mNd r k)))))], [(ch, .inl (g.2.1 5, 16, .inr (.inr (.inr (.inr fc)))))], v0, v1, we]) B (k := 1) dX3_gets_125 rfl rfl (vp_in_nI (by omega) (by omega)) (by rw [nI_clamp (by omega)] <;> rfl) ?_
                    obtain ⟨f125, ef125⟩ : ∃ f : Nat → Int32, f = upd f1 k (oI (mNd r k)) := ⟨_, rfl⟩
                    have hf125 : ∀ i, i < 31 → f125 i = oI (fup (fun i => if i < k then getN r Ep fm i else mNd r i) k (mNd r k) i) := by rw [ef125]; exact upd_oI hf9 _ (mNd r k)
                    rw [← ef125]
                    refine (show Go g κ 126 [some (.ref a), some (.ref e), some (.int (nI fm)), some (.int (nI k)), some (.int (nI 0)), some (.int (nI 1))] [] [[(a, .inr (13, [.int (oI (mEp r)), .int (nI (mLf r)), .int (nI (mLs r)), .int (oI (mRn r)), .ref nd, .ref ch, .ref ev]))], [(nd, .inl (g.2.1 0, 31, .inl f125))], [(ch, .inl (g.2.1 5, 16, .inr (.inr (.inr (.inr fc)))))], v0, v1, we] 0 0 from ?_)
                    refine g_iinc (v := nI (k + 1)) (q := 129) (lv2 := [some (.ref a), some (.ref e), some (.int (nI fm)), some (.int (nI (k + 1))), some (.int (nI 0)), some (.int (nI 1))]) B dX3_gets_126 rfl rfl (nI_add _ 1) (Nat.le_of_ble_eq_true rfl) rfl ?_
                    refine g_goto (tgt := 2) B dX3_gets_129 (by decide) ?_
                    refine g_fg 4 rfl ?_
                    refine g_fg 5 rfl ?_
                    refine g_pk [5, 0, 0, 0, 0, 0] rfl rfl ?_
                    refine (show Go g κ 2 [some (.ref a), some (.ref e), some (.int (nI fm)), some (.int (nI (k + 1))), none, none] [] [we, [(a, .inr (13, [.int (oI (mEp r)), .int (nI (mLf r)), .int (nI (mLs r)), .int (oI (mRn r)), .ref nd, .ref ch, .ref ev]))], [(nd, .inl (g.2.1 0, 31, .inl f125))], [(ch, .inl (g.2.1 5, 16, .inr (.inr (.inr (.inr fc)))))], v0, v1] 0 0 from ?_)
                    exact ih2 _ (by omega) (k + 1) f125 (by omega) (fun i hi => by rw [hf125 i hi, ← hgv, get_fs]) (fun i n h => by rw [← get_fs] at h; unfold fup at h; split at h; exact getN_b hTB9 m5 h; exact hgb i n h) rfl
            · skip
              have c41 := Classical.not_not.mp c41
              refine g_iconst (v := nI 1) (q := 45) B dX3_gets_44 rfl (by decide) ?_
              refine g_goto (tgt := 49) B dX3_gets_45 (by decide) ?_
              refine g_istore (q := 51) (lv2 := [some (.ref a), some (.ref e), some (.int (nI fm)), some (.int (nI k)), some (.int (nI 1)), none]) B dX3_gets_49 rfl (Nat.le_of_ble_eq_true rfl) rfl ?_
              refine g_iload_n (q := 52) B dX3_gets_51 rfl rfl ?_
              refine g_aload_n (q := 53) B dX3_gets_52 rfl rfl (rv_r _) ?_
              refine g_callV (q := 56) (is := [5]) (kc2 := 0) (ks2 := 0) B [] (ct_X13_nodes_s g J (e := e) (r := Ep) (W0 := we)  (hE)) dX3_gets_53 rfl (rc_in B (ci := 16) rfl (k := 5) rfl (Sub.hm (hE) fun _ z => EpP.hm z)) rfl q3434 q3435 q3436 q137 q3437 rfl rfl moX13_nodes rfl rfl (by decide) (by decide) (Nat.le_of_ble_eq_true rfl) (Nat.le_of_ble_eq_true rfl) (Nat.le_of_ble_eq_true rfl) (fun _ _ hx => noX_x hx) (fun v53 L1 hp53 => ?_)
              obtain ⟨rfl, rfl⟩ := hp53
              refine (show Go g κ 56 [some (.ref a), some (.ref e), some (.int (nI fm)), some (.int (nI k)), some (.int (nI 1)), none] [.int (nI (2 * 2 ^ (eTr Ep).1 - 1)), .int (nI k)] [[(a, .inr (13, [.int (oI (mEp r)), .int (nI (mLf r)), .int (nI (mLs r)), .int (oI (mRn r)), .ref nd, .ref ch, .ref ev]))], [(nd, .inl (g.2.1 0, 31, .inl f1))], [(ch, .inl (g.2.1 5, 16, .inr (.inr (.inr (.inr fc)))))], v0, v1, we] 0 0 from ?_)
              refine g_icmp_ge (tgt := 88) (q := 59) B dX3_gets_56 rfl (by decide) (nI_leI (by omega) (by omega)) (fun c56 => ?_) (fun c56 => ?_)
              · skip
                have c56 : ¬ k < 2 * 2 ^ (eTr Ep).1 - 1 := by omega
                refine g_iconst (v := nI 0) (q := 89) B dX3_gets_88 rfl (by decide) ?_
                refine g_istore (q := 91) (lv2 := [some (.ref a), some (.ref e), some (.int (nI fm)), some (.int (nI k)), some (.int (nI 1)), some (.int (nI 0))]) B dX3_gets_89 rfl (Nat.le_of_ble_eq_true rfl) rfl ?_
                refine g_aload_n (q := 92) B dX3_gets_91 rfl rfl (rv_r _) ?_
                refine g_getN (q := 95) B (ci := 13) (k := 0) (j := 4) in_X5 rfl dX3_gets_92 rfl rfl (Nat.le_of_ble_eq_true rfl) q3124 rfl rfl ?_
                refine g_iload_n (q := 96) B dX3_gets_95 rfl rfl ?_
                refine g_iload (q := 98) B dX3_gets_96 rfl rfl ?_
                refine g_if_eq (tgt := 110) (q := 101) B dX3_gets_98 rfl (by decide) (iff_false_intro (by decide)) (fun z => z.elim) (fun _ => ?_)
                refine g_aload_n (q := 102) B dX3_gets_101 rfl rfl (rv_r _) ?_
                refine g_getNM (q := 105) B (ci := 16) (k := 5) (j := 5) in_X13 rfl dX3_gets_102 rfl rfl (hc_4_0) (Nat.le_of_ble_eq_true rfl) q3263 rfl rfl ?_
                refine g_iload_n (q := 106) B dX3_gets_105 rfl rfl ?_
                refine g_ialdM (v := oI (((eTr Ep).2.1) k)) (q := 107) B (k := 5) dX3_gets_106 rfl rfl (hc_4_2) (vp_in_nI (by omega) (by omega)) (by rw [nI_clamp (by omega)]; exact hfn_4 _ (by omega)) ?_
                refine g_goto (tgt := 125) B dX3_gets_107 (by decide) ?_
                have hgv : getN r Ep fm k = ((eTr Ep).2.1) k := by unfold getN; rw [if_pos ⟨c13, c24, c33, c41⟩]; first | done | exact c66 | exact ev66
                refine g_iast (q := 126) (L2 := [[(a, .inr (13, [.int (oI (mEp r)), .int (nI (mLf r)), .int (nI (mLs r)), .int (oI (mRn r)), .ref nd, .ref ch, .ref ev]))], [(nd, .inl (g.2.1 0, 31, .inl (upd f1 k (oI (((eTr Ep).2.1) k)))))], [(ch, .inl (g.2.1 5, 16, .inr (.inr (.inr (.inr fc)))))], v0, v1, we]) B (k := 1) dX3_gets_125 rfl rfl (vp_in_nI (by omega) (by omega)) (by rw [nI_clamp (by omega)] <;> rfl) ?_
                obtain ⟨f125, ef125⟩ : ∃ f : Nat → Int32, f = upd f1 k (oI (((eTr Ep).2.1) k)) := ⟨_, rfl⟩
                have hf125 : ∀ i, i < 31 → f125 i = oI (fup (fun i => if i < k then getN r Ep fm i else mNd r i) k (((eTr Ep).2.1) k) i) := by rw [ef125]; exact upd_oI hf9 _ (((eTr Ep).2.1) k)
                rw [← ef125]
                refine (show Go g κ 126 [some (.ref a), some (.ref e), some (.int (nI fm)), some (.int (nI k)), some (.int (nI 1)), some (.int (nI 0))] [] [[(a, .inr (13, [.int (oI (mEp r)), .int (nI (mLf r)), .int (nI (mLs r)), .int (oI (mRn r)), .ref nd, .ref ch, .ref ev]))], [(nd, .inl (g.2.1 0, 31, .inl f125))], [(ch, .inl (g.2.1 5, 16, .inr (.inr (.inr (.inr fc)))))], v0, v1, we] 0 0 from ?_)
                refine g_iinc (v := nI (k + 1)) (q := 129) (lv2 := [some (.ref a), some (.ref e), some (.int (nI fm)), some (.int (nI (k + 1))), some (.int (nI 1)), some (.int (nI 0))]) B dX3_gets_126 rfl rfl (nI_add _ 1) (Nat.le_of_ble_eq_true rfl) rfl ?_
                refine g_goto (tgt := 2) B dX3_gets_129 (by decide) ?_
                refine g_fg 4 rfl ?_
                refine g_fg 5 rfl ?_
                refine g_pk [5, 0, 0, 0, 0, 0] rfl rfl ?_
                refine (show Go g κ 2 [some (.ref a), some (.ref e), some (.int (nI fm)), some (.int (nI (k + 1))), none, none] [] [we, [(a, .inr (13, [.int (oI (mEp r)), .int (nI (mLf r)), .int (nI (mLs r)), .int (oI (mRn r)), .ref nd, .ref ch, .ref ev]))], [(nd, .inl (g.2.1 0, 31, .inl f125))], [(ch, .inl (g.2.1 5, 16, .inr (.inr (.inr (.inr fc)))))], v0, v1] 0 0 from ?_)
                exact ih2 _ (by omega) (k + 1) f125 (by omega) (fun i hi => by rw [hf125 i hi, ← hgv, get_fs]) (fun i n h => by rw [← get_fs] at h; unfold fup at h; split at h; exact getN_b hTB9 m5 h; exact hgb i n h) rfl
              · skip
                have c56 : k < 2 * 2 ^ (eTr Ep).1 - 1 := by omega
                refine g_aload_n (q := 60) B dX3_gets_59 rfl rfl (rv_r _) ?_
                refine g_getNM (q := 63) B (ci := 16) (k := 5) (j := 5) in_X13 rfl dX3_gets_60 rfl rfl (hc_4_0) (Nat.le_of_ble_eq_true rfl) q3263 rfl rfl ?_
                refine g_iload_n (q := 64) B dX3_gets_63 rfl rfl ?_
                refine g_ialdM (v := oI (((eTr Ep).2.1) k)) (q := 65) B (k := 5) dX3_gets_64 rfl rfl (hc_4_2) (vp_in_nI (by omega) (by omega)) (by rw [nI_clamp (by omega)]; exact hfn_4 _ (by omega)) ?_
                refine g_iconst (v := -1) (q := 66) B dX3_gets_65 rfl (by decide) ?_
                refine g_icmp_eq (tgt := 88) (q := 69) B dX3_gets_66 rfl (by decide) (oI_n ((fun n h => by have := hE_4.2.1.2.1 _ _ h; omega))) (fun c66 => ?_) (fun c66 => ?_)
                · skip
                  refine g_iconst (v := nI 0) (q := 89) B dX3_gets_88 rfl (by decide) ?_
                  refine g_istore (q := 91) (lv2 := [some (.ref a), some (.ref e), some (.int (nI fm)), some (.int (nI k)), some (.int (nI 1)), some (.int (nI 0))]) B dX3_gets_89 rfl (Nat.le_of_ble_eq_true rfl) rfl ?_
                  refine g_aload_n (q := 92) B dX3_gets_91 rfl rfl (rv_r _) ?_
                  refine g_getN (q := 95) B (ci := 13) (k := 0) (j := 4) in_X5 rfl dX3_gets_92 rfl rfl (Nat.le_of_ble_eq_true rfl) q3124 rfl rfl ?_
                  refine g_iload_n (q := 96) B dX3_gets_95 rfl rfl ?_
                  refine g_iload (q := 98) B dX3_gets_96 rfl rfl ?_
                  refine g_if_eq (tgt := 110) (q := 101) B dX3_gets_98 rfl (by decide) (iff_false_intro (by decide)) (fun z => z.elim) (fun _ => ?_)
                  refine g_aload_n (q := 102) B dX3_gets_101 rfl rfl (rv_r _) ?_
                  refine g_getNM (q := 105) B (ci := 16) (k := 5) (j := 5) in_X13 rfl dX3_gets_102 rfl rfl (hc_4_0) (Nat.le_of_ble_eq_true rfl) q3263 rfl rfl ?_
                  refine g_iload_n (q := 106) B dX3_gets_105 rfl rfl ?_
                  refine g_ialdM (v := oI (((eTr Ep).2.1) k)) (q := 107) B (k := 5) dX3_gets_106 rfl rfl (hc_4_2) (vp_in_nI (by omega) (by omega)) (by rw [nI_clamp (by omega)]; exact hfn_4 _ (by omega)) ?_
                  refine g_stk (y := .int (-1)) (by rw [c66]; rfl) ?_
                  refine g_goto (tgt := 125) B dX3_gets_107 (by decide) ?_
                  have hgv : getN r Ep fm k = none := by unfold getN; rw [if_pos ⟨c13, c24, c33, c41⟩]; first | done | exact c66 | exact ev66
                  refine g_iast (q := 126) (L2 := [[(a, .inr (13, [.int (oI (mEp r)), .int (nI (mLf r)), .int (nI (mLs r)), .int (oI (mRn r)), .ref nd, .ref ch, .ref ev]))], [(nd, .inl (g.2.1 0, 31, .inl (upd f1 k (-1))))], [(ch, .inl (g.2.1 5, 16, .inr (.inr (.inr (.inr fc)))))], v0, v1, we]) B (k := 1) dX3_gets_125 rfl rfl (vp_in_nI (by omega) (by omega)) (by rw [nI_clamp (by omega)] <;> rfl) ?_
                  obtain ⟨f125, ef125⟩ : ∃ f : Nat → Int32, f = upd f1 k (-1) := ⟨_, rfl⟩
                  have hf125 : ∀ i, i < 31 → f125 i = oI (fup (fun i => if i < k then getN r Ep fm i else mNd r i) k none i) := by rw [ef125]; exact upd_oI hf9 _ none
                  rw [← ef125]
                  refine (show Go g κ 126 [some (.ref a), some (.ref e), some (.int (nI fm)), some (.int (nI k)), some (.int (nI 1)), some (.int (nI 0))] [] [[(a, .inr (13, [.int (oI (mEp r)), .int (nI (mLf r)), .int (nI (mLs r)), .int (oI (mRn r)), .ref nd, .ref ch, .ref ev]))], [(nd, .inl (g.2.1 0, 31, .inl f125))], [(ch, .inl (g.2.1 5, 16, .inr (.inr (.inr (.inr fc)))))], v0, v1, we] 0 0 from ?_)
                  refine g_iinc (v := nI (k + 1)) (q := 129) (lv2 := [some (.ref a), some (.ref e), some (.int (nI fm)), some (.int (nI (k + 1))), some (.int (nI 1)), some (.int (nI 0))]) B dX3_gets_126 rfl rfl (nI_add _ 1) (Nat.le_of_ble_eq_true rfl) rfl ?_
                  refine g_goto (tgt := 2) B dX3_gets_129 (by decide) ?_
                  refine g_fg 4 rfl ?_
                  refine g_fg 5 rfl ?_
                  refine g_pk [5, 0, 0, 0, 0, 0] rfl rfl ?_
                  refine (show Go g κ 2 [some (.ref a), some (.ref e), some (.int (nI fm)), some (.int (nI (k + 1))), none, none] [] [we, [(a, .inr (13, [.int (oI (mEp r)), .int (nI (mLf r)), .int (nI (mLs r)), .int (oI (mRn r)), .ref nd, .ref ch, .ref ev]))], [(nd, .inl (g.2.1 0, 31, .inl f125))], [(ch, .inl (g.2.1 5, 16, .inr (.inr (.inr (.inr fc)))))], v0, v1] 0 0 from ?_)
                  exact ih2 _ (by omega) (k + 1) f125 (by omega) (fun i hi => by rw [hf125 i hi, ← hgv, get_fs]) (fun i n h => by rw [← get_fs] at h; unfold fup at h; split at h; exact getN_b hTB9 m5 h; exact hgb i n h) rfl
                · skip
                  obtain ⟨v66, ev66⟩ := Option.ne_none_iff_exists'.mp c66
                  refine g_aload_n (q := 70) B dX3_gets_69 rfl rfl (rv_r _) ?_
                  refine g_getN (q := 73) B (ci := 13) (k := 0) (j := 4) in_X5 rfl dX3_gets_70 rfl rfl (Nat.le_of_ble_eq_true rfl) q3124 rfl rfl ?_
                  refine g_iload_n (q := 74) B dX3_gets_73 rfl rfl ?_
                  refine g_iald (v := oI ((fun i => if i < k then getN r Ep fm i else mNd r i) k)) (q := 75) B (k := 1) dX3_gets_74 rfl rfl (vp_in_nI (by omega) (by omega)) (by rw [nI_clamp (by omega)]; exact hf9 _ (by omega)) ?_
                  refine g_stk (y := .int (oI (mNd r k))) (by show Value.int (oI (if k < k then getN r Ep fm k else mNd r k)) = _; rw [hgk]) ?_
                  refine (show Go g κ 75 [some (.ref a), some (.ref e), some (.int (nI fm)), some (.int (nI k)), some (.int (nI 1)), none] [.int (oI (mNd r k))] [[(a, .inr (13, [.int (oI (mEp r)), .int (nI (mLf r)), .int (nI (mLs r)), .int (oI (mRn r)), .ref nd, .ref ch, .ref ev]))], [(nd, .inl (g.2.1 0, 31, .inl f1))], [(ch, .inl (g.2.1 5, 16, .inr (.inr (.inr (.inr fc)))))], v0, v1, we] 0 0 from ?_)
                  refine g_aload_n (q := 76) B dX3_gets_75 rfl rfl (rv_r _) ?_
                  refine g_getNM (q := 79) B (ci := 16) (k := 5) (j := 5) in_X13 rfl dX3_gets_76 rfl rfl (hc_4_0) (Nat.le_of_ble_eq_true rfl) q3263 rfl rfl ?_
                  refine g_iload_n (q := 80) B dX3_gets_79 rfl rfl ?_
                  refine g_ialdM (v := oI (((eTr Ep).2.1) k)) (q := 81) B (k := 5) dX3_gets_80 rfl rfl (hc_4_2) (vp_in_nI (by omega) (by omega)) (by rw [nI_clamp (by omega)]; exact hfn_4 _ (by omega)) ?_
                  refine g_stk (y := .int (nI v66)) (by rw [ev66]; rfl) ?_
                  have hv66 := hTB9.2.1 _ _ ev66
                  refine g_icmp_ne (tgt := 88) (q := 84) B dX3_gets_81 rfl (by decide) (oI_ne ((fun n h => by have := m5 _ _ h; omega)) (by omega)) (fun c81 => ?_) (fun c81 => ?_)
                  · skip
                    refine g_iconst (v := nI 0) (q := 89) B dX3_gets_88 rfl (by decide) ?_
                    refine g_istore (q := 91) (lv2 := [some (.ref a), some (.ref e), some (.int (nI fm)), some (.int (nI k)), some (.int (nI 1)), some (.int (nI 0))]) B dX3_gets_89 rfl (Nat.le_of_ble_eq_true rfl) rfl ?_
                    refine g_aload_n (q := 92) B dX3_gets_91 rfl rfl (rv_r _) ?_
                    refine g_getN (q := 95) B (ci := 13) (k := 0) (j := 4) in_X5 rfl dX3_gets_92 rfl rfl (Nat.le_of_ble_eq_true rfl) q3124 rfl rfl ?_
                    refine g_iload_n (q := 96) B dX3_gets_95 rfl rfl ?_
                    refine g_iload (q := 98) B dX3_gets_96 rfl rfl ?_
                    refine g_if_eq (tgt := 110) (q := 101) B dX3_gets_98 rfl (by decide) (iff_false_intro (by decide)) (fun z => z.elim) (fun _ => ?_)
                    refine g_aload_n (q := 102) B dX3_gets_101 rfl rfl (rv_r _) ?_
                    refine g_getNM (q := 105) B (ci := 16) (k := 5) (j := 5) in_X13 rfl dX3_gets_102 rfl rfl (hc_4_0) (Nat.le_of_ble_eq_true rfl) q3263 rfl rfl ?_
                    refine g_iload_n (q := 106) B dX3_gets_105 rfl rfl ?_
                    refine g_ialdM (v := oI (((eTr Ep).2.1) k)) (q := 107) B (k := 5) dX3_gets_106 rfl rfl (hc_4_2) (vp_in_nI (by omega) (by omega)) (by rw [nI_clamp (by omega)]; exact hfn_4 _ (by omega)) ?_
                    refine g_stk (y := .int (nI v66)) (by rw [ev66]; rfl) ?_
                    refine g_goto (tgt := 125) B dX3_gets_107 (by decide) ?_
                    have hgv : getN r Ep fm k = some v66 := by unfold getN; rw [if_pos ⟨c13, c24, c33, c41⟩]; first | done | exact c66 | exact ev66
                    refine g_iast (q := 126) (L2 := [[(a, .inr (13, [.int (oI (mEp r)), .int (nI (mLf r)), .int (nI (mLs r)), .int (oI (mRn r)), .ref nd, .ref ch, .ref ev]))], [(nd, .inl (g.2.1 0, 31, .inl (upd f1 k (nI v66))))], [(ch, .inl (g.2.1 5, 16, .inr (.inr (.inr (.inr fc)))))], v0, v1, we]) B (k := 1) dX3_gets_125 rfl rfl (vp_in_nI (by omega) (by omega)) (by rw [nI_clamp (by omega)] <;> rfl) ?_
                    obtain ⟨f125, ef125⟩ : ∃ f : Nat → Int32, f = upd f1 k (nI v66) := ⟨_, rfl⟩
                    have hf125 : ∀ i, i < 31 → f125 i = oI (fup (fun i => if i < k then getN r Ep fm i else mNd r i) k (some v66) i) := by rw [ef125]; exact upd_oI hf9 _ (some v66)
                    rw [← ef125]
                    refine (show Go g κ 126 [some (.ref a), some (.ref e), some (.int (nI fm)), some (.int (nI k)), some (.int (nI 1)), some (.int (nI 0))] [] [[(a, .inr (13, [.int (oI (mEp r)), .int (nI (mLf r)), .int (nI (mLs r)), .int (oI (mRn r)), .ref nd, .ref ch, .ref ev]))], [(nd, .inl (g.2.1 0, 31, .inl f125))], [(ch, .inl (g.2.1 5, 16, .inr (.inr (.inr (.inr fc)))))], v0, v1, we] 0 0 from ?_)
                    refine g_iinc (v := nI (k + 1)) (q := 129) (lv2 := [some (.ref a), some (.ref e), some (.int (nI fm)), some (.int (nI (k + 1))), some (.int (nI 1)), some (.int (nI 0))]) B dX3_gets_126 rfl rfl (nI_add _ 1) (Nat.le_of_ble_eq_true rfl) rfl ?_
                    refine g_goto (tgt := 2) B dX3_gets_129 (by decide) ?_
                    refine g_fg 4 rfl ?_
                    refine g_fg 5 rfl ?_
                    refine g_pk [5, 0, 0, 0, 0, 0] rfl rfl ?_
                    refine (show Go g κ 2 [some (.ref a), some (.ref e), some (.int (nI fm)), some (.int (nI (k + 1))), none, none] [] [we, [(a, .inr (13, [.int (oI (mEp r)), .int (nI (mLf r)), .int (nI (mLs r)), .int (oI (mRn r)), .ref nd, .ref ch, .ref ev]))], [(nd, .inl (g.2.1 0, 31, .inl f125))], [(ch, .inl (g.2.1 5, 16, .inr (.inr (.inr (.inr fc)))))], v0, v1] 0 0 from ?_)
                    exact ih2 _ (by omega) (k + 1) f125 (by omega) (fun i hi => by rw [hf125 i hi, ← hgv, get_fs]) (fun i n h => by rw [← get_fs] at h; unfold fup at h; split at h; exact getN_b hTB9 m5 h; exact hgb i n h) rfl
                  · skip
                    have c81 := Classical.not_not.mp c81
                    refine g_iconst (v := nI 1) (q := 85) B dX3_gets_84 rfl (by decide) ?_
                    refine g_goto (tgt := 89) B dX3_gets_85 (by decide) ?_
                    refine g_istore (q := 91) (lv2 := [some (.ref a), some (.ref e), some (.int (nI fm)), some (.int (nI k)), some (.int (nI 1)), some (.int (nI 1))]) B dX3_gets_89 rfl (Nat.le_of_ble_eq_true rfl) rfl ?_
                    refine g_aload_n (q := 92) B dX3_gets_91 rfl rfl (rv_r _) ?_
                    refine g_getN (q := 95) B (ci := 13) (k := 0) (j := 4) in_X5 rfl dX3_gets_92 rfl rfl (Nat.le_of_ble_eq_true rfl) q3124 rfl rfl ?_
                    refine g_iload_n (q := 96) B dX3_gets_95 rfl rfl ?_
                    refine g_iload (q := 98) B dX3_gets_96 rfl rfl ?_
                    refine g_if_eq (tgt := 110) (q := 101) B dX3_gets_98 rfl (by decide) (iff_false_intro (by decide)) (fun z => z.elim) (fun _ => ?_)
                    refine g_aload_n (q := 102) B dX3_gets_101 rfl rfl (rv_r _) ?_
                    refine g_getNM (q := 105) B (ci := 16) (k := 5) (j := 5) in_X13 rfl dX3_gets_102 rfl rfl (hc_4_0) (Nat.le_of_ble_eq_true rfl) q3263 rfl rfl ?_
                    refine g_iload_n (q := 106) B dX3_gets_105 rfl rfl ?_
                    refine g_ialdM (v := oI (((eTr Ep).2.1) k)) (q := 107) B (k := 5) dX3_gets_106 rfl rfl (hc_4_2) (vp_in_nI (by omega) (by omega)) (by rw [nI_clamp (by omega)]; exact hfn_4 _ (by omega)) ?_
                    refine g_stk (y := .int (nI v66)) (by rw [ev66]; rfl) ?_
                    refine g_goto (tgt := 125) B dX3_gets_107 (by decide) ?_
                    have hgv : getN r Ep fm k = some v66 := by unfold getN; rw [if_pos ⟨c13, c24, c33, c41⟩]; first | done | exact c66 | exact ev66
                    refine g_iast (q := 126) (L2 := [[(a, .inr (13, [.int (oI (mEp r)), .int (nI (mLf r)), .int (nI (mLs r)), .int (oI (mRn r)), .ref nd, .ref ch, .ref ev]))], [(nd, .inl (g.2.1 0, 31, .inl (upd f1 k (nI v66))))], [(ch, .inl (g.2.1 5, 16, .inr (.inr (.inr (.inr fc)))))], v0, v1, we]) B (k := 1) dX3_gets_125 rfl rfl (vp_in_nI (by omega) (by omega)) (by rw [nI_clamp (by omega)] <;> rfl) ?_
                    obtain ⟨f125, ef125⟩ : ∃ f : Nat → Int32, f = upd f1 k (nI v66) := ⟨_, rfl⟩
                    have hf125 : ∀ i, i < 31 → f125 i = oI (fup (fun i => if i < k then getN r Ep fm i else mNd r i) k (some v66) i) := by rw [ef125]; exact upd_oI hf9 _ (some v66)
                    rw [← ef125]
                    refine (show Go g κ 126 [some (.ref a), some (.ref e), some (.int (nI fm)), some (.int (nI k)), some (.int (nI 1)), some (.int (nI 1))] [] [[(a, .inr (13, [.int (oI (mEp r)), .int (nI (mLf r)), .int (nI (mLs r)), .int (oI (mRn r)), .ref nd, .ref ch, .ref ev]))], [(nd, .inl (g.2.1 0, 31, .inl f125))], [(ch, .inl (g.2.1 5, 16, .inr (.inr (.inr (.inr fc)))))], v0, v1, we] 0 0 from ?_)
                    refine g_iinc (v := nI (k + 1)) (q := 129) (lv2 := [some (.ref a), some (.ref e), some (.int (nI fm)), some (.int (nI (k + 1))), some (.int (nI 1)), some (.int (nI 1))]) B dX3_gets_126 rfl rfl (nI_add _ 1) (Nat.le_of_ble_eq_true rfl) rfl ?_
                    refine g_goto (tgt := 2) B dX3_gets_129 (by decide) ?_
                    refine g_fg 4 rfl ?_
                    refine g_fg 5 rfl ?_
                    refine g_pk [5, 0, 0, 0, 0, 0] rfl rfl ?_
                    refine (show Go g κ 2 [some (.ref a), some (.ref e), some (.int (nI fm)), some (.int (nI (k + 1))), none, none] [] [we, [(a, .inr (13, [.int (oI (mEp r)), .int (nI (mLf r)), .int (nI (mLs r)), .int (oI (mRn r)), .ref nd, .ref ch, .ref ev]))], [(nd, .inl (g.2.1 0, 31, .inl f125))], [(ch, .inl (g.2.1 5, 16, .inr (.inr (.inr (.inr fc)))))], v0, v1] 0 0 from ?_)
                    exact ih2 _ (by omega) (k + 1) f125 (by omega) (fun i hi => by rw [hf125 i hi, ← hgv, get_fs]) (fun i n h => by rw [← get_fs] at h; unfold fup at h; split at h; exact getN_b hTB9 m5 h; exact hgb i n h) rfl
  exact lp2 _ 0 fn (Nat.zero_le _) (fun i hi => by show _ = oI (if i < 0 then _ else _); rw [if_neg (Nat.not_lt_zero i)]; exact hfn i hi) (fun i n h => by rw [if_neg (Nat.not_lt_zero i)] at h; exact m5 i n h) rfl
