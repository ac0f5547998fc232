set_option maxRecDepth 100000
def bxm1 (T : TrS) (pk : Nat → Option Nat) (s1 : Nat) (U : BxS) (n : Nat) : BxS := if lev n = 0 ∧ pk (n / 2) ≠ none then U else (match T.2.1 n with
  | none => U
  | some h => ((frm U.1 (h, none, 1)).1, U.2 ++ [((frm U.1 (h, none, 1)).2, s1)]))
def bxmK (T : TrS) (pk : Nat → Option Nat) (s1 : Nat) (cv : List Nat) (U : BxS) (j : Nat) : BxS := (cv.take j).foldl (bxm1 T pk s1) U
def bxmF (T : TrS) (pk : Nat → Option Nat) (s1 : Nat) (cv : List Nat) (U : BxS) : BxS := cv.foldl (bxm1 T pk s1) U
theorem bxmK_s {T : TrS} {pk : Nat → Option Nat} {s1 : Nat} {cv : List Nat} {U : BxS} {j n : Nat} (h : cv[j]? = some n) : bxmK T pk s1 cv U (j + 1) = bxm1 T pk s1 (bxmK T pk s1 cv U j) n := fold_tk h
theorem bxmK_e {T : TrS} {pk : Nat → Option Nat} {s1 : Nat} {cv : List Nat} {U : BxS} {j : Nat} (h : j = cv.length) : bxmK T pk s1 cv U j = bxmF T pk s1 cv U := by unfold bxmK bxmF; rw [h, List.take_length]
theorem bxm1_m (T : TrS) (pk : Nat → Option Nat) (s1 : Nat) (U : BxS) (n : Nat) : BxM U (bxm1 T pk s1 U n) := by
  unfold bxm1
  split
  · exact BxM.rfl
  · split
    · exact BxM.rfl
    · rename_i h _
      refine ⟨(Ph_frm U.1 (h, none, 1)).1, (@frm_le U.1 (h, none, 1)).1, ?_⟩
      rw [List.length_append]; omega
theorem bxmL_m (T : TrS) (pk : Nat → Option Nat) (s1 : Nat) : ∀ (cv : List Nat) (U : BxS), BxM U (cv.foldl (bxm1 T pk s1) U)
  | [], _ => BxM.rfl
  | n :: cv, U => (bxm1_m T pk s1 U n).tr (bxmL_m T pk s1 cv _)
theorem bxmK_m (T : TrS) (pk : Nat → Option Nat) (s1 : Nat) (cv : List Nat) (U : BxS) (j : Nat) : BxM (bxmK T pk s1 cv U j) (bxmF T pk s1 cv U) := by
  unfold bxmK bxmF
  conv => rhs; rw [← List.take_append_drop j cv, List.foldl_append]
  exact bxmL_m T pk s1 _ _
/-- laying secrets along a way: the tree, secrets, boxes, the last secret, the way's nodes -/
abbrev LmS : Type := TrS × List Sec × List (Nat × Nat) × Nat × (Nat → Bool)
def layM1 (own : Nat) (pk : Nat → Option Nat) (S : LmS) (k : Nat) : LmS := if cov S.1 (asd own k) = [] then (blkN S.1 (nab own (k + 1)), S.2) else
  let q := frm S.2.1 (S.2.2.2.1, none, 2)
  let T1 := setN (blkN S.1 (nab own (k + 1))) (nab own (k + 1)) q.2
  let b := bxmF T1 pk q.2 (cov S.1 (asd own k)) (q.1, S.2.2.1)
  (T1, b.1, b.2, q.2, fup S.2.2.2.2 (nab own (k + 1)) true)
def layM (own : Nat) (pk : Nat → Option Nat) (S : LmS) : Nat → LmS
  | 0 => S
  | k + 1 => layM1 own pk (layM own pk S k) k
theorem layM1_n {own : Nat} {pk : Nat → Option Nat} {S : LmS} {k : Nat} (h : cov S.1 (asd own k) = []) : layM1 own pk S k = (blkN S.1 (nab own (k + 1)), S.2) := by unfold layM1; rw [if_pos h]
theorem layM1_y {own : Nat} {pk : Nat → Option Nat} {S : LmS} {k : Nat} {q : List Sec} {s : Nat} (h : cov S.1 (asd own k) ≠ []) (hf : frm S.2.1 (S.2.2.2.1, none, 2) = (q, s)) : layM1 own pk S k = (setN (blkN S.1 (nab own (k + 1))) (nab own (k + 1)) s, (bxmF (setN (blkN S.1 (nab own (k + 1))) (nab own (k + 1)) s) pk s (cov S.1 (asd own k)) (q, S.2.2.1)).1, (bxmF (setN (blkN S.1 (nab own (k + 1))) (nab own (k + 1)) s) pk s (cov S.1 (asd own k)) (q, S.2.2.1)).2, s, fup S.2.2.2.2 (nab own (k + 1)) true) := by
  unfold layM1; rw [if_neg h]; simp only [hf]
theorem layM1_m (own : Nat) (pk : Nat → Option Nat) (S : LmS) (k : Nat) : BxM (S.2.1, S.2.2.1) ((layM1 own pk S k).2.1, (layM1 own pk S k).2.2.1) ∧ (layM1 own pk S k).1.1 = S.1.1 := by
  by_cases h : cov S.1 (asd own k) = []
  · rw [layM1_n h]; exact ⟨BxM.rfl, rfl⟩
  · rw [layM1_y h (q := (frm S.2.1 (S.2.2.2.1, none, 2)).1) (s := (frm S.2.1 (S.2.2.2.1, none, 2)).2) rfl]
    refine ⟨BxM.tr (V := ((frm S.2.1 (S.2.2.2.1, none, 2)).1, S.2.2.1)) ⟨(Ph_frm S.2.1 _).1, (@frm_le S.2.1 _).1, Nat.le_refl _⟩ (bxmL_m _ _ _ _ _), rfl⟩
theorem layM_m (own : Nat) (pk : Nat → Option Nat) (S : LmS) {k m : Nat} (h : k ≤ m) : BxM ((layM own pk S k).2.1, (layM own pk S k).2.2.1) ((layM own pk S m).2.1, (layM own pk S m).2.2.1) := by
  induction m with
  | zero => rw [Nat.le_zero.mp h]; exact BxM.rfl
  | succ m ih =>
    rcases Nat.lt_or_ge m k with z | z
    · rw [show k = m + 1 by omega]; exact BxM.rfl
    · exact (ih z).tr (layM1_m own pk _ m).1
theorem layM_d (own : Nat) (pk : Nat → Option Nat) (S : LmS) : ∀ k, (layM own pk S k).1.1 = S.1.1
  | 0 => rfl
  | k + 1 => (layM1_m own pk _ k).2.trans (layM_d own pk S k)
theorem asd_m0 : ∀ k, k < 4 → ∀ l, l < 16 → (if l / 2 ^ k % 2 = 0 then rgt (nab l (k + 1)) else lft (nab l (k + 1))) = asd l k := by decide +kernel
theorem asd_l {k l : Nat} (hk : k < 4) (hl : l < 16) (h : ¬ l / 2 ^ k % 2 = 0) : lft (nab l (k + 1)) = asd l k := by rw [← asd_m0 k hk l hl, if_neg h]
theorem asd_r {k l : Nat} (hk : k < 4) (hl : l < 16) (h : l / 2 ^ k % 2 = 0) : rgt (nab l (k + 1)) = asd l k := by rw [← asd_m0 k hk l hl, if_pos h]
theorem p2_lt {d k : Nat} (h : ¬ 2 ^ d < 2 ^ k) : k ≤ d := by
  rcases Nat.lt_or_ge d k with z | z
  · exact absurd (Nat.pow_lt_pow_right (by decide) z) h
  · exact z
theorem p2_ge {d k : Nat} (h : 2 ^ d < 2 ^ k) : d < k := by
  rcases Nat.lt_or_ge d k with z | z
  · exact z
  · exact absurd (Nat.pow_le_pow_right (n := 2) (by decide) z) (by omega)
theorem moX3_drawn : Mo yX3_drawn 0 := by
  refine ⟨by decide, by decide, by decide +kernel⟩
theorem moX3_coverOf : Mo yX3_coverOf 2 := by
  refine ⟨by decide, by decide, by decide +kernel⟩
theorem moJ2_isEmpty : Mo yJ2_isEmpty 0 := by
  refine ⟨by decide, by decide, by decide +kernel⟩
theorem moX3_boxed : Mo yX3_boxed 2 := by
  refine ⟨by decide, by decide, by decide +kernel⟩
theorem ct_X3_lays (g : Gv) (J : Jd g) {m : Nat} {ls : Nat} {lb : Nat} {lk : Nat} {lp : Nat} {lr : Nat} {le : Nat} {lm : Nat} {lo : Nat} {th : Nat} {z : Int32} {bo : Nat} {cm : Nat} {ss : List Sec} {bx : List (Nat × Nat)} {e : Nat} {r : MeS} {own : Nat} {TA : Nat} {BA : Nat} {BN : Nat} {w1 : va_W} {w2 : va_W} {w3 : va_W} (hw1 : LhP g (SecP g) ls ss (capF ss.length) w1) (hw2 : LhP g (BbP g) lb bx (capF bx.length) w2) (hw3 : EpP g e r w3) (hcl : ∀ k, k < (eTr r).1 → (cov (layM own (ePk r) ((setN (eTr r) (2 * own) ss.length, ss ++ [drw z], bx, ss.length, eWy r) : LmS) k).1 (asd own k)).length ≤ 40) (hcv : ∀ k, k < (eTr r).1 → ∀ s, s = (frm (layM own (ePk r) ((setN (eTr r) (2 * own) ss.length, ss ++ [drw z], bx, ss.length, eWy r) : LmS) k).2.1 ((layM own (ePk r) ((setN (eTr r) (2 * own) ss.length, ss ++ [drw z], bx, ss.length, eWy r) : LmS) k).2.2.2.1, none, 2)).2 → ∀ n ∈ cov (layM own (ePk r) ((setN (eTr r) (2 * own) ss.length, ss ++ [drw z], bx, ss.length, eWy r) : LmS) k).1 (asd own k), n < 31 ∧ ∃ h, (setN (blkN (layM own (ePk r) ((setN (eTr r) (2 * own) ss.length, ss ++ [drw z], bx, ss.length, eWy r) : LmS) k).1 (nab own (k + 1))) (nab own (k + 1)) s).2.1 n = some h ∧ h < (layM own (ePk r) ((setN (eTr r) (2 * own) ss.length, ss ++ [drw z], bx, ss.length, eWy r) : LmS) k).2.1.length) (hsc : ∀ k, k ≤ (eTr r).1 → (layM own (ePk r) ((setN (eTr r) (2 * own) ss.length, ss ++ [drw z], bx, ss.length, eWy r) : LmS) k).2.2.2.1 < (layM own (ePk r) ((setN (eTr r) (2 * own) ss.length, ss ++ [drw z], bx, ss.length, eWy r) : LmS) k).2.1.length) (hLt : ∀ k, k < (eTr r).1 → LtB (layM own (ePk r) ((setN (eTr r) (2 * own) ss.length, ss ++ [drw z], bx, ss.length, eWy r) : LmS) k).1) (hlf : own < 2 ^ (eTr r).1) (hfl : (layM own (ePk r) ((setN (eTr r) (2 * own) ss.length, ss ++ [drw z], bx, ss.length, eWy r) : LmS) (eTr r).1).2.1.length ≤ 980) (hfb : (layM own (ePk r) ((setN (eTr r) (2 * own) ss.length, ss ++ [drw z], bx, ss.length, eWy r) : LmS) (eTr r).1).2.2.1.length ≤ 1980) (hbo9 : bo ≤ 1990) (hTA : capF (layM own (ePk r) ((setN (eTr r) (2 * own) ss.length, ss ++ [drw z], bx, ss.length, eWy r) : LmS) (eTr r).1).2.1.length ≤ TA) (hBA : capF (layM own (ePk r) ((setN (eTr r) (2 * own) ss.length, ss ++ [drw z], bx, ss.length, eWy r) : LmS) (eTr r).1).2.2.1.length ≤ BA) (hBN : (layM own (ePk r) ((setN (eTr r) (2 * own) ss.length, ss ++ [drw z], bx, ss.length, eWy r) : LmS) (eTr r).1).2.2.1.length ≤ BN) : Ct g yX3_lays (ws_ yX3_lays cX3_lays 10 (some .int)) 15 (250 + 5 * (BN - bx.length)) (1650 + 12 * (BN - bx.length) + 4 * (TA - capF ss.length) + 4 * (BA - capF bx.length)) [.ref m, .ref e, .int (nI own)] [[(m, .inr (12, [.ref ls, .ref lb, .ref lk, .ref lp, .ref lr, .ref le, .ref lm, .ref lo, .int (nI th), .int z, .int (nI bo), .int (nI cm)]))], w1, w2, w3] (fun (rv_ : Option Value) (rL_ : List va_W) => ∃ (u1 : va_W) (u2 : va_W) (u3 : va_W), rv_ = some (.int (nI ((layM own (ePk r) ((setN (eTr r) (2 * own) ss.length, ss ++ [drw z], bx, ss.length, eWy r) : LmS) (eTr r).1).2.2.2.1))) ∧ rL_ = [[(m, .inr (12, [.ref ls, .ref lb, .ref lk, .ref lp, .ref lr, .ref le, .ref lm, .ref lo, .int (nI th), .int (lcg z), .int (nI (bo + ((layM own (ePk r) ((setN (eTr r) (2 * own) ss.length, ss ++ [drw z], bx, ss.length, eWy r) : LmS) (eTr r).1).2.2.1.length - bx.length))), .int (nI cm)]))], u1, u2, u3] ∧ LhP g (SecP g) ls ((layM own (ePk r) ((setN (eTr r) (2 * own) ss.length, ss ++ [drw z], bx, ss.length, eWy r) : LmS) (eTr r).1).2.1) (capF ((layM own (ePk r) ((setN (eTr r) (2 * own) ss.length, ss ++ [drw z], bx, ss.length, eWy r) : LmS) (eTr r).1).2.1).length) u1 ∧ LhP g (BbP g) lb ((layM own (ePk r) ((setN (eTr r) (2 * own) ss.length, ss ++ [drw z], bx, ss.length, eWy r) : LmS) (eTr r).1).2.2.1) (capF ((layM own (ePk r) ((setN (eTr r) (2 * own) ss.length, ss ++ [drw z], bx, ss.length, eWy r) : LmS) (eTr r).1).2.2.1).length) u2 ∧ EpP g e ((eNo r, (layM own (ePk r) ((setN (eTr r) (2 * own) ss.length, ss ++ [drw z], bx, ss.length, eWy r) : LmS) (eTr r).1).1, eGo r, eKy r, eCh r, (layM own (ePk r) ((setN (eTr r) (2 * own) ss.length, ss ++ [drw z], bx, ss.length, eWy r) : LmS) (eTr r).1).2.2.2.2, eRm r, ePk r) : MeS) u3) noX := by
  refine Ct.of "KeygroveModel" [some (.ref m), some (.ref e), some (.int (nI own)), none, none, none, none, none, none, none] rfl (by decide) rfl (Nat.le_of_ble_eq_true rfl) rfl ?_
  intro κ B E tb
  have hE0 := EpP.b hw3
  have hB := hE0.2.1
  have hp2 := p2_4 hB.1
  have hd4 := hB.1
  have hdw := Ph_d2 ss z
  have hsl1 : (ss ++ [drw z]).length = ss.length + 1 := by simp
  have hmF := layM_m own (ePk r) ((setN (eTr r) (2 * own) ss.length, ss ++ [drw z], bx, ss.length, eWy r) : LmS) (Nat.zero_le (eTr r).1)
  obtain ⟨hmF1, hmF2, hmF3⟩ := hmF
  have hmF2 : (ss ++ [drw z]).length ≤ (layM own (ePk r) ((setN (eTr r) (2 * own) ss.length, ss ++ [drw z], bx, ss.length, eWy r) : LmS) (eTr r).1).2.1.length := hmF2
  have hmF3 : bx.length ≤ (layM own (ePk r) ((setN (eTr r) (2 * own) ss.length, ss ++ [drw z], bx, ss.length, eWy r) : LmS) (eTr r).1).2.2.1.length := hmF3
  have hcz1 := capF_m hmF2
  have hcz0 : capF (ss ++ [drw z]).length = capF (ss.length + 1) := by rw [hsl1]
  have hcz2 := capF_mo ss.length
  have hcz3 := capF_m hmF3
  have hi1 : ((setN (eTr r) (2 * own) ss.length, ss ++ [drw z], bx, ss.length, eWy r) : LmS).2.1.length = ss.length + 1 := hsl1
  have hi2 : ((setN (eTr r) (2 * own) ss.length, ss ++ [drw z], bx, ss.length, eWy r) : LmS).2.2.1.length = bx.length := rfl
  have hi3 : capF ((setN (eTr r) (2 * own) ss.length, ss ++ [drw z], bx, ss.length, eWy r) : LmS).2.1.length = capF (ss.length + 1) := by rw [hi1]
  have hi4 : capF ((setN (eTr r) (2 * own) ss.length, ss ++ [drw z], bx, ss.length, eWy r) : LmS).2.2.1.length = capF bx.length := rfl
  refine g_aload_n (q := 1) B dX3_lays_0 rfl rfl (rv_r _) ?_
  refine g_callV (q := 4) (is := [0, 0]) (kc2 := 245 + 5 * (BN - bx.length)) (ks2 := 1645 + 12 * (BN - bx.length) + 4 * (TA - capF (ss ++ [drw z]).length) + 4 * (BA - capF bx.length)) B [] (ct_X3_drawn g J (m := m) (ls := ls) (lb := lb) (lk := lk) (lp := lp) (lr := lr) (le := le) (lm := lm) (lo := lo) (th := th) (z := z) (bo := bo) (cm := cm) (ss := ss) hw1 (by omega)) dX3_lays_1 rfl (rc_at B (ci := 12) rfl (k := 0) rfl) rfl q3160 q3162 qs52 q85 q3163 rfl rfl moX3_drawn rfl rfl (by decide) (by decide) (Nat.le_of_ble_eq_true rfl) (by omega) (by omega) (fun _ _ hx => noX_x hx) (fun v1 L1 hp1 => ?_)
  obtain ⟨u1_1, rfl, rfl, hu1_1⟩ := hp1
  refine (show Go g κ 4 [some (.ref m), some (.ref e), some (.int (nI own)), none, none, none, none, none, none, none] [.int (nI ss.length)] [w2, w3, [(m, .inr (12, [.ref ls, .ref lb, .ref lk, .ref lp, .ref lr, .ref le, .ref lm, .ref lo, .int (nI th), .int (lcg z), .int (nI bo), .int (nI cm)]))], u1_1] (245 + 5 * (BN - bx.length)) (1645 + 12 * (BN - bx.length) + 4 * (TA - capF (ss ++ [drw z]).length) + 4 * (BA - capF bx.length)) from ?_)
  refine g_istore_n (q := 5) (lv2 := [some (.ref m), some (.ref e), some (.int (nI own)), some (.int (nI ss.length)), none, none, none, none, none, none]) B dX3_lays_4 rfl (Nat.le_of_ble_eq_true rfl) rfl ?_
  obtain ⟨ap_t, an_t, al_t, ac_t, aw_t, am_t, ak_t, fp_t, fn_t, fl_t, fc_t, fw_t, fm_t, fk_t, hE_t, hfp_t, hfn_t, hfl_t, hfc_t, hfw_t, hfm_t, hfk_t, rfl⟩ := hw3
  refine g_open 1 rfl rfl rfl ?_
  refine (show Go g κ 5 [some (.ref m), some (.ref e), some (.int (nI own)), some (.int (nI ss.length)), none, none, none, none, none, none] [] [w2, [(m, .inr (12, [.ref ls, .ref lb, .ref lk, .ref lp, .ref lr, .ref le, .ref lm, .ref lo, .int (nI th), .int (lcg z), .int (nI bo), .int (nI cm)]))], u1_1, [(e, .inr (16, [.int (nI (eNo r)), .int (nI (2 ^ (eTr r).1)), .int (nI (eGo r)), .int (nI (eKy r)), .ref ap_t, .ref an_t, .ref al_t, .ref ac_t, .ref aw_t, .ref am_t, .ref ak_t]))], [(ap_t, .inl (g.2.1 0, 16, .inl fp_t))], [(an_t, .inl (g.2.1 0, 31, .inl fn_t))], [(al_t, .inl (g.2.1 0, 31, .inl fl_t))], [(ac_t, .inl (g.2.1 0, 16, .inl fc_t))], [(aw_t, .inl (g.2.1 4, 31, .inl fw_t))], [(am_t, .inl (g.2.1 4, 16, .inl fm_t))], [(ak_t, .inl (g.2.1 0, 16, .inl fk_t))]] (245 + 5 * (BN - bx.length)) (1645 + 12 * (BN - bx.length) + 4 * (TA - capF (ss ++ [drw z]).length) + 4 * (BA - capF bx.length)) from ?_)
  refine g_aload_n (q := 6) B dX3_lays_5 rfl rfl (rv_r _) ?_
  refine g_getN (q := 9) B (ci := 16) (k := 3) (j := 5) in_X13 rfl dX3_lays_6 rfl rfl (Nat.le_of_ble_eq_true rfl) q3263 rfl rfl ?_
  refine g_iconst (v := nI 2) (q := 10) B dX3_lays_9 rfl (by decide) ?_
  refine g_iload_n (q := 11) B dX3_lays_10 rfl rfl ?_
  refine g_imul (v := nI (2 * own)) (q := 12) B dX3_lays_11 rfl (pk_mul _ _) ?_
  refine g_iload_n (q := 13) B dX3_lays_12 rfl rfl ?_
  refine g_iast (q := 14) (L2 := [w2, [(m, .inr (12, [.ref ls, .ref lb, .ref lk, .ref lp, .ref lr, .ref le, .ref lm, .ref lo, .int (nI th), .int (lcg z), .int (nI bo), .int (nI cm)]))], u1_1, [(e, .inr (16, [.int (nI (eNo r)), .int (nI (2 ^ (eTr r).1)), .int (nI (eGo r)), .int (nI (eKy r)), .ref ap_t, .ref an_t, .ref al_t, .ref ac_t, .ref aw_t, .ref am_t, .ref ak_t]))], [(ap_t, .inl (g.2.1 0, 16, .inl fp_t))], [(an_t, .inl (g.2.1 0, 31, .inl (upd fn_t (2 * own) (nI ss.length))))], [(al_t, .inl (g.2.1 0, 31, .inl fl_t))], [(ac_t, .inl (g.2.1 0, 16, .inl fc_t))], [(aw_t, .inl (g.2.1 4, 31, .inl fw_t))], [(am_t, .inl (g.2.1 4, 16, .inl fm_t))], [(ak_t, .inl (g.2.1 0, 16, .inl fk_t))]]) B (k := 5) dX3_lays_13 rfl rfl (vp_in_nI (by omega) (by omega)) (by rw [nI_clamp (by omega)] <;> rfl) ?_
  obtain ⟨f13, ef13⟩ : ∃ f : Nat → Int32, f = upd fn_t (2 * own) (nI ss.length) := ⟨_, rfl⟩
  have hf13 : ∀ i, i < 31 → f13 i = oI (fup ((eTr r).2.1) (2 * own) (some ss.length) i) := by rw [ef13]; exact upd_oI hfn_t _ (some ss.length)
  rw [← ef13]
  refine (show Go g κ 14 [some (.ref m), some (.ref e), some (.int (nI own)), some (.int (nI ss.length)), none, none, none, none, none, none] [] [w2, [(m, .inr (12, [.ref ls, .ref lb, .ref lk, .ref lp, .ref lr, .ref le, .ref lm, .ref lo, .int (nI th), .int (lcg z), .int (nI bo), .int (nI cm)]))], u1_1, [(e, .inr (16, [.int (nI (eNo r)), .int (nI (2 ^ (eTr r).1)), .int (nI (eGo r)), .int (nI (eKy r)), .ref ap_t, .ref an_t, .ref al_t, .ref ac_t, .ref aw_t, .ref am_t, .ref ak_t]))], [(ap_t, .inl (g.2.1 0, 16, .inl fp_t))], [(an_t, .inl (g.2.1 0, 31, .inl f13))], [(al_t, .inl (g.2.1 0, 31, .inl fl_t))], [(ac_t, .inl (g.2.1 0, 16, .inl fc_t))], [(aw_t, .inl (g.2.1 4, 31, .inl fw_t))], [(am_t, .inl (g.2.1 4, 16, .inl fm_t))], [(ak_t, .inl (g.2.1 0, 16, .inl fk_t))]] (245 + 5 * (BN - bx.length)) (1645 + 12 * (BN - bx.length) + 4 * (TA - capF (ss ++ [drw z]).length) + 4 * (BA - capF bx.length)) from ?_)
  obtain ⟨wc_1, ewc_1⟩ : ∃ w : va_W, w = ([[(e, .inr (16, [.int (nI (eNo r)), .int (nI (2 ^ (eTr r).1)), .int (nI (eGo r)), .int (nI (eKy r)), .ref ap_t, .ref an_t, .ref al_t, .ref ac_t, .ref aw_t, .ref am_t, .ref ak_t]))], [(ap_t, .inl (g.2.1 0, 16, .inl fp_t))], [(an_t, .inl (g.2.1 0, 31, .inl f13))], [(al_t, .inl (g.2.1 0, 31, .inl fl_t))], [(ac_t, .inl (g.2.1 0, 16, .inl fc_t))], [(aw_t, .inl (g.2.1 4, 31, .inl fw_t))], [(am_t, .inl (g.2.1 4, 16, .inl fm_t))], [(ak_t, .inl (g.2.1 0, 16, .inl fk_t))]] : List va_W).flatten := ⟨_, rfl⟩
  have hwc_1 : EpP g e ((eNo r, (setN (eTr r) (2 * own) ss.length), eGo r, eKy r, eCh r, eWy r, eRm r, ePk r) : MeS) wc_1 := by
    rw [ewc_1]
    exact ⟨ap_t, an_t, al_t, ac_t, aw_t, am_t, ak_t, fp_t, f13, fl_t, fc_t, fw_t, fm_t, fk_t, (MeB.tr hE0 (setN_b hB _ (by omega))), hfp_t, hf13, hfl_t, hfc_t, hfw_t, hfm_t, hfk_t, rfl⟩
  refine g_close (w := wc_1) [3, 3, 3, 3, 3, 3, 3, 3] rfl ewc_1 rfl ?_
  refine (show Go g κ 14 [some (.ref m), some (.ref e), some (.int (nI own)), some (.int (nI ss.length)), none, none, none, none, none, none] [] [w2, [(m, .inr (12, [.ref ls, .ref lb, .ref lk, .ref lp, .ref lr, .ref le, .ref lm, .ref lo, .int (nI th), .int (lcg z), .int (nI bo), .int (nI cm)]))], u1_1, wc_1] (245 + 5 * (BN - bx.length)) (1645 + 12 * (BN - bx.length) + 4 * (TA - capF (ss ++ [drw z]).length) + 4 * (BA - capF bx.length)) from ?_)
  refine g_iconst (v := nI 1) (q := 15) B dX3_lays_14 rfl (by decide) ?_
  refine g_istore (q := 17) (lv2 := [some (.ref m), some (.ref e), some (.int (nI own)), some (.int (nI ss.length)), some (.int (nI 1)), none, none, none, none, none]) B dX3_lays_15 rfl (Nat.le_of_ble_eq_true rfl) rfl ?_
  have lp17 : ∀ (n17 : Nat) (k : Nat) (S : LmS) (bn : Nat) (l17_0 : va_W) (l17_2 : va_W) (l17_3 : va_W), LhP g (BbP g) lb S.2.2.1 (capF S.2.2.1.length) l17_0 → LhP g (SecP g) ls S.2.1 (capF S.2.1.length) l17_2 → EpP g e ((eNo r, S.1, eGo r, eKy r, eCh r, S.2.2.2.2, eRm r, ePk r) : MeS) l17_3 → (k ≤ (eTr r).1) → (S = layM own (ePk r) ((setN (eTr r) (2 * own) ss.length, ss ++ [drw z], bx, ss.length, eWy r) : LmS) k) → (bn + bx.length = bo + S.2.2.1.length) → 4 - k = n17 → Go g κ 17 [some (.ref m), some (.ref e), some (.int (nI own)), some (.int (nI S.2.2.2.1)), some (.int (nI (k + 1))), none, none, none, none, none] [] [l17_0, [(m, .inr (12, [.ref ls, .ref lb, .ref lk, .ref lp, .ref lr, .ref le, .ref lm, .ref lo, .int (nI th), .int (lcg z), .int (nI bn), .int (nI cm)]))], l17_2, l17_3] (60 * (4 - k) + 5 * (BN - S.2.2.1.length)) (400 * (4 - k) + 12 * (BN - S.2.2.1.length) + 4 * (TA - capF S.2.1.length) + 4 * (BA - capF S.2.2.1.length)) := by
    intro n17
    induction n17 using Nat.strongRecOn with
    | _ n17 ih17 =>
    intro k S bn l17_0 l17_2 l17_3 hl17_0 hl17_2 hl17_3 hk hS hbn hmu17
    have hSd : S.1.1 = (eTr r).1 := by rw [hS]; exact layM_d _ _ _ k
    have hk4 : k ≤ 4 := by omega
    have hSp : 2 ^ S.1.1 = 2 ^ (eTr r).1 := by rw [hSd]
    have hkp : 2 ^ (k + 1) ≤ 32 := Nat.le_trans (Nat.pow_le_pow_right (by decide) (show k + 1 ≤ 5 by omega)) (by decide)
    refine g_iconst (v := nI 1) (q := 18) B dX3_lays_17 rfl (by decide) ?_
    refine g_iload (q := 20) B dX3_lays_18 rfl rfl ?_
    refine g_ishl (v := nI (2 ^ (k + 1))) (q := 21) B dX3_lays_20 rfl (shl_I (k + 1) (by omega)) ?_
    refine g_aload_n (q := 22) B dX3_lays_21 rfl rfl (rv_r _) ?_
    obtain ⟨ap_2, an_2, al_2, ac_2, aw_2, am_2, ak_2, fp_2, fn_2, fl_2, fc_2, fw_2, fm_2, fk_2, hE_2, hfp_2, hfn_2, hfl_2, hfc_2, hfw_2, hfm_2, hfk_2, hc_2_0, hc_2_1, hc_2_2, hc_2_3, hc_2_4, hc_2_5, hc_2_6, hc_2_7⟩ := EpP.at (Sub.self hl17_3)
    refine g_getNM (q := 25) B (ci := 16) (k := 3) (j := 1) in_X13 rfl dX3_lays_22 rfl rfl (hc_2_0) (Nat.le_of_ble_eq_true rfl) q3257 rfl rfl ?_
    refine (show Go g κ 25 [some (.ref m), some (.ref e), some (.int (nI own)), some (.int (nI S.2.2.2.1)), some (.int (nI (k + 1))), none, none, none, none, none] [.int (nI (2 ^ S.1.1)), .int (nI (2 ^ (k + 1)))] [l17_0, [(m, .inr (12, [.ref ls, .ref lb, .ref lk, .ref lp, .ref lr, .ref le, .ref lm, .ref lo, .int (nI th), .int (lcg z), .int (nI bn), .int (nI cm)]))], l17_2, l17_3] (60 * (4 - k) + 5 * (BN - S.2.2.1.length)) (400 * (4 - k) + 12 * (BN - S.2.2.1.length) + 4 * (TA - capF S.2.1.length) + 4 * (BA - capF S.2.2.1.length)) from ?_)
    refine g_icmp_gt (tgt := 200) (q := 28) B dX3_lays_25 rfl (by decide) (nI_ltI (by omega) (by omega)) (fun c25 => ?_) (fun c25 => ?_)
    · skip
      have hkT : k = (eTr r).1 := by have z9 := p2_ge c25; rw [hSd] at z9; omega
      have hSF : S = (layM own (ePk r) ((setN (eTr r) (2 * own) ss.length, ss ++ [drw z], bx, ss.length, eWy r) : LmS) (eTr r).1) := by rw [hS, hkT]
      have hr_3 : EpP g e ((eNo r, (layM own (ePk r) ((setN (eTr r) (2 * own) ss.length, ss ++ [drw z], bx, ss.length, eWy r) : LmS) (eTr r).1).1, eGo r, eKy r, eCh r, (layM own (ePk r) ((setN (eTr r) (2 * own) ss.length, ss ++ [drw z], bx, ss.length, eWy r) : LmS) (eTr r).1).2.2.2.2, eRm r, ePk r) : MeS) l17_3 := by rw [← hSF]; exact hl17_3
      have hr_4 : LhP g (SecP g) ls ((layM own (ePk r) ((setN (eTr r) (2 * own) ss.length, ss ++ [drw z], bx, ss.length, eWy r) : LmS) (eTr r).1).2.1) (capF (layM own (ePk r) ((setN (eTr r) (2 * own) ss.length, ss ++ [drw z], bx, ss.length, eWy r) : LmS) (eTr r).1).2.1.length) l17_2 := by rw [← hSF]; exact hl17_2
      have hr_5 : LhP g (BbP g) lb ((layM own (ePk r) ((setN (eTr r) (2 * own) ss.length, ss ++ [drw z], bx, ss.length, eWy r) : LmS) (eTr r).1).2.2.1) (capF (layM own (ePk r) ((setN (eTr r) (2 * own) ss.length, ss ++ [drw z], bx, ss.length, eWy r) : LmS) (eTr r).1).2.2.1.length) l17_0 := by rw [← hSF]; exact hl17_0
      rw [(show nI bn = nI (bo + ((layM own (ePk r) ((setN (eTr r) (2 * own) ss.length, ss ++ [drw z], bx, ss.length, eWy r) : LmS) (eTr r).1).2.2.1.length - bx.length)) from by rw [← hSF]; congr 1; have h9 : bx.length ≤ S.2.2.1.length := (by rw [hSF]; exact hmF3); omega)]
      refine (show Go g κ 200 [some (.ref m), some (.ref e), some (.int (nI own)), some (.int (nI S.2.2.2.1)), some (.int (nI (k + 1))), none, none, none, none, none] [] [l17_0, [(m, .inr (12, [.ref ls, .ref lb, .ref lk, .ref lp, .ref lr, .ref le, .ref lm, .ref lo, .int (nI th), .int (lcg z), .int (nI (bo + ((layM own (ePk r) ((setN (eTr r) (2 * own) ss.length, ss ++ [drw z], bx, ss.length, eWy r) : LmS) (eTr r).1).2.2.1.length - bx.length))), .int (nI cm)]))], l17_2, l17_3] (60 * (4 - k) + 5 * (BN - S.2.2.1.length)) (400 * (4 - k) + 12 * (BN - S.2.2.1.length) + 4 * (TA - capF S.2.1.length) + 4 * (BA - capF S.2.2.1.length)) from ?_)
      rw [(show nI S.2.2.2.1 = nI (layM own (ePk r) ((setN (eTr r) (2 * own) ss.length, ss ++ [drw z], bx, ss.length, eWy r) : LmS) (eTr r).1).2.2.2.1 from by rw [← hSF])]
      refine (show Go g κ 200 [some (.ref m), some (.ref e), some (.int (nI own)), some (.int (nI ((layM own (ePk r) ((setN (eTr r) (2 * own) ss.length, ss ++ [drw z], bx, ss.length, eWy r) : LmS) (eTr r).1).2.2.2.1))), some (.int (nI (k + 1))), none, none, none, none, none] [] [l17_0, [(m, .inr (12, [.ref ls, .ref lb, .ref lk, .ref lp, .ref lr, .ref le, .ref lm, .ref lo, .int (nI th), .int (lcg z), .int (nI (bo + ((layM own (ePk r) ((setN (eTr r) (2 * own) ss.length, ss ++ [drw z], bx, ss.length, eWy r) : LmS) (eTr r).1).2.2.1.length - bx.length))), .int (nI cm)]))], l17_2, l17_3] (60 * (4 - k) + 5 * (BN - S.2.2.1.length)) (400 * (4 - k) + 12 * (BN - S.2.2.1.length) + 4 * (TA - capF S.2.1.length) + 4 * (BA - capF S.2.2.1.length)) from ?_)
      refine g_iload_n (q := 201) B dX3_lays_200 rfl rfl ?_
      refine g_pk [1, 1, 0, 0] rfl rfl ?_
      refine (show Go g κ 201 [some (.ref m), some (.ref e), some (.int (nI own)), some (.int (nI ((layM own (ePk r) ((setN (eTr r) (2 * own) ss.length, ss ++ [drw z], bx, ss.length, eWy r) : LmS) (eTr r).1).2.2.2.1))), some (.int (nI (k + 1))), none, none, none, none, none] [.int (nI ((layM own (ePk r) ((setN (eTr r) (2 * own) ss.length, ss ++ [drw z], bx, ss.length, eWy r) : LmS) (eTr r).1).2.2.2.1))] [[(m, .inr (12, [.ref ls, .ref lb, .ref lk, .ref lp, .ref lr, .ref le, .ref lm, .ref lo, .int (nI th), .int (lcg z), .int (nI (bo + ((layM own (ePk r) ((setN (eTr r) (2 * own) ss.length, ss ++ [drw z], bx, ss.length, eWy r) : LmS) (eTr r).1).2.2.1.length - bx.length))), .int (nI cm)]))], l17_2, l17_0, l17_3] (60 * (4 - k) + 5 * (BN - S.2.2.1.length)) (400 * (4 - k) + 12 * (BN - S.2.2.1.length) + 4 * (TA - capF S.2.1.length) + 4 * (BA - capF S.2.2.1.length)) from ?_)
      exact g_iret B E dX3_lays_201 (⟨l17_2, l17_0, l17_3, rfl, rfl, hr_4, hr_5, hr_3⟩)
    · skip
      have hct9 : (cov (eTr ((eNo r, S.1, eGo r, eKy r, eCh r, S.2.2.2.2, eRm r, ePk r) : MeS)) (asd own k)).length = (cov S.1 (asd own k)).length := rfl
      have hcf9 : capF (cov (eTr ((eNo r, S.1, eGo r, eKy r, eCh r, S.2.2.2.2, eRm r, ePk r) : MeS)) (asd own k)).length = capF (cov S.1 (asd own k)).length := rfl
      have hkd : k + 1 ≤ (eTr r).1 := by have z9 := p2_lt c25; rw [hSd] at z9; exact z9
      have hnc : (nab own (k + 1)) < 31 := nab_b (k + 1) (by omega) own (by omega)
      have hlv : lev (nab own (k + 1)) = k + 1 := lev_nab own (by omega) (k + 1) (by omega)
      obtain ⟨has1, has2, has3⟩ := asd_b k (by omega) own (by omega)
      have hSm := layM_m own (ePk r) ((setN (eTr r) (2 * own) ss.length, ss ++ [drw z], bx, ss.length, eWy r) : LmS) (show k ≤ (eTr r).1 by omega)
      rw [← hS] at hSm
      obtain ⟨hm1, hm2, hm3⟩ := hSm
      have hm2 : S.2.1.length ≤ (layM own (ePk r) ((setN (eTr r) (2 * own) ss.length, ss ++ [drw z], bx, ss.length, eWy r) : LmS) (eTr r).1).2.1.length := hm2
      have hm3 : S.2.2.1.length ≤ (layM own (ePk r) ((setN (eTr r) (2 * own) ss.length, ss ++ [drw z], bx, ss.length, eWy r) : LmS) (eTr r).1).2.2.1.length := hm3
      have hNm := layM_m own (ePk r) ((setN (eTr r) (2 * own) ss.length, ss ++ [drw z], bx, ss.length, eWy r) : LmS) (show k + 1 ≤ (eTr r).1 by omega)
      have hNe : layM own (ePk r) ((setN (eTr r) (2 * own) ss.length, ss ++ [drw z], bx, ss.length, eWy r) : LmS) (k + 1) = layM1 own (ePk r) S k := by rw [hS]; rfl
      rw [hNe] at hNm
      obtain ⟨hn1, hn2, hn3⟩ := hNm
      have hn2 : (layM1 own (ePk r) S k).2.1.length ≤ (layM own (ePk r) ((setN (eTr r) (2 * own) ss.length, ss ++ [drw z], bx, ss.length, eWy r) : LmS) (eTr r).1).2.1.length := hn2
      have hn3 : (layM1 own (ePk r) S k).2.2.1.length ≤ (layM own (ePk r) ((setN (eTr r) (2 * own) ss.length, ss ++ [drw z], bx, ss.length, eWy r) : LmS) (eTr r).1).2.2.1.length := hn3
      have hcvl := hcl k (by omega)
      have hcve := hcv k (by omega)
      rw [← hS] at hcvl hcve
      have hcap := capF_le (cov S.1 (asd own k)).length
      have hsec := hsc k (by omega)
      rw [← hS] at hsec
      have hcb1 := capF_m hm3
      have hcb2 := capF_m hn3
      have hcb3 := capF_m hm2
      have hcb4 := capF_m hn2
      have hLk := hLt k (by omega)
      rw [← hS] at hLk
      have ct70 : Go g κ 70 [some (.ref m), some (.ref e), some (.int (nI own)), some (.int (nI S.2.2.2.1)), some (.int (nI (k + 1))), some (.int (nI (nab own (k + 1)))), none, none, none, none] [.int (nI (asd own k)), .ref e] [l17_0, [(m, .inr (12, [.ref ls, .ref lb, .ref lk, .ref lp, .ref lr, .ref le, .ref lm, .ref lo, .int (nI th), .int (lcg z), .int (nI bn), .int (nI cm)]))], l17_2, l17_3] (60 * (4 - k) + 5 * (BN - S.2.2.1.length)) (400 * (4 - k) + 12 * (BN - S.2.2.1.length) + 4 * (TA - capF S.2.1.length) + 4 * (BA - capF S.2.2.1.length)) := by
        refine g_callS (q := 73) (is := [3]) (kc2 := 19 + 60 * (3 - k) + 5 * (BN - S.2.2.1.length)) (ks2 := 110 + 400 * (3 - k) + 12 * (BN - S.2.2.1.length) + 4 * (TA - capF S.2.1.length) + 4 * (BA - capF S.2.2.1.length)) B [.ref e, .int (nI (asd own k))] (ct_X3_coverOf g J (e := e) (r := ((eNo r, S.1, eGo r, eKy r, eCh r, S.2.2.2.2, eRm r, ePk r) : MeS)) (n := (asd own k)) hl17_3 (hLk) (has1)) dX3_lays_70 rfl q3466 q3467 q85 q3468 rfl rfl moX3_coverOf rfl rfl (by decide) (by decide) (Nat.le_of_ble_eq_true rfl) (by omega) (by omega) (fun _ _ hx => noX_x hx) (fun v70 L1 hp70 => ?_)
        obtain ⟨p70, u1_70, rfl, rfl, hu1_70⟩ := hp70
        refine (show Go g κ 73 [some (.ref m), some (.ref e), some (.int (nI own)), some (.int (nI S.2.2.2.1)), some (.int (nI (k + 1))), some (.int (nI (nab own (k + 1)))), none, none, none, none] [.ref p70] [l17_0, [(m, .inr (12, [.ref ls, .ref lb, .ref lk, .ref lp, .ref lr, .ref le, .ref lm, .ref lo, .int (nI th), .int (lcg z), .int (nI bn), .int (nI cm)]))], l17_2, l17_3, u1_70] (19 + 60 * (3 - k) + 5 * (BN - S.2.2.1.length)) (110 + 400 * (3 - k) + 12 * (BN - S.2.2.1.length) + 4 * (TA - capF S.2.1.length) + 4 * (BA - capF S.2.2.1.length)) from ?_)
        refine g_astore (q := 75) (lv2 := [some (.ref m), some (.ref e), some (.int (nI own)), some (.int (nI S.2.2.2.1)), some (.int (nI (k + 1))), some (.int (nI (nab own (k + 1)))), none, some (.ref p70), none, none]) B dX3_lays_73 rfl (Nat.le_of_ble_eq_true rfl) (rv_r _) rfl ?_
        obtain ⟨ap_u, an_u, al_u, ac_u, aw_u, am_u, ak_u, fp_u, fn_u, fl_u, fc_u, fw_u, fm_u, fk_u, hE_u, hfp_u, hfn_u, hfl_u, hfc_u, hfw_u, hfm_u, hfk_u, rfl⟩ := hl17_3
        refine g_open 3 rfl rfl rfl ?_
        refine (show Go g κ 75 [some (.ref m), some (.ref e), some (.int (nI own)), some (.int (nI S.2.2.2.1)), some (.int (nI (k + 1))), some (.int (nI (nab own (k + 1)))), none, some (.ref p70), none, none] [] [l17_0, [(m, .inr (12, [.ref ls, .ref lb, .ref lk, .ref lp, .ref lr, .ref le, .ref lm, .ref lo, .int (nI th), .int (lcg z), .int (nI bn), .int (nI cm)]))], l17_2, u1_70, [(e, .inr (16, [.int (nI (eNo ((eNo r, S.1, eGo r, eKy r, eCh r, S.2.2.2.2, eRm r, ePk r) : MeS))), .int (nI (2 ^ (eTr ((eNo r, S.1, eGo r, eKy r, eCh r, S.2.2.2.2, eRm r, ePk r) : MeS)).1)), .int (nI (eGo ((eNo r, S.1, eGo r, eKy r, eCh r, S.2.2.2.2, eRm r, ePk r) : MeS))), .int (nI (eKy ((eNo r, S.1, eGo r, eKy r, eCh r, S.2.2.2.2, eRm r, ePk r) : MeS))), .ref ap_u, .ref an_u, .ref al_u, .ref ac_u, .ref aw_u, .ref am_u, .ref ak_u]))], [(ap_u, .inl (g.2.1 0, 16, .inl fp_u))], [(an_u, .inl (g.2.1 0, 31, .inl fn_u))], [(al_u, .inl (g.2.1 0, 31, .inl fl_u))], [(ac_u, .inl (g.2.1 0, 16, .inl fc_u))], [(aw_u, .inl (g.2.1 4, 31, .inl fw_u))], [(am_u, .inl (g.2.1 4, 16, .inl fm_u))], [(ak_u, .inl (g.2.1 0, 16, .inl fk_u))]] (19 + 60 * (3 - k) + 5 * (BN - S.2.2.1.length)) (110 + 400 * (3 - k) + 12 * (BN - S.2.2.1.length) + 4 * (TA - capF S.2.1.length) + 4 * (BA - capF S.2.2.1.length)) from ?_)
        refine g_aload_n (q := 76) B dX3_lays_75 rfl rfl (rv_r _) ?_
        refine g_getN (q := 79) B (ci := 16) (k := 4) (j := 5) in_X13 rfl dX3_lays_76 rfl rfl (Nat.le_of_ble_eq_true rfl) q3263 rfl rfl ?_
        refine g_iload (q := 81) B dX3_lays_79 rfl rfl ?_
        refine g_iconst (v := -1) (q := 82) B dX3_lays_81 rfl (by decide) ?_
        refine g_iast (q := 83) (L2 := [l17_0, [(m, .inr (12, [.ref ls, .ref lb, .ref lk, .ref lp, .ref lr, .ref le, .ref lm, .ref lo, .int (nI th), .int (lcg z), .int (nI bn), .int (nI cm)]))], l17_2, u1_70, [(e, .inr (16, [.int (nI (eNo ((eNo r, S.1, eGo r, eKy r, eCh r, S.2.2.2.2, eRm r, ePk r) : MeS))), .int (nI (2 ^ (eTr ((eNo r, S.1, eGo r, eKy r, eCh r, S.2.2.2.2, eRm r, ePk r) : MeS)).1)), .int (nI (eGo ((eNo r, S.1, eGo r, eKy r, eCh r, S.2.2.2.2, eRm r, ePk r) : MeS))), .int (nI (eKy ((eNo r, S.1, eGo r, eKy r, eCh r, S.2.2.2.2, eRm r, ePk r) : MeS))), .ref ap_u, .ref an_u, .ref al_u, .ref ac_u, .ref aw_u, .ref am_u, .ref ak_u]))], [(ap_u, .inl (g.2.1 0, 16, .inl fp_u))], [(an_u, .inl (g.2.1 0, 31, .inl (upd fn_u (nab own (k + 1)) (-1))))], [(al_u, .inl (g.2.1 0, 31, .inl fl_u))], [(ac_u, .inl (g.2.1 0, 16, .inl fc_u))], [(aw_u, .inl (g.2.1 4, 31, .inl fw_u))], [(am_u, .inl (g.2.1 4, 16, .inl fm_u))], [(ak_u, .inl (g.2.1 0, 16, .inl fk_u))]]) B (k := 6) dX3_lays_82 rfl rfl (vp_in_nI (by omega) (by omega)) (by rw [nI_clamp (by omega)] <;> rfl) ?_
        obtain ⟨f82, ef82⟩ : ∃ f : Nat → Int32, f = upd fn_u (nab own (k + 1)) (-1) := ⟨_, rfl⟩
        have hf82 : ∀ i, i < 31 → f82 i = oI (fup ((eTr ((eNo r, S.1, eGo r, eKy r, eCh r, S.2.2.2.2, eRm r, ePk r) : MeS)).2.1) (nab own (k + 1)) none i) := by rw [ef82]; exact upd_oI hfn_u _ none
        rw [← ef82]
        refine (show Go g κ 83 [some (.ref m), some (.ref e), some (.int (nI own)), some (.int (nI S.2.2.2.1)), some (.int (nI (k + 1))), some (.int (nI (nab own (k + 1)))), none, some (.ref p70), none, none] [] [l17_0, [(m, .inr (12, [.ref ls, .ref lb, .ref lk, .ref lp, .ref lr, .ref le, .ref lm, .ref lo, .int (nI th), .int (lcg z), .int (nI bn), .int (nI cm)]))], l17_2, u1_70, [(e, .inr (16, [.int (nI (eNo ((eNo r, S.1, eGo r, eKy r, eCh r, S.2.2.2.2, eRm r, ePk r) : MeS))), .int (nI (2 ^ (eTr ((eNo r, S.1, eGo r, eKy r, eCh r, S.2.2.2.2, eRm r, ePk r) : MeS)).1)), .int (nI (eGo ((eNo r, S.1, eGo r, eKy r, eCh r, S.2.2.2.2, eRm r, ePk r) : MeS))), .int (nI (eKy ((eNo r, S.1, eGo r, eKy r, eCh r, S.2.2.2.2, eRm r, ePk r) : MeS))), .ref ap_u, .ref an_u, .ref al_u, .ref ac_u, .ref aw_u, .ref am_u, .ref ak_u]))], [(ap_u, .inl (g.2.1 0, 16, .inl fp_u))], [(an_u, .inl (g.2.1 0, 31, .inl f82))], [(al_u, .inl (g.2.1 0, 31, .inl fl_u))], [(ac_u, .inl (g.2.1 0, 16, .inl fc_u))], [(aw_u, .inl (g.2.1 4, 31, .inl fw_u))], [(am_u, .inl (g.2.1 4, 16, .inl fm_u))], [(ak_u, .inl (g.2.1 0, 16, .inl fk_u))]] (19 + 60 * (3 - k) + 5 * (BN - S.2.2.1.length)) (110 + 400 * (3 - k) + 12 * (BN - S.2.2.1.length) + 4 * (TA - capF S.2.1.length) + 4 * (BA - capF S.2.2.1.length)) from ?_)
        refine g_aload_n (q := 84) B dX3_lays_83 rfl rfl (rv_r _) ?_
        refine g_getN (q := 87) B (ci := 16) (k := 4) (j := 6) in_X13 rfl dX3_lays_84 rfl rfl (Nat.le_of_ble_eq_true rfl) q3265 rfl rfl ?_
        refine g_iload (q := 89) B dX3_lays_87 rfl rfl ?_
        refine g_iconst (v := nI 0) (q := 90) B dX3_lays_89 rfl (by decide) ?_
        refine g_iast (q := 91) (L2 := [l17_0, [(m, .inr (12, [.ref ls, .ref lb, .ref lk, .ref lp, .ref lr, .ref le, .ref lm, .ref lo, .int (nI th), .int (lcg z), .int (nI bn), .int (nI cm)]))], l17_2, u1_70, [(e, .inr (16, [.int (nI (eNo ((eNo r, S.1, eGo r, eKy r, eCh r, S.2.2.2.2, eRm r, ePk r) : MeS))), .int (nI (2 ^ (eTr ((eNo r, S.1, eGo r, eKy r, eCh r, S.2.2.2.2, eRm r, ePk r) : MeS)).1)), .int (nI (eGo ((eNo r, S.1, eGo r, eKy r, eCh r, S.2.2.2.2, eRm r, ePk r) : MeS))), .int (nI (eKy ((eNo r, S.1, eGo r, eKy r, eCh r, S.2.2.2.2, eRm r, ePk r) : MeS))), .ref ap_u, .ref an_u, .ref al_u, .ref ac_u, .ref aw_u, .ref am_u, .ref ak_u]))], [(ap_u, .inl (g.2.1 0, 16, .inl fp_u))], [(an_u, .inl (g.2.1 0, 31, .inl f82))], [(al_u, .inl (g.2.1 0, 31, .inl (upd fl_u (nab own (k + 1)) (nI 0))))], [(ac_u, .inl (g.2.1 0, 16, .inl fc_u))], [(aw_u, .inl (g.2.1 4, 31, .inl fw_u))], [(am_u, .inl (g.2.1 4, 16, .inl fm_u))], [(ak_u, .inl (g.2.1 0, 16, .inl fk_u))]]) B (k := 7) dX3_lays_90 rfl rfl (vp_in_nI (by omega) (by omega)) (by rw [nI_clamp (by omega)] <;> rfl) ?_
        obtain ⟨f90, ef90⟩ : ∃ f : Nat → Int32, f = upd fl_u (nab own (k + 1)) (nI 0) := ⟨_, rfl⟩
        have hf90 : ∀ i, i < 31 → f90 i = nI (fup ((eTr ((eNo r, S.1, eGo r, eKy r, eCh r, S.2.2.2.2, eRm r, ePk r) : MeS)).2.2.1) (nab own (k + 1)) 0 i) := by rw [ef90]; exact upd_nI hfl_u _ 0
        rw [← ef90]
        refine (show Go g κ 91 [some (.ref m), some (.ref e), some (.int (nI own)), some (.int (nI S.2.2.2.1)), some (.int (nI (k + 1))), some (.int (nI (nab own (k + 1)))), none, some (.ref p70), none, none] [] [l17_0, [(m, .inr (12, [.ref ls, .ref lb, .ref lk, .ref lp, .ref lr, .ref le, .ref lm, .ref lo, .int (nI th), .int (lcg z), .int (nI bn), .int (nI cm)]))], l17_2, u1_70, [(e, .inr (16, [.int (nI (eNo ((eNo r, S.1, eGo r, eKy r, eCh r, S.2.2.2.2, eRm r, ePk r) : MeS))), .int (nI (2 ^ (eTr ((eNo r, S.1, eGo r, eKy r, eCh r, S.2.2.2.2, eRm r, ePk r) : MeS)).1)), .int (nI (eGo ((eNo r, S.1, eGo r, eKy r, eCh r, S.2.2.2.2, eRm r, ePk r) : MeS))), .int (nI (eKy ((eNo r, S.1, eGo r, eKy r, eCh r, S.2.2.2.2, eRm r, ePk r) : MeS))), .ref ap_u, .ref an_u, .ref al_u, .ref ac_u, .ref aw_u, .ref am_u, .ref ak_u]))], [(ap_u, .inl (g.2.1 0, 16, .inl fp_u))], [(an_u, .inl (g.2.1 0, 31, .inl f82))], [(al_u, .inl (g.2.1 0, 31, .inl f90))], [(ac_u, .inl (g.2.1 0, 16, .inl fc_u))], [(aw_u, .inl (g.2.1 4, 31, .inl fw_u))], [(am_u, .inl (g.2.1 4, 16, .inl fm_u))], [(ak_u, .inl (g.2.1 0, 16, .inl fk_u))]] (19 + 60 * (3 - k) + 5 * (BN - S.2.2.1.length)) (110 + 400 * (3 - k) + 12 * (BN - S.2.2.1.length) + 4 * (TA - capF S.2.1.length) + 4 * (BA - capF S.2.2.1.length)) from ?_)
        obtain ⟨wc_6, ewc_6⟩ : ∃ w : va_W, w = ([[(e, .inr (16, [.int (nI (eNo ((eNo r, S.1, eGo r, eKy r, eCh r, S.2.2.2.2, eRm r, ePk r) : MeS))), .int (nI (2 ^ (eTr ((eNo r, S.1, eGo r, eKy r, eCh r, S.2.2.2.2, eRm r, ePk r) : MeS)).1)), .int (nI (eGo ((eNo r, S.1, eGo r, eKy r, eCh r, S.2.2.2.2, eRm r, ePk r) : MeS))), .int (nI (eKy ((eNo r, S.1, eGo r, eKy r, eCh r, S.2.2.2.2, eRm r, ePk r) : MeS))), .ref ap_u, .ref an_u, .ref al_u, .ref ac_u, .ref aw_u, .ref am_u, .ref ak_u]))], [(ap_u, .inl (g.2.1 0, 16, .inl fp_u))], [(an_u, .inl (g.2.1 0, 31, .inl f82))], [(al_u, .inl (g.2.1 0, 31, .inl f90))], [(ac_u, .inl (g.2.1 0, 16, .inl fc_u))], [(aw_u, .inl (g.2.1 4, 31, .inl fw_u))], [(am_u, .inl (g.2.1 4, 16, .inl fm_u))], [(ak_u, .inl (g.2.1 0, 16, .inl fk_u))]] : List va_W).flatten := ⟨_, rfl⟩
        have hwc_6 : EpP g e ((eNo r, (blkN S.1 (nab own (k + 1))), eGo r, eKy r, eCh r, S.2.2.2.2, eRm r, ePk r) : MeS) wc_6 := by
          rw [ewc_6]
          exact ⟨ap_u, an_u, al_u, ac_u, aw_u, am_u, ak_u, fp_u, f82, f90, fc_u, fw_u, fm_u, fk_u, (MeB.tr (r := ((eNo r, S.1, eGo r, eKy r, eCh r, S.2.2.2.2, eRm r, ePk r) : MeS)) hE_u (TrB.blkN hE_u.2.1 _)), hfp_u, hf82, hf90, hfc_u, hfw_u, hfm_u, hfk_u, rfl⟩
        refine g_close (w := wc_6) [4, 4, 4, 4, 4, 4, 4, 4] rfl ewc_6 rfl ?_
        refine (show Go g κ 91 [some (.ref m), some (.ref e), some (.int (nI own)), some (.int (nI S.2.2.2.1)), some (.int (nI (k + 1))), some (.int (nI (nab own (k + 1)))), none, some (.ref p70), none, none] [] [l17_0, [(m, .inr (12, [.ref ls, .ref lb, .ref lk, .ref lp, .ref lr, .ref le, .ref lm, .ref lo, .int (nI th), .int (lcg z), .int (nI bn), .int (nI cm)]))], l17_2, u1_70, wc_6] (19 + 60 * (3 - k) + 5 * (BN - S.2.2.1.length)) (110 + 400 * (3 - k) + 12 * (BN - S.2.2.1.length) + 4 * (TA - capF S.2.1.length) + 4 * (BA - capF S.2.2.1.length)) from ?_)
        refine g_aload (q := 93) B dX3_lays_91 rfl rfl (rv_r _) ?_
        obtain ⟨ps_7, md_7, hli_7, hln_7, hel_7⟩ := LhP.at (Sub.self hu1_70)
        refine g_callV (q := 96) (is := [3]) (kc2 := 19 + 60 * (3 - k) + 5 * (BN - S.2.2.1.length)) (ks2 := 110 + 400 * (3 - k) + 12 * (BN - S.2.2.1.length) + 4 * (TA - capF S.2.1.length) + 4 * (BA - capF S.2.2.1.length)) B [] (ct_J2_isEmpty_s g J (p := p70) (xs := ps_7) (md := md_7) (cap := (capF (cov (eTr ((eNo r, S.1, eGo r, eKy r, eCh r, S.2.2.2.2, eRm r, ePk r) : MeS)) (asd own k)).length)) (W0 := u1_70)  (hli_7)) dX3_lays_93 rfl (rc_in B (ci := 21) rfl (k := 3) rfl (LhP.hm hu1_70)) rfl q3248 q1130 q3669 q81 q1132 rfl rfl moJ2_isEmpty rfl rfl (by decide) (by decide) (Nat.le_of_ble_eq_true rfl) (by omega) (by omega) (fun _ _ hx => noX_x hx) (fun v93 L1 hp93 => ?_)
        obtain ⟨rfl, rfl⟩ := hp93
        refine (show Go g κ 96 [some (.ref m), some (.ref e), some (.int (nI own)), some (.int (nI S.2.2.2.1)), some (.int (nI (k + 1))), some (.int (nI (nab own (k + 1)))), none, some (.ref p70), none, none] [.int (nI (if ps_7.length = 0 then 1 else 0))] [l17_0, [(m, .inr (12, [.ref ls, .ref lb, .ref lk, .ref lp, .ref lr, .ref le, .ref lm, .ref lo, .int (nI th), .int (lcg z), .int (nI bn), .int (nI cm)]))], l17_2, wc_6, u1_70] (19 + 60 * (3 - k) + 5 * (BN - S.2.2.1.length)) (110 + 400 * (3 - k) + 12 * (BN - S.2.2.1.length) + 4 * (TA - capF S.2.1.length) + 4 * (BA - capF S.2.2.1.length)) from ?_)
        rw [hln_7.1]
        refine (show Go g κ 96 [some (.ref m), some (.ref e), some (.int (nI own)), some (.int (nI S.2.2.2.1)), some (.int (nI (k + 1))), some (.int (nI (nab own (k + 1)))), none, some (.ref p70), none, none] [.int (nI (if (cov (eTr ((eNo r, S.1, eGo r, eKy r, eCh r, S.2.2.2.2, eRm r, ePk r) : MeS)) (asd own k)).length = 0 then 1 else 0))] [l17_0, [(m, .inr (12, [.ref ls, .ref lb, .ref lk, .ref lp, .ref lr, .ref le, .ref lm, .ref lo, .int (nI th), .int (lcg z), .int (nI bn), .int (nI cm)]))], l17_2, wc_6, u1_70] (19 + 60 * (3 - k) + 5 * (BN - S.2.2.1.length)) (110 + 400 * (3 - k) + 12 * (BN - S.2.2.1.length) + 4 * (TA - capF S.2.1.length) + 4 * (BA - capF S.2.2.1.length)) from ?_)
        refine g_if_eq (tgt := 102) (q := 99) B dX3_lays_96 rfl (by decide) (bo_eq) (fun c96 => ?_) (fun c96 => ?_)
        · skip
          have hne : (cov S.1 (asd own k)) ≠ [] := fun z => c96 (by rw [z]; rfl)
          obtain ⟨⟨q1, s1⟩, hq⟩ : ∃ p, frm S.2.1 (S.2.2.2.1, none, 2) = p := ⟨_, rfl⟩
          have hq1 := Ph_fr hq
          have hly := layM1_y (pk := ePk r) hne hq
          rw [hly] at hn2 hn3 hcb2 hcb4
          have hU0 := bxmL_m (setN (blkN S.1 (nab own (k + 1))) (nab own (k + 1)) s1) (ePk r) s1 (cov S.1 (asd own k)) (q1, S.2.2.1)
          obtain ⟨hu1, hu2, hu3⟩ := hU0
          have hcvh := hcve s1 (by rw [hq])
          have hn2 : (bxmF (setN (blkN S.1 (nab own (k + 1))) (nab own (k + 1)) s1) (ePk r) s1 (cov S.1 (asd own k)) (q1, S.2.2.1)).1.length ≤ (layM own (ePk r) ((setN (eTr r) (2 * own) ss.length, ss ++ [drw z], bx, ss.length, eWy r) : LmS) (eTr r).1).2.1.length := hn2
          have hn3 : (bxmF (setN (blkN S.1 (nab own (k + 1))) (nab own (k + 1)) s1) (ePk r) s1 (cov S.1 (asd own k)) (q1, S.2.2.1)).2.length ≤ (layM own (ePk r) ((setN (eTr r) (2 * own) ss.length, ss ++ [drw z], bx, ss.length, eWy r) : LmS) (eTr r).1).2.2.1.length := hn3
          have hu2 : q1.length ≤ (bxmF (setN (blkN S.1 (nab own (k + 1))) (nab own (k + 1)) s1) (ePk r) s1 (cov S.1 (asd own k)) (q1, S.2.2.1)).1.length := hu2
          have hu3 : S.2.2.1.length ≤ (bxmF (setN (blkN S.1 (nab own (k + 1))) (nab own (k + 1)) s1) (ePk r) s1 (cov S.1 (asd own k)) (q1, S.2.2.1)).2.length := hu3
          have hcu1 := capF_m hu2
          have hcu2 := capF_m hq1.2.1
          have hcx1 := capF_m hn2
          have hcx2 := capF_m hn3
          have hv1 : ((q1, S.2.2.1) : BxS).1.length = q1.length := rfl
          have hv2 : ((q1, S.2.2.1) : BxS).2.length = S.2.2.1.length := rfl
          have hv3 : capF ((q1, S.2.2.1) : BxS).1.length = capF q1.length := rfl
          have hv4 : capF ((q1, S.2.2.1) : BxS).2.length = capF S.2.2.1.length := rfl
          refine g_aload_n (q := 103) B dX3_lays_102 rfl rfl (rv_r _) ?_
          refine g_iload_n (q := 104) B dX3_lays_103 rfl rfl ?_
          refine g_iconst (v := -1) (q := 105) B dX3_lays_104 rfl (by decide) ?_
          refine g_iconst (v := nI 2) (q := 106) B dX3_lays_105 rfl (by decide) ?_
          refine g_callV (q := 109) (is := [1, 1]) (kc2 := 15 + 60 * (3 - k) + 5 * (BN - S.2.2.1.length)) (ks2 := 100 + 400 * (3 - k) + 12 * (BN - S.2.2.1.length) + 4 * (TA - capF q1.length) + 4 * (BA - capF S.2.2.1.length)) B [.int (nI S.2.2.2.1), .int (-1), .int (nI 2)] (ct_X3_of g J (m := m) (ls := ls) (lb := lb) (lk := lk) (lp := lp) (lr := lr) (le := le) (lm := lm) (lo := lo) (th := th) (z := (lcg z)) (bo := bn) (cm := cm) (ss := S.2.1) (o := S.2.2.2.1) (q := none) (l := 2) (s2 := q1) (i := s1) hl17_2 (by omega) (hsec) (fun n h => by cases h) (by decide) (hq)) dX3_lays_106 rfl (rc_at B (ci := 12) rfl (k := 1) rfl) rfl q3302 q3304 qs57 q85 q3305 rfl rfl moX3_of rfl rfl (by decide) (by decide) (Nat.le_of_ble_eq_true rfl) (by omega) (by omega) (fun _ _ hx => noX_x hx) (fun v106 L1 hp106 => ?_)
          obtain ⟨u1_106, rfl, rfl, hu1_106⟩ := hp106
          refine (show Go g κ 109 [some (.ref m), some (.ref e), some (.int (nI own)), some (.int (nI S.2.2.2.1)), some (.int (nI (k + 1))), some (.int (nI (nab own (k + 1)))), none, some (.ref p70), none, none] [.int (nI s1)] [l17_0, wc_6, u1_70, [(m, .inr (12, [.ref ls, .ref lb, .ref lk, .ref lp, .ref lr, .ref le, .ref lm, .ref lo, .int (nI th), .int (lcg z), .int (nI bn), .int (nI cm)]))], u1_106] (15 + 60 * (3 - k) + 5 * (BN - S.2.2.1.length)) (100 + 400 * (3 - k) + 12 * (BN - S.2.2.1.length) + 4 * (TA - capF q1.length) + 4 * (BA - capF S.2.2.1.length)) from ?_)
          refine g_istore_n (q := 110) (lv2 := [some (.ref m), some (.ref e), some (.int (nI own)), some (.int (nI s1)), some (.int (nI (k + 1))), some (.int (nI (nab own (k + 1)))), none, some (.ref p70), none, none]) B dX3_lays_109 rfl (Nat.le_of_ble_eq_true rfl) rfl ?_
          obtain ⟨ap_v, an_v, al_v, ac_v, aw_v, am_v, ak_v, fp_v, fn_v, fl_v, fc_v, fw_v, fm_v, fk_v, hE_v, hfp_v, hfn_v, hfl_v, hfc_v, hfw_v, hfm_v, hfk_v, rfl⟩ := hwc_6
          refine g_open 1 rfl rfl rfl ?_
          refine (show Go g κ 110 [some (.ref m), some (.ref e), some (.int (nI own)), some (.int (nI s1)), some (.int (nI (k + 1))), some (.int (nI (nab own (k + 1)))), none, some (.ref p70), none, none] [] [l17_0, u1_70, [(m, .inr (12, [.ref ls, .ref lb, .ref lk, .ref lp, .ref lr, .ref le, .ref lm, .ref lo, .int (nI th), .int (lcg z), .int (nI bn), .int (nI cm)]))], u1_106, [(e, .inr (16, [.int (nI (eNo ((eNo r, (blkN S.1 (nab own (k + 1))), eGo r, eKy r, eCh r, S.2.2.2.2, eRm r, ePk r) : MeS))), .int (nI (2 ^ (eTr ((eNo r, (blkN S.1 (nab own (k + 1))), eGo r, eKy r, eCh r, S.2.2.2.2, eRm r, ePk r) : MeS)).1)), .int (nI (eGo ((eNo r, (blkN S.1 (nab own (k + 1))), eGo r, eKy r, eCh r, S.2.2.2.2, eRm r, ePk r) : MeS))), .int (nI (eKy ((eNo r, (blkN S.1 (nab own (k + 1))), eGo r, eKy r, eCh r, S.2.2.2.2, eRm r, ePk r) : MeS))), .ref ap_v, .ref an_v, .ref al_v, .ref ac_v, .ref aw_v, .ref am_v, .ref ak_v]))], [(ap_v, .inl (g.2.1 0, 16, .inl fp_v))], [(an_v, .inl (g.2.1 0, 31, .inl fn_v))], [(al_v, .inl (g.2.1 0, 31, .inl fl_v))], [(ac_v, .inl (g.2.1 0, 16, .inl fc_v))], [(aw_v, .inl (g.2.1 4, 31, .inl fw_v))], [(am_v, .inl (g.2.1 4, 16, .inl fm_v))], [(ak_v, .inl (g.2.1 0, 16, .inl fk_v))]] (15 + 60 * (3 - k) + 5 * (BN - S.2.2.1.length)) (100 + 400 * (3 - k) + 12 * (BN - S.2.2.1.length) + 4 * (TA - capF q1.length) + 4 * (BA - capF S.2.2.1.length)) from ?_)
          refine g_aload_n (q := 111) B dX3_lays_110 rfl rfl (rv_r _) ?_
          refine g_getN (q := 114) B (ci := 16) (k := 4) (j := 5) in_X13 rfl dX3_lays_111 rfl rfl (Nat.le_of_ble_eq_true rfl) q3263 rfl rfl ?_
          refine g_iload (q := 116) B dX3_lays_114 rfl rfl ?_
          refine g_iload_n (q := 117) B dX3_lays_116 rfl rfl ?_
          refine g_iast (q := 118) (L2 := [l17_0, u1_70, [(m, .inr (12, [.ref ls, .ref lb, .ref lk, .ref lp, .ref lr, .ref le, .ref lm, .ref lo, .int (nI th), .int (lcg z), .int (nI bn), .int (nI cm)]))], u1_106, [(e, .inr (16, [.int (nI (eNo ((eNo r, (blkN S.1 (nab own (k + 1))), eGo r, eKy r, eCh r, S.2.2.2.2, eRm r, ePk r) : MeS))), .int (nI (2 ^ (eTr ((eNo r, (blkN S.1 (nab own (k + 1))), eGo r, eKy r, eCh r, S.2.2.2.2, eRm r, ePk r) : MeS)).1)), .int (nI (eGo ((eNo r, (blkN S.1 (nab own (k + 1))), eGo r, eKy r, eCh r, S.2.2.2.2, eRm r, ePk r) : MeS))), .int (nI (eKy ((eNo r, (blkN S.1 (nab own (k + 1))), eGo r, eKy r, eCh r, S.2.2.2.2, eRm r, ePk r) : MeS))), .ref ap_v, .ref an_v, .ref al_v, .ref ac_v, .ref aw_v, .ref am_v, .ref ak_v]))], [(ap_v, .inl (g.2.1 0, 16, .inl fp_v))], [(an_v, .inl (g.2.1 0, 31, .inl (upd fn_v (nab own (k + 1)) (nI s1))))], [(al_v, .inl (g.2.1 0, 31, .inl fl_v))], [(ac_v, .inl (g.2.1 0, 16, .inl fc_v))], [(aw_v, .inl (g.2.1 4, 31, .inl fw_v))], [(am_v, .inl (g.2.1 4, 16, .inl fm_v))], [(ak_v, .inl (g.2.1 0, 16, .inl fk_v))]]) B (k := 6) dX3_lays_117 rfl rfl (vp_in_nI (by omega) (by omega)) (by rw [nI_clamp (by omega)] <;> rfl) ?_
          obtain ⟨f117, ef117⟩ : ∃ f : Nat → Int32, f = upd fn_v (nab own (k + 1)) (nI s1) := ⟨_, rfl⟩
          have hf117 : ∀ i, i < 31 → f117 i = oI (fup ((eTr ((eNo r, (blkN S.1 (nab own (k + 1))), eGo r, eKy r, eCh r, S.2.2.2.2, eRm r, ePk r) : MeS)).2.1) (nab own (k + 1)) (some s1) i) := by rw [ef117]; exact upd_oI hfn_v _ (some s1)
          rw [← ef117]
          refine (show Go g κ 118 [some (.ref m), some (.ref e), some (.int (nI own)), some (.int (nI s1)), some (.int (nI (k + 1))), some (.int (nI (nab own (k + 1)))), none, some (.ref p70), none, none] [] [l17_0, u1_70, [(m, .inr (12, [.ref ls, .ref lb, .ref lk, .ref lp, .ref lr, .ref le, .ref lm, .ref lo, .int (nI th), .int (lcg z), .int (nI bn), .int (nI cm)]))], u1_106, [(e, .inr (16, [.int (nI (eNo ((eNo r, (blkN S.1 (nab own (k + 1))), eGo r, eKy r, eCh r, S.2.2.2.2, eRm r, ePk r) : MeS))), .int (nI (2 ^ (eTr ((eNo r, (blkN S.1 (nab own (k + 1))), eGo r, eKy r, eCh r, S.2.2.2.2, eRm r, ePk r) : MeS)).1)), .int (nI (eGo ((eNo r, (blkN S.1 (nab own (k + 1))), eGo r, eKy r, eCh r, S.2.2.2.2, eRm r, ePk r) : MeS))), .int (nI (eKy ((eNo r, (blkN S.1 (nab own (k + 1))), eGo r, eKy r, eCh r, S.2.2.2.2, eRm r, ePk r) : MeS))), .ref ap_v, .ref an_v, .ref al_v, .ref ac_v, .ref aw_v, .ref am_v, .ref ak_v]))], [(ap_v, .inl (g.2.1 0, 16, .inl fp_v))], [(an_v, .inl (g.2.1 0, 31, .inl f117))], [(al_v, .inl (g.2.1 0, 31, .inl fl_v))], [(ac_v, .inl (g.2.1 0, 16, .inl fc_v))], [(aw_v, .inl (g.2.1 4, 31, .inl fw_v))], [(am_v, .inl (g.2.1 4, 16, .inl fm_v))], [(ak_v, .inl (g.2.1 0, 16, .inl fk_v))]] (15 + 60 * (3 - k) + 5 * (BN - S.2.2.1.length)) (100 + 400 * (3 - k) + 12 * (BN - S.2.2.1.length) + 4 * (TA - capF q1.length) + 4 * (BA - capF S.2.2.1.length)) from ?_)
          refine g_aload_n (q := 119) B dX3_lays_118 rfl rfl (rv_r _) ?_
          refine g_getN (q := 122) B (ci := 16) (k := 4) (j := 8) in_X13 rfl dX3_lays_119 rfl rfl (Nat.le_of_ble_eq_true rfl) q3269 rfl rfl ?_
          refine g_iload (q := 124) B dX3_lays_122 rfl rfl ?_
          refine g_iconst (v := nI 1) (q := 125) B dX3_lays_124 rfl (by decide) ?_
          refine g_zast (q := 126) (L2 := [l17_0, u1_70, [(m, .inr (12, [.ref ls, .ref lb, .ref lk, .ref lp, .ref lr, .ref le, .ref lm, .ref lo, .int (nI th), .int (lcg z), .int (nI bn), .int (nI cm)]))], u1_106, [(e, .inr (16, [.int (nI (eNo ((eNo r, (blkN S.1 (nab own (k + 1))), eGo r, eKy r, eCh r, S.2.2.2.2, eRm r, ePk r) : MeS))), .int (nI (2 ^ (eTr ((eNo r, (blkN S.1 (nab own (k + 1))), eGo r, eKy r, eCh r, S.2.2.2.2, eRm r, ePk r) : MeS)).1)), .int (nI (eGo ((eNo r, (blkN S.1 (nab own (k + 1))), eGo r, eKy r, eCh r, S.2.2.2.2, eRm r, ePk r) : MeS))), .int (nI (eKy ((eNo r, (blkN S.1 (nab own (k + 1))), eGo r, eKy r, eCh r, S.2.2.2.2, eRm r, ePk r) : MeS))), .ref ap_v, .ref an_v, .ref al_v, .ref ac_v, .ref aw_v, .ref am_v, .ref ak_v]))], [(ap_v, .inl (g.2.1 0, 16, .inl fp_v))], [(an_v, .inl (g.2.1 0, 31, .inl f117))], [(al_v, .inl (g.2.1 0, 31, .inl fl_v))], [(ac_v, .inl (g.2.1 0, 16, .inl fc_v))], [(aw_v, .inl (g.2.1 4, 31, .inl (upd fw_v (nab own (k + 1)) (vp_nar .boolean (nI 1)))))], [(am_v, .inl (g.2.1 4, 16, .inl fm_v))], [(ak_v, .inl (g.2.1 0, 16, .inl fk_v))]]) B (k := 9) dX3_lays_125 rfl rfl (vp_in_nI (by omega) (by omega)) (by rw [nI_clamp (by omega)] <;> rfl) ?_
          obtain ⟨f125, ef125⟩ : ∃ f : Nat → Int32, f = upd fw_v (nab own (k + 1)) (vp_nar .boolean (nI 1)) := ⟨_, rfl⟩
          have hf125 : ∀ i, i < 31 → f125 i = bI (fup (eWy ((eNo r, (blkN S.1 (nab own (k + 1))), eGo r, eKy r, eCh r, S.2.2.2.2, eRm r, ePk r) : MeS)) (nab own (k + 1)) true i) := by rw [ef125]; exact upd_bI hfw_v _ true
          rw [← ef125]
          refine (show Go g κ 126 [some (.ref m), some (.ref e), some (.int (nI own)), some (.int (nI s1)), some (.int (nI (k + 1))), some (.int (nI (nab own (k + 1)))), none, some (.ref p70), none, none] [] [l17_0, u1_70, [(m, .inr (12, [.ref ls, .ref lb, .ref lk, .ref lp, .ref lr, .ref le, .ref lm, .ref lo, .int (nI th), .int (lcg z), .int (nI bn), .int (nI cm)]))], u1_106, [(e, .inr (16, [.int (nI (eNo ((eNo r, (blkN S.1 (nab own (k + 1))), eGo r, eKy r, eCh r, S.2.2.2.2, eRm r, ePk r) : MeS))), .int (nI (2 ^ (eTr ((eNo r, (blkN S.1 (nab own (k + 1))), eGo r, eKy r, eCh r, S.2.2.2.2, eRm r, ePk r) : MeS)).1)), .int (nI (eGo ((eNo r, (blkN S.1 (nab own (k + 1))), eGo r, eKy r, eCh r, S.2.2.2.2, eRm r, ePk r) : MeS))), .int (nI (eKy ((eNo r, (blkN S.1 (nab own (k + 1))), eGo r, eKy r, eCh r, S.2.2.2.2, eRm r, ePk r) : MeS))), .ref ap_v, .ref an_v, .ref al_v, .ref ac_v, .ref aw_v, .ref am_v, .ref ak_v]))], [(ap_v, .inl (g.2.1 0, 16, .inl fp_v))], [(an_v, .inl (g.2.1 0, 31, .inl f117))], [(al_v, .inl (g.2.1 0, 31, .inl fl_v))], [(ac_v, .inl (g.2.1 0, 16, .inl fc_v))], [(aw_v, .inl (g.2.1 4, 31, .inl f125))], [(am_v, .inl (g.2.1 4, 16, .inl fm_v))], [(ak_v, .inl (g.2.1 0, 16, .inl fk_v))]] (15 + 60 * (3 - k) + 5 * (BN - S.2.2.1.length)) (100 + 400 * (3 - k) + 12 * (BN - S.2.2.1.length) + 4 * (TA - capF q1.length) + 4 * (BA - capF S.2.2.1.length)) from ?_)
          obtain ⟨wc_8, ewc_8⟩ : ∃ w : va_W, w = ([[(e, .inr (16, [.int (nI (eNo ((eNo r, (blkN S.1 (nab own (k + 1))), eGo r, eKy r, eCh r, S.2.2.2.2, eRm r, ePk r) : MeS))), .int (nI (2 ^ (eTr ((eNo r, (blkN S.1 (nab own (k + 1))), eGo r, eKy r, eCh r, S.2.2.2.2, eRm r, ePk r) : MeS)).1)), .int (nI (eGo ((eNo r, (blkN S.1 (nab own (k + 1))), eGo r, eKy r, eCh r, S.2.2.2.2, eRm r, ePk r) : MeS))), .int (nI (eKy ((eNo r, (blkN S.1 (nab own (k + 1))), eGo r, eKy r, eCh r, S.2.2.2.2, eRm r, ePk r) : MeS))), .ref ap_v, .ref an_v, .ref al_v, .ref ac_v, .ref aw_v, .ref am_v, .ref ak_v]))], [(ap_v, .inl (g.2.1 0, 16, .inl fp_v))], [(an_v, .inl (g.2.1 0, 31, .inl f117))], [(al_v, .inl (g.2.1 0, 31, .inl fl_v))], [(ac_v, .inl (g.2.1 0, 16, .inl fc_v))], [(aw_v, .inl (g.2.1 4, 31, .inl f125))], [(am_v, .inl (g.2.1 4, 16, .inl fm_v))], [(ak_v, .inl (g.2.1 0, 16, .inl fk_v))]] : List va_W).flatten := ⟨_, rfl⟩
          have hwc_8 : EpP g e ((eNo r, (setN (blkN S.1 (nab own (k + 1))) (nab own (k + 1)) s1), eGo r, eKy r, eCh r, fup S.2.2.2.2 (nab own (k + 1)) true, eRm r, ePk r) : MeS) wc_8 := by
            rw [ewc_8]
            exact ⟨ap_v, an_v, al_v, ac_v, aw_v, am_v, ak_v, fp_v, f117, fl_v, fc_v, f125, fm_v, fk_v, (MeB.tr (r := ((eNo r, (blkN S.1 (nab own (k + 1))), eGo r, eKy r, eCh r, fup S.2.2.2.2 (nab own (k + 1)) true, eRm r, ePk r) : MeS)) hE_v (setN_b hE_v.2.1 _ (by omega))), hfp_v, hf117, hfl_v, hfc_v, hf125, hfm_v, hfk_v, rfl⟩
          refine g_close (w := wc_8) [4, 4, 4, 4, 4, 4, 4, 4] rfl ewc_8 rfl ?_
          refine (show Go g κ 126 [some (.ref m), some (.ref e), some (.int (nI own)), some (.int (nI s1)), some (.int (nI (k + 1))), some (.int (nI (nab own (k + 1)))), none, some (.ref p70), none, none] [] [l17_0, u1_70, [(m, .inr (12, [.ref ls, .ref lb, .ref lk, .ref lp, .ref lr, .ref le, .ref lm, .ref lo, .int (nI th), .int (lcg z), .int (nI bn), .int (nI cm)]))], u1_106, wc_8] (15 + 60 * (3 - k) + 5 * (BN - S.2.2.1.length)) (100 + 400 * (3 - k) + 12 * (BN - S.2.2.1.length) + 4 * (TA - capF q1.length) + 4 * (BA - capF S.2.2.1.length)) from ?_)
          refine g_aload (q := 128) B dX3_lays_126 rfl rfl (rv_r _) ?_
          refine g_callV (q := 131) (is := [1]) (kc2 := (15 + 60 * (3 - k) + 5 * (BN - S.2.2.1.length)) - 1) (ks2 := (100 + 400 * (3 - k) + 12 * (BN - S.2.2.1.length) + 4 * (TA - capF q1.length) + 4 * (BA - capF S.2.2.1.length)) - 4) B [] (ct_J2_iterator_s g J (p := p70) (xs := ps_7) (md := md_7) (cap := (capF (cov (eTr ((eNo r, S.1, eGo r, eKy r, eCh r, S.2.2.2.2, eRm r, ePk r) : MeS)) (asd own k)).length)) (W0 := u1_70)  (hli_7)) dX3_lays_128 rfl (rc_in B (ci := 21) rfl (k := 1) rfl (LhP.hm hu1_70)) rfl q3232 q805 q3668 q81 q807 rfl rfl moJ2_iterator rfl rfl (by decide) (by decide) (Nat.le_of_ble_eq_true rfl) (by omega) (by omega) (fun _ _ hx => noX_x hx) (fun v128 L1 hp128 => ?_)
          obtain ⟨it128, rfl, rfl⟩ := hp128
          refine (show Go g κ 131 [some (.ref m), some (.ref e), some (.int (nI own)), some (.int (nI s1)), some (.int (nI (k + 1))), some (.int (nI (nab own (k + 1)))), none, some (.ref p70), none, none] [.ref it128] [l17_0, [(m, .inr (12, [.ref ls, .ref lb, .ref lk, .ref lp, .ref lr, .ref le, .ref lm, .ref lo, .int (nI th), .int (lcg z), .int (nI bn), .int (nI cm)]))], u1_106, wc_8, [(it128, .inr (22, [.int (nI 0), .int (-1), .int md_7, .ref p70]))], u1_70] ((15 + 60 * (3 - k) + 5 * (BN - S.2.2.1.length)) - 1) ((100 + 400 * (3 - k) + 12 * (BN - S.2.2.1.length) + 4 * (TA - capF q1.length) + 4 * (BA - capF S.2.2.1.length)) - 4) from ?_)
          refine g_astore (q := 133) (lv2 := [some (.ref m), some (.ref e), some (.int (nI own)), some (.int (nI s1)), some (.int (nI (k + 1))), some (.int (nI (nab own (k + 1)))), none, some (.ref p70), some (.ref it128), none]) B dX3_lays_131 rfl (Nat.le_of_ble_eq_true rfl) (rv_r _) rfl ?_
          have lp133 : ∀ (n133 : Nat) (j : Nat) (lr2 : Int32) (U : BxS) (bm : Nat) (l133_0 : va_W) (l133_2 : va_W), LhP g (BbP g) lb U.2 (capF U.2.length) l133_0 → LhP g (SecP g) ls U.1 (capF U.1.length) l133_2 → (j ≤ (cov S.1 (asd own k)).length) → (U = bxmK (setN (blkN S.1 (nab own (k + 1))) (nab own (k + 1)) s1) (ePk r) s1 (cov S.1 (asd own k)) (q1, S.2.2.1) j) → (bm + bx.length = bo + U.2.length) → (cov S.1 (asd own k)).length - j = n133 → Go g κ 133 [some (.ref m), some (.ref e), some (.int (nI own)), some (.int (nI s1)), some (.int (nI (k + 1))), some (.int (nI (nab own (k + 1)))), none, some (.ref p70), some (.ref it128), none] [] [l133_0, [(m, .inr (12, [.ref ls, .ref lb, .ref lk, .ref lp, .ref lr, .ref le, .ref lm, .ref lo, .int (nI th), .int (lcg z), .int (nI bm), .int (nI cm)]))], l133_2, wc_8, [(it128, .inr (22, [.int (nI j), .int lr2, .int md_7, .ref p70]))], u1_70] (10 + 60 * (3 - k) + 5 * (BN - U.2.length)) (50 + 400 * (3 - k) + 12 * (BN - U.2.length) + 4 * (TA - capF U.1.length) + 4 * (BA - capF U.2.length)) := by
            intro n133
            induction n133 using Nat.strongRecOn with
            | _ n133 ih133 =>
            intro j lr2 U bm l133_0 l133_2 hl133_0 hl133_2 hj hU hbm hmu133
            refine g_aload (q := 135) B dX3_lays_133 rfl rfl (rv_r _) ?_
            refine g_callF (q := 140) (is := [4, 4]) (kc2 := 10 + 60 * (3 - k) + 5 * (BN - U.2.length)) (ks2 := 50 + 400 * (3 - k) + 12 * (BN - U.2.length) + 4 * (TA - capF U.1.length) + 4 * (BA - capF U.2.length)) B [] (ct_J19_hasNext_s g J (p := p70) (xs := ps_7) (md := md_7) (cap := (capF (cov (eTr ((eNo r, S.1, eGo r, eKy r, eCh r, S.2.2.2.2, eRm r, ePk r) : MeS)) (asd own k)).length)) (it := it128) (c := j) (lr := lr2) (W1 := u1_70)  (hli_7) (by have := hln_7.1; omega)) dX3_lays_135 rfl (ci := 22) rfl (rc_at B (ci := 22) rfl (k := 4) rfl) q3234 q940 q942 q104 q944 q938 q937 q943 q941 q939 rfl rfl mojava_util_Iterator_hasNext___Z rfl rfl (by decide) (by decide) (Nat.le_of_ble_eq_true rfl) (by omega) (by omega) (fun _ _ hx => noX_x hx) (fun v135 L1 hp135 => ?_)
            obtain ⟨rfl, rfl⟩ := hp135
            refine (show Go g κ 140 [some (.ref m), some (.ref e), some (.int (nI own)), some (.int (nI s1)), some (.int (nI (k + 1))), some (.int (nI (nab own (k + 1)))), none, some (.ref p70), some (.ref it128), none] [.int (nI (if ¬ j = ps_7.length then 1 else 0))] [l133_0, [(m, .inr (12, [.ref ls, .ref lb, .ref lk, .ref lp, .ref lr, .ref le, .ref lm, .ref lo, .int (nI th), .int (lcg z), .int (nI bm), .int (nI cm)]))], l133_2, wc_8, [(it128, .inr (22, [.int (nI j), .int lr2, .int md_7, .ref p70]))], u1_70] (10 + 60 * (3 - k) + 5 * (BN - U.2.length)) (50 + 400 * (3 - k) + 12 * (BN - U.2.length) + 4 * (TA - capF U.1.length) + 4 * (BA - capF U.2.length)) from ?_)
            rw [hln_7.1]
            refine (show Go g κ 140 [some (.ref m), some (.ref e), some (.int (nI own)), some (.int (nI s1)), some (.int (nI (k + 1))), some (.int (nI (nab own (k + 1)))), none, some (.ref p70), some (.ref it128), none] [.int (nI (if ¬ j = (cov (eTr ((eNo r, S.1, eGo r, eKy r, eCh r, S.2.2.2.2, eRm r, ePk r) : MeS)) (asd own k)).length then 1 else 0))] [l133_0, [(m, .inr (12, [.ref ls, .ref lb, .ref lk, .ref lp, .ref lr, .ref le, .ref lm, .ref lo, .int (nI th), .int (lcg z), .int (nI bm), .int (nI cm)]))], l133_2, wc_8, [(it128, .inr (22, [.int (nI j), .int lr2, .int md_7, .ref p70]))], u1_70] (10 + 60 * (3 - k) + 5 * (BN - U.2.length)) (50 + 400 * (3 - k) + 12 * (BN - U.2.length) + 4 * (TA - capF U.1.length) + 4 * (BA - capF U.2.length)) from ?_)
            refine g_if_eq (tgt := 194) (q := 143) B dX3_lays_140 rfl (by decide) (bo_eq) (fun c140 => ?_) (fun c140 => ?_)
            · skip
              refine g_iinc (v := nI ((k + 1) + 1)) (q := 197) (lv2 := [some (.ref m), some (.ref e), some (.int (nI own)), some (.int (nI s1)), some (.int (nI ((k + 1) + 1))), some (.int (nI (nab own (k + 1)))), none, some (.ref p70), some (.ref it128), none]) B dX3_lays_194 rfl rfl (nI_add _ 1) (Nat.le_of_ble_eq_true rfl) rfl ?_
              refine g_goto (tgt := 17) B dX3_lays_197 (by decide) ?_
              have hUf : U = bxmF (setN (blkN S.1 (nab own (k + 1))) (nab own (k + 1)) s1) (ePk r) s1 (cov S.1 (asd own k)) (q1, S.2.2.1) := hU.trans (bxmK_e (show j = _ by omega))
              have hLy : layM1 own (ePk r) S k = ((setN (blkN S.1 (nab own (k + 1))) (nab own (k + 1)) s1), U.1, U.2, s1, fup S.2.2.2.2 (nab own (k + 1)) true) := by rw [hly, hUf]
              have hr_9 : EpP g e ((eNo r, (layM1 own (ePk r) S k).1, eGo r, eKy r, eCh r, (layM1 own (ePk r) S k).2.2.2.2, eRm r, ePk r) : MeS) wc_8 := by rw [hLy]; exact hwc_8
              have hr_10 : LhP g (SecP g) ls ((layM1 own (ePk r) S k).2.1) (capF (layM1 own (ePk r) S k).2.1.length) l133_2 := by rw [hLy]; exact hl133_2
              have hr_11 : LhP g (BbP g) lb ((layM1 own (ePk r) S k).2.2.1) (capF (layM1 own (ePk r) S k).2.2.1.length) l133_0 := by rw [hLy]; exact hl133_0
              refine g_lvs (lv2 := [some (.ref m), some (.ref e), some (.int (nI own)), some (.int (nI ((layM1 own (ePk r) S k).2.2.2.1))), some (.int (nI ((k + 1) + 1))), some (.int (nI (nab own (k + 1)))), none, some (.ref p70), some (.ref it128), none]) (st2 := []) (by rw [hLy]) rfl ?_
              have hx1 : (layM1 own (ePk r) S k).2.1.length = U.1.length := by rw [hLy]
              have hx2 : (layM1 own (ePk r) S k).2.2.1.length = U.2.length := by rw [hLy]
              have hx3 : capF (layM1 own (ePk r) S k).2.1.length = capF U.1.length := by rw [hx1]
              have hx4 : capF (layM1 own (ePk r) S k).2.2.1.length = capF U.2.length := by rw [hx2]
              have hxa : U.1.length ≤ (layM own (ePk r) ((setN (eTr r) (2 * own) ss.length, ss ++ [drw z], bx, ss.length, eWy r) : LmS) (eTr r).1).2.1.length := by rw [hUf]; exact hn2
              have hxb : U.2.length ≤ (layM own (ePk r) ((setN (eTr r) (2 * own) ss.length, ss ++ [drw z], bx, ss.length, eWy r) : LmS) (eTr r).1).2.2.1.length := by rw [hUf]; exact hn3
              have hxc := capF_m hxa
              have hxd := capF_m hxb
              refine (show Go g κ 17 [some (.ref m), some (.ref e), some (.int (nI own)), some (.int (nI ((layM1 own (ePk r) S k).2.2.2.1))), some (.int (nI ((k + 1) + 1))), some (.int (nI (nab own (k + 1)))), none, some (.ref p70), some (.ref it128), none] [] [l133_0, [(m, .inr (12, [.ref ls, .ref lb, .ref lk, .ref lp, .ref lr, .ref le, .ref lm, .ref lo, .int (nI th), .int (lcg z), .int (nI bm), .int (nI cm)]))], l133_2, wc_8, [(it128, .inr (22, [.int (nI j), .int lr2, .int md_7, .ref p70]))], u1_70] (10 + 60 * (3 - k) + 5 * (BN - U.2.length)) (50 + 400 * (3 - k) + 12 * (BN - U.2.length) + 4 * (TA - capF U.1.length) + 4 * (BA - capF U.2.length)) from ?_)
              refine g_fg 5 rfl ?_
              refine g_fg 7 rfl ?_
              refine g_fg 8 rfl ?_
              refine g_pk [0, 0, 0, 0] rfl rfl ?_
              refine (show Go g κ 17 [some (.ref m), some (.ref e), some (.int (nI own)), some (.int (nI ((layM1 own (ePk r) S k).2.2.2.1))), some (.int (nI ((k + 1) + 1))), none, none, none, none, none] [] [l133_0, [(m, .inr (12, [.ref ls, .ref lb, .ref lk, .ref lp, .ref lr, .ref le, .ref lm, .ref lo, .int (nI th), .int (lcg z), .int (nI bm), .int (nI cm)]))], l133_2, wc_8] (10 + 60 * (3 - k) + 5 * (BN - U.2.length)) (50 + 400 * (3 - k) + 12 * (BN - U.2.length) + 4 * (TA - capF U.1.length) + 4 * (BA - capF U.2.length)) from ?_)
              refine g_room (kc2 := 60 * (4 - (k + 1)) + 5 * (BN - (layM1 own (ePk r) S k).2.2.1.length)) (ks2 := 400 * (4 - (k + 1)) + 12 * (BN - (layM1 own (ePk r) S k).2.2.1.length) + 4 * (TA - capF (layM1 own (ePk r) S k).2.1.length) + 4 * (BA - capF (layM1 own (ePk r) S k).2.2.1.length)) (by omega) (by omega) ?_
              exact ih17 _ (by omega) (k + 1) (layM1 own (ePk r) S k) bm l133_0 l133_2 wc_8 hr_11 hr_10 hr_9 (hkd) (by rw [hS]; rfl) (by rw [hx2]; omega) rfl
            · skip
              have c140 := Classical.not_not.mp c140
              refine g_aload (q := 145) B dX3_lays_143 rfl rfl (rv_r _) ?_
              obtain ⟨r145, hr145⟩ := get_ex (xs := (cov (eTr ((eNo r, S.1, eGo r, eKy r, eCh r, S.2.2.2.2, eRm r, ePk r) : MeS)) (asd own k))) (i := j) (by omega)
              obtain ⟨x145, hx145⟩ := get_ex (xs := ps_7) (i := j) (by have := get_lt2 hr145; have := hln_7.1; omega)
              have hb_12 := Sub.box (hel_7 _ _ _ hx145 hr145)
              refine g_callF (q := 150) (is := [4, 4]) (kc2 := 10 + 60 * (3 - k) + 5 * (BN - U.2.length)) (ks2 := 50 + 400 * (3 - k) + 12 * (BN - U.2.length) + 4 * (TA - capF U.1.length) + 4 * (BA - capF U.2.length)) B [] (ct_J19_next_s g J (p := p70) (xs := ps_7) (md := md_7) (cap := (capF (cov (eTr ((eNo r, S.1, eGo r, eKy r, eCh r, S.2.2.2.2, eRm r, ePk r) : MeS)) (asd own k)).length)) (it := it128) (c := j) (lr := lr2) (x := x145) (W1 := u1_70)  (hli_7) (hx145)) dX3_lays_145 rfl (ci := 22) rfl (rc_at B (ci := 22) rfl (k := 4) rfl) q3236 q967 q969 q104 q971 q966 q965 q970 q968 q939 rfl rfl mojava_util_Iterator_next___Ljava_lang_Object_ rfl rfl (by decide) (by decide) (Nat.le_of_ble_eq_true rfl) (by omega) (by omega) (fun _ _ hx => noX_x hx) (fun v145 L1 hp145 => ?_)
              obtain ⟨rfl, rfl⟩ := hp145
              refine (show Go g κ 150 [some (.ref m), some (.ref e), some (.int (nI own)), some (.int (nI s1)), some (.int (nI (k + 1))), some (.int (nI (nab own (k + 1)))), none, some (.ref p70), some (.ref it128), none] [.ref x145] [l133_0, [(m, .inr (12, [.ref ls, .ref lb, .ref lk, .ref lp, .ref lr, .ref le, .ref lm, .ref lo, .int (nI th), .int (lcg z), .int (nI bm), .int (nI cm)]))], l133_2, wc_8, [(it128, .inr (22, [.int (nI (j + 1)), .int (nI j), .int md_7, .ref p70]))], u1_70] (10 + 60 * (3 - k) + 5 * (BN - U.2.length)) (50 + 400 * (3 - k) + 12 * (BN - U.2.length) + 4 * (TA - capF U.1.length) + 4 * (BA - capF U.2.length)) from ?_)
              refine g_castRS (ci := 35) (q := 153) B rfl (rc_bxat B J (k := 5) rfl hb_12) dX3_lays_150 rfl q3240 ?_
              refine g_callV (q := 156) (is := [5]) (kc2 := 10 + 60 * (3 - k) + 5 * (BN - U.2.length)) (ks2 := 50 + 400 * (3 - k) + 12 * (BN - U.2.length) + 4 * (TA - capF U.1.length) + 4 * (BA - capF U.2.length)) B [] (ct_J26_intValue_b g J (a := x145) (v := nI r145) (wb := u1_70)  (hb_12)) dX3_lays_153 rfl (rc_bxat B J (k := 5) rfl hb_12) rfl q3241 q1052 q1053 q111 q1054 rfl rfl moJ26_intValue rfl rfl (by decide) (by decide) (Nat.le_of_ble_eq_true rfl) (by omega) (by omega) (fun _ _ hx => noX_x hx) (fun v153 L1 hp153 => ?_)
              obtain ⟨rfl, rfl⟩ := hp153
              refine (show Go g κ 156 [some (.ref m), some (.ref e), some (.int (nI own)), some (.int (nI s1)), some (.int (nI (k + 1))), some (.int (nI (nab own (k + 1)))), none, some (.ref p70), some (.ref it128), none] [.int (nI r145)] [l133_0, [(m, .inr (12, [.ref ls, .ref lb, .ref lk, .ref lp, .ref lr, .ref le, .ref lm, .ref lo, .int (nI th), .int (lcg z), .int (nI bm), .int (nI cm)]))], l133_2, wc_8, [(it128, .inr (22, [.int (nI (j + 1)), .int (nI j), .int md_7, .ref p70]))], u1_70] (10 + 60 * (3 - k) + 5 * (BN - U.2.length)) (50 + 400 * (3 - k) + 12 * (BN - U.2.length) + 4 * (TA - capF U.1.length) + 4 * (BA - capF U.2.length)) from ?_)
              refine g_istore (q := 158) (lv2 := [some (.ref m), some (.ref e), some (.int (nI own)), some (.int (nI s1)), some (.int (nI (k + 1))), some (.int (nI (nab own (k + 1)))), none, some (.ref p70), some (.ref it128), some (.int (nI r145))]) B dX3_lays_156 rfl (Nat.le_of_ble_eq_true rfl) rfl ?_
              obtain ⟨hn31, hh, hhe, hhl⟩ := hcvh r145 (List.mem_of_getElem? hr145)
              have hlv4 := lev_4 r145 hn31
              have hUm := bxmK_m (setN (blkN S.1 (nab own (k + 1))) (nab own (k + 1)) s1) (ePk r) s1 (cov S.1 (asd own k)) (q1, S.2.2.1) j
              rw [← hU] at hUm
              obtain ⟨hU1, hU2, hU3⟩ := hUm
              have hUm2 := bxmL_m (setN (blkN S.1 (nab own (k + 1))) (nab own (k + 1)) s1) (ePk r) s1 ((cov S.1 (asd own k)).take j) (q1, S.2.2.1)
              have hUe : ((cov S.1 (asd own k)).take j).foldl (bxm1 (setN (blkN S.1 (nab own (k + 1))) (nab own (k + 1)) s1) (ePk r) s1) (q1, S.2.2.1) = U := hU.symm
              rw [hUe] at hUm2
              obtain ⟨hU4, hU5, hU6⟩ := hUm2
              have hU5 : q1.length ≤ U.1.length := hU5
              have hU6 : S.2.2.1.length ≤ U.2.length := hU6
              have hcU := capF_m hU3
              have hcU2 := capF_m hU2
              have hj1 : j + 1 ≤ (cov S.1 (asd own k)).length := get_lt2 hr145
              have hUs := bxmK_s (T := (setN (blkN S.1 (nab own (k + 1))) (nab own (k + 1)) s1)) (pk := ePk r) (s1 := s1) (U := (q1, S.2.2.1)) hr145
              rw [← hU] at hUs
              have hUn := bxmK_m (setN (blkN S.1 (nab own (k + 1))) (nab own (k + 1)) s1) (ePk r) s1 (cov S.1 (asd own k)) (q1, S.2.2.1) (j + 1)
              rw [hUs] at hUn
              obtain ⟨hN1, hN2, hN3⟩ := hUn
              have hcN := capF_m hN3
              have hcN2 := capF_m hN2
              refine g_iload (q := 160) B dX3_lays_158 rfl rfl ?_
              refine g_callS (q := 163) (is := []) (kc2 := 10 + 60 * (3 - k) + 5 * (BN - U.2.length)) (ks2 := 50 + 400 * (3 - k) + 12 * (BN - U.2.length) + 4 * (TA - capF U.1.length) + 4 * (BA - capF U.2.length)) B [.int (nI r145)] (ct_X3_level g J (n := r145)  (hn31)) dX3_lays_160 rfl q3441 q3442 q85 q3443 rfl rfl moX3_level rfl rfl (by decide) (by decide) (Nat.le_of_ble_eq_true rfl) (by omega) (by omega) (fun _ _ hx => noX_x hx) (fun v160 L1 hp160 => ?_)
              obtain ⟨rfl, rfl⟩ := hp160
              refine (show Go g κ 163 [some (.ref m), some (.ref e), some (.int (nI own)), some (.int (nI s1)), some (.int (nI (k + 1))), some (.int (nI (nab own (k + 1)))), none, some (.ref p70), some (.ref it128), some (.int (nI r145))] [.int (nI (lev r145))] [l133_0, [(m, .inr (12, [.ref ls, .ref lb, .ref lk, .ref lp, .ref lr, .ref le, .ref lm, .ref lo, .int (nI th), .int (lcg z), .int (nI bm), .int (nI cm)]))], l133_2, wc_8, [(it128, .inr (22, [.int (nI (j + 1)), .int (nI j), .int md_7, .ref p70]))], u1_70] (10 + 60 * (3 - k) + 5 * (BN - U.2.length)) (50 + 400 * (3 - k) + 12 * (BN - U.2.length) + 4 * (TA - capF U.1.length) + 4 * (BA - capF U.2.length)) from ?_)
              refine g_if_gt (tgt := 179) (q := 166) B dX3_lays_163 rfl (by decide) (nI_gt0 (by omega)) (fun c163 => ?_) (fun c163 => ?_)
              · skip
                have hfx : ¬ (lev r145 = 0 ∧ ePk r (r145 / 2) ≠ none) := by rintro ⟨z1, z2⟩; first | omega | exact z2 c176
                obtain ⟨⟨q2, o2⟩, hq2⟩ : ∃ p, frm U.1 (hh, none, 1) = p := ⟨_, rfl⟩
                have hbe : bxm1 (setN (blkN S.1 (nab own (k + 1))) (nab own (k + 1)) s1) (ePk r) s1 U r145 = (q2, U.2 ++ [(o2, s1)]) := by unfold bxm1; rw [if_neg hfx, hhe]; show ((frm U.1 (hh, none, 1)).1, U.2 ++ [((frm U.1 (hh, none, 1)).2, s1)]) = _; rw [hq2]
                have hg9 := Ph_fr hq2
                rw [hbe] at hN2 hN3 hcN hcN2
                have hN2 : q2.length ≤ _ := hN2
                have hN3 : (U.2 ++ [(o2, s1)]).length ≤ _ := hN3
                have hcN : capF (U.2 ++ [(o2, s1)]).length ≤ _ := hcN
                have hcN2 : capF q2.length ≤ _ := hcN2
                have hbl : (U.2 ++ [(o2, s1)]).length = U.2.length + 1 := by simp
                rw [hbl] at hN3 hcN
                have hcm9 := capF_mo U.2.length
                have hcm8 := capF_m hg9.2.1
                have hw1 : ((q2, U.2 ++ [(o2, s1)]) : BxS).2.length = U.2.length + 1 := hbl
                have hw2 : ((q2, U.2 ++ [(o2, s1)]) : BxS).1.length = q2.length := rfl
                have hw3 : capF ((q2, U.2 ++ [(o2, s1)]) : BxS).2.length = capF (U.2.length + 1) := by rw [hw1]
                have hw4 : capF ((q2, U.2 ++ [(o2, s1)]) : BxS).1.length = capF q2.length := rfl
                refine g_aload_n (q := 180) B dX3_lays_179 rfl rfl (rv_r _) ?_
                refine g_iload_n (q := 181) B dX3_lays_180 rfl rfl ?_
                refine g_aload_n (q := 182) B dX3_lays_181 rfl rfl (rv_r _) ?_
                obtain ⟨ap_13, an_13, al_13, ac_13, aw_13, am_13, ak_13, fp_13, fn_13, fl_13, fc_13, fw_13, fm_13, fk_13, hE_13, hfp_13, hfn_13, hfl_13, hfc_13, hfw_13, hfm_13, hfk_13, hc_13_0, hc_13_1, hc_13_2, hc_13_3, hc_13_4, hc_13_5, hc_13_6, hc_13_7⟩ := EpP.at (Sub.self hwc_8)
                refine g_getNM (q := 185) B (ci := 16) (k := 3) (j := 5) in_X13 rfl dX3_lays_182 rfl rfl (hc_13_0) (Nat.le_of_ble_eq_true rfl) q3263 rfl rfl ?_
                refine g_iload (q := 187) B dX3_lays_185 rfl rfl ?_
                refine g_ialdM (v := oI (((eTr ((eNo r, (setN (blkN S.1 (nab own (k + 1))) (nab own (k + 1)) s1), eGo r, eKy r, eCh r, fup S.2.2.2.2 (nab own (k + 1)) true, eRm r, ePk r) : MeS)).2.1) r145)) (q := 188) B (k := 3) dX3_lays_187 rfl rfl (hc_13_2) (vp_in_nI (by omega) (by omega)) (by rw [nI_clamp (by omega)]; exact hfn_13 _ (by omega)) ?_
                have hq9 : ((eTr ((eNo r, (setN (blkN S.1 (nab own (k + 1))) (nab own (k + 1)) s1), eGo r, eKy r, eCh r, fup S.2.2.2.2 (nab own (k + 1)) true, eRm r, ePk r) : MeS)).2.1) r145 = some hh := hhe
                refine g_stk (y := .int (nI hh)) (by rw [hq9]; rfl) ?_
                refine g_callV (q := 191) (is := [1, 1, 0]) (kc2 := 10 + 60 * (3 - k) + 5 * (BN - (U.2.length + 1))) (ks2 := 50 + 400 * (3 - k) + 12 * (BN - (U.2.length + 1)) + 4 * (TA - capF q2.length) + 4 * (BA - capF (U.2.length + 1))) B [.int (nI s1), .int (nI hh)] (ct_X3_boxed g J (m := m) (ls := ls) (lb := lb) (lk := lk) (lp := lp) (lr := lr) (le := le) (lm := lm) (lo := lo) (th := th) (z := (lcg z)) (bo := bm) (cm := cm) (ss := U.1) (bx := U.2) (c := s1) (h := hh) (s2 := q2) (i := o2) hl133_2 hl133_0 (by omega) (by omega) (by omega) (by omega) (hq2)) dX3_lays_188 rfl (rc_at B (ci := 12) rfl (k := 1) rfl) rfl q3472 q3474 qs69 q85 q3475 rfl rfl moX3_boxed rfl rfl (by decide) (by decide) (Nat.le_of_ble_eq_true rfl) (by omega) (by omega) (fun _ _ hx => noX_x hx) (fun v188 L1 hp188 => ?_)
                obtain ⟨u1_188, u2_188, rfl, rfl, hu1_188, hu2_188⟩ := hp188
                refine (show Go g κ 191 [some (.ref m), some (.ref e), some (.int (nI own)), some (.int (nI s1)), some (.int (nI (k + 1))), some (.int (nI (nab own (k + 1)))), none, some (.ref p70), some (.ref it128), some (.int (nI r145))] [] [wc_8, [(it128, .inr (22, [.int (nI (j + 1)), .int (nI j), .int md_7, .ref p70]))], u1_70, [(m, .inr (12, [.ref ls, .ref lb, .ref lk, .ref lp, .ref lr, .ref le, .ref lm, .ref lo, .int (nI th), .int (lcg z), .int (nI (bm + 1)), .int (nI cm)]))], u1_188, u2_188] (10 + 60 * (3 - k) + 5 * (BN - (U.2.length + 1))) (50 + 400 * (3 - k) + 12 * (BN - (U.2.length + 1)) + 4 * (TA - capF q2.length) + 4 * (BA - capF (U.2.length + 1))) from ?_)
                refine g_goto (tgt := 133) B dX3_lays_191 (by decide) ?_
                refine g_fg 9 rfl ?_
                refine g_pk [5, 3, 3, 0, 0, 0] rfl rfl ?_
                refine (show Go g κ 133 [some (.ref m), some (.ref e), some (.int (nI own)), some (.int (nI s1)), some (.int (nI (k + 1))), some (.int (nI (nab own (k + 1)))), none, some (.ref p70), some (.ref it128), none] [] [u2_188, [(m, .inr (12, [.ref ls, .ref lb, .ref lk, .ref lp, .ref lr, .ref le, .ref lm, .ref lo, .int (nI th), .int (lcg z), .int (nI (bm + 1)), .int (nI cm)]))], u1_188, wc_8, [(it128, .inr (22, [.int (nI (j + 1)), .int (nI j), .int md_7, .ref p70]))], u1_70] (10 + 60 * (3 - k) + 5 * (BN - (U.2.length + 1))) (50 + 400 * (3 - k) + 12 * (BN - (U.2.length + 1)) + 4 * (TA - capF q2.length) + 4 * (BA - capF (U.2.length + 1))) from ?_)
                refine g_room (kc2 := 10 + 60 * (3 - k) + 5 * (BN - (q2, U.2 ++ [(o2, s1)]).2.length)) (ks2 := 50 + 400 * (3 - k) + 12 * (BN - (q2, U.2 ++ [(o2, s1)]).2.length) + 4 * (TA - capF (q2, U.2 ++ [(o2, s1)]).1.length) + 4 * (BA - capF (q2, U.2 ++ [(o2, s1)]).2.length)) (by omega) (by omega) ?_
                exact ih133 _ (by have := get_lt2 hr145; omega) (j + 1) (nI j) (q2, U.2 ++ [(o2, s1)]) (bm + 1) u2_188 u1_188 hu2_188 hu1_188 (by first | assumption | omega | rfl) (by rw [hUs, hbe]) (by show _ = bo + (U.2 ++ [(o2, s1)]).length; rw [hbl]; omega) rfl
              · skip
                refine g_aload_n (q := 167) B dX3_lays_166 rfl rfl (rv_r _) ?_
                obtain ⟨ap_14, an_14, al_14, ac_14, aw_14, am_14, ak_14, fp_14, fn_14, fl_14, fc_14, fw_14, fm_14, fk_14, hE_14, hfp_14, hfn_14, hfl_14, hfc_14, hfw_14, hfm_14, hfk_14, hc_14_0, hc_14_1, hc_14_2, hc_14_3, hc_14_4, hc_14_5, hc_14_6, hc_14_7⟩ := EpP.at (Sub.self hwc_8)
                refine g_getNM (q := 170) B (ci := 16) (k := 3) (j := 10) in_X13 rfl dX3_lays_167 rfl rfl (hc_14_0) (Nat.le_of_ble_eq_true rfl) q3273 rfl rfl ?_
                refine g_iload (q := 172) B dX3_lays_170 rfl rfl ?_
                refine g_iconst (v := nI 2) (q := 173) B dX3_lays_172 rfl (by decide) ?_
                refine g_idiv (v := nI (r145 / 2)) (q := 174) B dX3_lays_173 rfl (by decide) (dv2_31 _ hn31) ?_
                refine g_ialdM (v := oI ((ePk ((eNo r, (setN (blkN S.1 (nab own (k + 1))) (nab own (k + 1)) s1), eGo r, eKy r, eCh r, fup S.2.2.2.2 (nab own (k + 1)) true, eRm r, ePk r) : MeS)) (r145 / 2))) (q := 175) B (k := 3) dX3_lays_174 rfl rfl (hc_14_7) (vp_in_nI (by omega) (by omega)) (by rw [nI_clamp (by omega)]; exact hfk_14 _ (by omega)) ?_
                refine g_iconst (v := -1) (q := 176) B dX3_lays_175 rfl (by decide) ?_
                refine g_icmp_ne (tgt := 191) (q := 179) B dX3_lays_176 rfl (by decide) (oI_nn ((fun n h => by have := hE_14.2.2.2.2.2 _ _ h; omega))) (fun c176 => ?_) (fun c176 => ?_)
                · skip
                  obtain ⟨v176, ev176⟩ := Option.ne_none_iff_exists'.mp c176
                  refine g_goto (tgt := 133) B dX3_lays_191 (by decide) ?_
                  refine g_fg 9 rfl ?_
                  exact ih133 _ (by have := get_lt2 hr145; omega) (j + 1) (nI j) U bm l133_0 l133_2 hl133_0 hl133_2 (by first | assumption | omega | rfl) (by rw [hUs]; unfold bxm1; rw [if_pos ⟨by omega, c176⟩]) (hbm) rfl
                · skip
                  have c176 := Classical.not_not.mp c176
                  have hfx : ¬ (lev r145 = 0 ∧ ePk r (r145 / 2) ≠ none) := by rintro ⟨z1, z2⟩; first | omega | exact z2 c176
                  obtain ⟨⟨q2, o2⟩, hq2⟩ : ∃ p, frm U.1 (hh, none, 1) = p := ⟨_, rfl⟩
                  have hbe : bxm1 (setN (blkN S.1 (nab own (k + 1))) (nab own (k + 1)) s1) (ePk r) s1 U r145 = (q2, U.2 ++ [(o2, s1)]) := by unfold bxm1; rw [if_neg hfx, hhe]; show ((frm U.1 (hh, none, 1)).1, U.2 ++ [((frm U.1 (hh, none, 1)).2, s1)]) = _; rw [hq2]
                  have hg9 := Ph_fr hq2
                  rw [hbe] at hN2 hN3 hcN hcN2
                  have hN2 : q2.length ≤ _ := hN2
                  have hN3 : (U.2 ++ [(o2, s1)]).length ≤ _ := hN3
                  have hcN : capF (U.2 ++ [(o2, s1)]).length ≤ _ := hcN
                  have hcN2 : capF q2.length ≤ _ := hcN2
                  have hbl : (U.2 ++ [(o2, s1)]).length = U.2.length + 1 := by simp
                  rw [hbl] at hN3 hcN
                  have hcm9 := capF_mo U.2.length
                  have hcm8 := capF_m hg9.2.1
                  have hw1 : ((q2, U.2 ++ [(o2, s1)]) : BxS).2.length = U.2.length + 1 := hbl
                  have hw2 : ((q2, U.2 ++ [(o2, s1)]) : BxS).1.length = q2.length := rfl
                  have hw3 : capF ((q2, U.2 ++ [(o2, s1)]) : BxS).2.length = capF (U.2.length + 1) := by rw [hw1]
                  have hw4 : capF ((q2, U.2 ++ [(o2, s1)]) : BxS).1.length = capF q2.length := rfl
                  refine g_aload_n (q := 180) B dX3_lays_179 rfl rfl (rv_r _) ?_
                  refine g_iload_n (q := 181) B dX3_lays_180 rfl rfl ?_
                  refine g_aload_n (q := 182) B dX3_lays_181 rfl rfl (rv_r _) ?_
                  refine g_getNM (q := 185) B (ci := 16) (k := 3) (j := 5) in_X13 rfl dX3_lays_182 rfl rfl (hc_14_0) (Nat.le_of_ble_eq_true rfl) q3263 rfl rfl ?_
                  refine g_iload (q := 187) B dX3_lays_185 rfl rfl ?_
                  refine g_ialdM (v := oI (((eTr ((eNo r, (setN (blkN S.1 (nab own (k + 1))) (nab own (k + 1)) s1), eGo r, eKy r, eCh r, fup S.2.2.2.2 (nab own (k + 1)) true, eRm r, ePk r) : MeS)).2.1) r145)) (q := 188) B (k := 3) dX3_lays_187 rfl rfl (hc_14_2) (vp_in_nI (by omega) (by omega)) (by rw [nI_clamp (by omega)]; exact hfn_14 _ (by omega)) ?_
                  have hq9 : ((eTr ((eNo r, (setN (blkN S.1 (nab own (k + 1))) (nab own (k + 1)) s1), eGo r, eKy r, eCh r, fup S.2.2.2.2 (nab own (k + 1)) true, eRm r, ePk r) : MeS)).2.1) r145 = some hh := hhe
                  refine g_stk (y := .int (nI hh)) (by rw [hq9]; rfl) ?_
                  refine g_callV (q := 191) (is := [1, 1, 0]) (kc2 := 10 + 60 * (3 - k) + 5 * (BN - (U.2.length + 1))) (ks2 := 50 + 400 * (3 - k) + 12 * (BN - (U.2.length + 1)) + 4 * (TA - capF q2.length) + 4 * (BA - capF (U.2.length + 1))) B [.int (nI s1), .int (nI hh)] (ct_X3_boxed g J (m := m) (ls := ls) (lb := lb) (lk := lk) (lp := lp) (lr := lr) (le := le) (lm := lm) (lo := lo) (th := th) (z := (lcg z)) (bo := bm) (cm := cm) (ss := U.1) (bx := U.2) (c := s1) (h := hh) (s2 := q2) (i := o2) hl133_2 hl133_0 (by omega) (by omega) (by omega) (by omega) (hq2)) dX3_lays_188 rfl (rc_at B (ci := 12) rfl (k := 1) rfl) rfl q3472 q3474 qs69 q85 q3475 rfl rfl moX3_boxed rfl rfl (by decide) (by decide) (Nat.le_of_ble_eq_true rfl) (by omega) (by omega) (fun _ _ hx => noX_x hx) (fun v188 L1 hp188 => ?_)
                  obtain ⟨u1_188, u2_188, rfl, rfl, hu1_188, hu2_188⟩ := hp188
                  refine (show Go g κ 191 [some (.ref m), some (.ref e), some (.int (nI own)), some (.int (nI s1)), some (.int (nI (k + 1))), some (.int (nI (nab own (k + 1)))), none, some (.ref p70), some (.ref it128), some (.int (nI r145))] [] [wc_8, [(it128, .inr (22, [.int (nI (j + 1)), .int (nI j), .int md_7, .ref p70]))], u1_70, [(m, .inr (12, [.ref ls, .ref lb, .ref lk, .ref lp, .ref lr, .ref le, .ref lm, .ref lo, .int (nI th), .int (lcg z), .int (nI (bm + 1)), .int (nI cm)]))], u1_188, u2_188] (10 + 60 * (3 - k) + 5 * (BN - (U.2.length + 1))) (50 + 400 * (3 - k) + 12 * (BN - (U.2.length + 1)) + 4 * (TA - capF q2.length) + 4 * (BA - capF (U.2.length + 1))) from ?_)
                  refine g_goto (tgt := 133) B dX3_lays_191 (by decide) ?_
                  refine g_fg 9 rfl ?_
                  refine g_pk [5, 3, 3, 0, 0, 0] rfl rfl ?_
                  refine (show Go g κ 133 [some (.ref m), some (.ref e), some (.int (nI own)), some (.int (nI s1)), some (.int (nI (k + 1))), some (.int (nI (nab own (k + 1)))), none, some (.ref p70), some (.ref it128), none] [] [u2_188, [(m, .inr (12, [.ref ls, .ref lb, .ref lk, .ref lp, .ref lr, .ref le, .ref lm, .ref lo, .int (nI th), .int (lcg z), .int (nI (bm + 1)), .int (nI cm)]))], u1_188, wc_8, [(it128, .inr (22, [.int (nI (j + 1)), .int (nI j), .int md_7, .ref p70]))], u1_70] (10 + 60 * (3 - k) + 5 * (BN - (U.2.length + 1))) (50 + 400 * (3 - k) + 12 * (BN - (U.2.length + 1)) + 4 * (TA - capF q2.length) + 4 * (BA - capF (U.2.length + 1))) from ?_)
                  refine g_room (kc2 := 10 + 60 * (3 - k) + 5 * (BN - (q2, U.2 ++ [(o2, s1)]).2.length)) (ks2 := 50 + 400 * (3 - k) + 12 * (BN - (q2, U.2 ++ [(o2, s1)]).2.length) + 4 * (TA - capF (q2, U.2 ++ [(o2, s1)]).1.length) + 4 * (BA - capF (q2, U.2 ++ [(o2, s1)]).2.length)) (by omega) (by omega) ?_
                  exact ih133 _ (by have := get_lt2 hr145; omega) (j + 1) (nI j) (q2, U.2 ++ [(o2, s1)]) (bm + 1) u2_188 u1_188 hu2_188 hu1_188 (by first | assumption | omega | rfl) (by rw [hUs, hbe]) (by show _ = bo + (U.2 ++ [(o2, s1)]).length; rw [hbl]; omega) rfl
          refine g_room (kc2 := 10 + 60 * (3 - k) + 5 * (BN - (q1, S.2.2.1).2.length)) (ks2 := 50 + 400 * (3 - k) + 12 * (BN - (q1, S.2.2.1).2.length) + 4 * (TA - capF (q1, S.2.2.1).1.length) + 4 * (BA - capF (q1, S.2.2.1).2.length)) (by omega) (by omega) ?_
          exact lp133 _ 0 (-1) (q1, S.2.2.1) bn l17_0 u1_106 hl17_0 hu1_106 (Nat.zero_le _) (rfl) (hbn) rfl
        · skip
          have c96 := Classical.not_not.mp c96
          refine g_goto (tgt := 194) B dX3_lays_99 (by decide) ?_
          refine g_iinc (v := nI ((k + 1) + 1)) (q := 197) (lv2 := [some (.ref m), some (.ref e), some (.int (nI own)), some (.int (nI S.2.2.2.1)), some (.int (nI ((k + 1) + 1))), some (.int (nI (nab own (k + 1)))), none, some (.ref p70), none, none]) B dX3_lays_194 rfl rfl (nI_add _ 1) (Nat.le_of_ble_eq_true rfl) rfl ?_
          refine g_goto (tgt := 17) B dX3_lays_197 (by decide) ?_
          have hLy := layM1_n (pk := ePk r) (show (cov S.1 (asd own k)) = [] from List.length_eq_zero_iff.mp c96)
          have hr_15 : EpP g e ((eNo r, (layM1 own (ePk r) S k).1, eGo r, eKy r, eCh r, (layM1 own (ePk r) S k).2.2.2.2, eRm r, ePk r) : MeS) wc_6 := by rw [hLy]; exact hwc_6
          have hr_16 : LhP g (SecP g) ls ((layM1 own (ePk r) S k).2.1) (capF (layM1 own (ePk r) S k).2.1.length) l17_2 := by rw [hLy]; exact hl17_2
          have hr_17 : LhP g (BbP g) lb ((layM1 own (ePk r) S k).2.2.1) (capF (layM1 own (ePk r) S k).2.2.1.length) l17_0 := by rw [hLy]; exact hl17_0
          refine g_lvs (lv2 := [some (.ref m), some (.ref e), some (.int (nI own)), some (.int (nI ((layM1 own (ePk r) S k).2.2.2.1))), some (.int (nI ((k + 1) + 1))), some (.int (nI (nab own (k + 1)))), none, some (.ref p70), none, none]) (st2 := []) (by rw [hLy]) rfl ?_
          have hx1 : (layM1 own (ePk r) S k).2.1.length = S.2.1.length := by rw [hLy]
          have hx2 : (layM1 own (ePk r) S k).2.2.1.length = S.2.2.1.length := by rw [hLy]
          have hx3 : capF (layM1 own (ePk r) S k).2.1.length = capF S.2.1.length := by rw [hx1]
          have hx4 : capF (layM1 own (ePk r) S k).2.2.1.length = capF S.2.2.1.length := by rw [hx2]
          refine (show Go g κ 17 [some (.ref m), some (.ref e), some (.int (nI own)), some (.int (nI ((layM1 own (ePk r) S k).2.2.2.1))), some (.int (nI ((k + 1) + 1))), some (.int (nI (nab own (k + 1)))), none, some (.ref p70), none, none] [] [l17_0, [(m, .inr (12, [.ref ls, .ref lb, .ref lk, .ref lp, .ref lr, .ref le, .ref lm, .ref lo, .int (nI th), .int (lcg z), .int (nI bn), .int (nI cm)]))], l17_2, wc_6, u1_70] (19 + 60 * (3 - k) + 5 * (BN - S.2.2.1.length)) (110 + 400 * (3 - k) + 12 * (BN - S.2.2.1.length) + 4 * (TA - capF S.2.1.length) + 4 * (BA - capF S.2.2.1.length)) from ?_)
          refine g_fg 5 rfl ?_
          refine g_fg 7 rfl ?_
          refine g_pk [0, 0, 0, 0] rfl rfl ?_
          refine (show Go g κ 17 [some (.ref m), some (.ref e), some (.int (nI own)), some (.int (nI ((layM1 own (ePk r) S k).2.2.2.1))), some (.int (nI ((k + 1) + 1))), none, none, none, none, none] [] [l17_0, [(m, .inr (12, [.ref ls, .ref lb, .ref lk, .ref lp, .ref lr, .ref le, .ref lm, .ref lo, .int (nI th), .int (lcg z), .int (nI bn), .int (nI cm)]))], l17_2, wc_6] (19 + 60 * (3 - k) + 5 * (BN - S.2.2.1.length)) (110 + 400 * (3 - k) + 12 * (BN - S.2.2.1.length) + 4 * (TA - capF S.2.1.length) + 4 * (BA - capF S.2.2.1.length)) from ?_)
          refine g_room (kc2 := 60 * (4 - (k + 1)) + 5 * (BN - (layM1 own (ePk r) S k).2.2.1.length)) (ks2 := 400 * (4 - (k + 1)) + 12 * (BN - (layM1 own (ePk r) S k).2.2.1.length) + 4 * (TA - capF (layM1 own (ePk r) S k).2.1.length) + 4 * (BA - capF (layM1 own (ePk r) S k).2.2.1.length)) (by omega) (by omega) ?_
          exact ih17 _ (by omega) (k + 1) (layM1 own (ePk r) S k) bn l17_0 l17_2 wc_6 hr_17 hr_16 hr_15 (hkd) (by rw [hS]; rfl) (by rw [hx2]; omega) rfl
      refine g_iload_n (q := 29) B dX3_lays_28 rfl rfl ?_
      refine g_iload (q := 31) B dX3_lays_29 rfl rfl ?_
      refine g_callS (q := 34) (is := []) (kc2 := 60 * (4 - k) + 5 * (BN - S.2.2.1.length)) (ks2 := 400 * (4 - k) + 12 * (BN - S.2.2.1.length) + 4 * (TA - capF S.2.1.length) + 4 * (BA - capF S.2.2.1.length)) B [.int (nI own), .int (nI (k + 1))] (ct_X3_nodeAbove g J (l := own) (k := k + 1)  (by omega) (by omega)) dX3_lays_31 rfl q3460 q3461 q85 q3462 rfl rfl moX3_nodeAbove rfl rfl (by decide) (by decide) (Nat.le_of_ble_eq_true rfl) (by omega) (by omega) (fun _ _ hx => noX_x hx) (fun v31 L1 hp31 => ?_)
      obtain ⟨rfl, rfl⟩ := hp31
      refine (show Go g κ 34 [some (.ref m), some (.ref e), some (.int (nI own)), some (.int (nI S.2.2.2.1)), some (.int (nI (k + 1))), none, none, none, none, none] [.int (nI (nab own (k + 1)))] [l17_0, [(m, .inr (12, [.ref ls, .ref lb, .ref lk, .ref lp, .ref lr, .ref le, .ref lm, .ref lo, .int (nI th), .int (lcg z), .int (nI bn), .int (nI cm)]))], l17_2, l17_3] (60 * (4 - k) + 5 * (BN - S.2.2.1.length)) (400 * (4 - k) + 12 * (BN - S.2.2.1.length) + 4 * (TA - capF S.2.1.length) + 4 * (BA - capF S.2.2.1.length)) from ?_)
      refine g_istore (q := 36) (lv2 := [some (.ref m), some (.ref e), some (.int (nI own)), some (.int (nI S.2.2.2.1)), some (.int (nI (k + 1))), some (.int (nI (nab own (k + 1)))), none, none, none, none]) B dX3_lays_34 rfl (Nat.le_of_ble_eq_true rfl) rfl ?_
      refine g_iload_n (q := 37) B dX3_lays_36 rfl rfl ?_
      refine g_iload (q := 39) B dX3_lays_37 rfl rfl ?_
      refine g_iconst (v := nI 1) (q := 40) B dX3_lays_39 rfl (by decide) ?_
      refine g_isub (v := nI k) (q := 41) B dX3_lays_40 rfl (pk_sub (by omega)) ?_
      refine g_ishr (v := nI (own / 2 ^ k)) (q := 42) B dX3_lays_41 rfl (shr_J (by omega) (by omega)) ?_
      refine g_iconst (v := nI 1) (q := 43) B dX3_lays_42 rfl (by decide) ?_
      refine g_iand (v := nI (own / 2 ^ k % 2)) (q := 44) B dX3_lays_43 rfl (nI_an1 _) ?_
      refine g_if_ne (tgt := 51) (q := 47) B dX3_lays_44 rfl (by decide) (nI_ne00 (by omega)) (fun c44 => ?_) (fun c44 => ?_)
      · skip
        refine g_iconst (v := nI 0) (q := 52) B dX3_lays_51 rfl (by decide) ?_
        refine g_istore (q := 54) (lv2 := [some (.ref m), some (.ref e), some (.int (nI own)), some (.int (nI S.2.2.2.1)), some (.int (nI (k + 1))), some (.int (nI (nab own (k + 1)))), some (.int (nI 0)), none, none, none]) B dX3_lays_52 rfl (Nat.le_of_ble_eq_true rfl) rfl ?_
        refine g_aload_n (q := 55) B dX3_lays_54 rfl rfl (rv_r _) ?_
        refine g_iload (q := 57) B dX3_lays_55 rfl rfl ?_
        refine g_iload (q := 59) B dX3_lays_57 rfl rfl ?_
        refine g_if_ne (tgt := 66) (q := 62) B dX3_lays_59 rfl (by decide) (iff_false_intro (by decide)) (fun z => z.elim) (fun _ => ?_)
        refine g_iconst (v := nI 1) (q := 63) B dX3_lays_62 rfl (by decide) ?_
        refine g_goto (tgt := 67) B dX3_lays_63 (by decide) ?_
        refine g_callS (q := 70) (is := []) (kc2 := 60 * (4 - k) + 5 * (BN - S.2.2.1.length)) (ks2 := 400 * (4 - k) + 12 * (BN - S.2.2.1.length) + 4 * (TA - capF S.2.1.length) + 4 * (BA - capF S.2.2.1.length)) B [.int (nI (nab own (k + 1))), .int (nI 1)] (ct_X3_child_1 g J (n := nab own (k + 1))  (by first | assumption | omega | rfl) (by first | assumption | omega | rfl)) dX3_lays_67 rfl q3463 q3464 q85 q3465 rfl rfl moX3_child rfl rfl (by decide) (by decide) (Nat.le_of_ble_eq_true rfl) (by omega) (by omega) (fun _ _ hx => noX_x hx) (fun v67 L1 hp67 => ?_)
        obtain ⟨rfl, rfl⟩ := hp67
        refine (show Go g κ 70 [some (.ref m), some (.ref e), some (.int (nI own)), some (.int (nI S.2.2.2.1)), some (.int (nI (k + 1))), some (.int (nI (nab own (k + 1)))), some (.int (nI 0)), none, none, none] [.int (nI (lft (nab own (k + 1)))), .ref e] [l17_0, [(m, .inr (12, [.ref ls, .ref lb, .ref lk, .ref lp, .ref lr, .ref le, .ref lm, .ref lo, .int (nI th), .int (lcg z), .int (nI bn), .int (nI cm)]))], l17_2, l17_3] (60 * (4 - k) + 5 * (BN - S.2.2.1.length)) (400 * (4 - k) + 12 * (BN - S.2.2.1.length) + 4 * (TA - capF S.2.1.length) + 4 * (BA - capF S.2.2.1.length)) from ?_)
        refine g_stk (y := .int (nI (asd own k))) (by rw [asd_l (by omega) (by omega) (by omega)]) ?_
        refine (show Go g κ 70 [some (.ref m), some (.ref e), some (.int (nI own)), some (.int (nI S.2.2.2.1)), some (.int (nI (k + 1))), some (.int (nI (nab own (k + 1)))), some (.int (nI 0)), none, none, none] [.int (nI (asd own k)), .ref e] [l17_0, [(m, .inr (12, [.ref ls, .ref lb, .ref lk, .ref lp, .ref lr, .ref le, .ref lm, .ref lo, .int (nI th), .int (lcg z), .int (nI bn), .int (nI cm)]))], l17_2, l17_3] (60 * (4 - k) + 5 * (BN - S.2.2.1.length)) (400 * (4 - k) + 12 * (BN - S.2.2.1.length) + 4 * (TA - capF S.2.1.length) + 4 * (BA - capF S.2.2.1.length)) from ?_)
        refine g_fg 6 rfl ?_
        exact ct70  
      · skip
        refine g_iconst (v := nI 1) (q := 48) B dX3_lays_47 rfl (by decide) ?_
        refine g_goto (tgt := 52) B dX3_lays_48 (by decide) ?_
        refine g_istore (q := 54) (lv2 := [some (.ref m), some (.ref e), some (.int (nI own)), some (.int (nI S.2.2.2.1)), some (.int (nI (k + 1))), some (.int (nI (nab own (k + 1)))), some (.int (nI 1)), none, none, none]) B dX3_lays_52 rfl (Nat.le_of_ble_eq_true rfl) rfl ?_
        refine g_aload_n (q := 55) B dX3_lays_54 rfl rfl (rv_r _) ?_
        refine g_iload (q := 57) B dX3_lays_55 rfl rfl ?_
        refine g_iload (q := 59) B dX3_lays_57 rfl rfl ?_
        refine g_if_ne (tgt := 66) (q := 62) B dX3_lays_59 rfl (by decide) (iff_true_intro (by decide)) (fun _ => ?_) (fun z => absurd trivial z)
        refine g_iconst (v := nI 0) (q := 67) B dX3_lays_66 rfl (by decide) ?_
        refine g_callS (q := 70) (is := []) (kc2 := 60 * (4 - k) + 5 * (BN - S.2.2.1.length)) (ks2 := 400 * (4 - k) + 12 * (BN - S.2.2.1.length) + 4 * (TA - capF S.2.1.length) + 4 * (BA - capF S.2.2.1.length)) B [.int (nI (nab own (k + 1))), .int (nI 0)] (ct_X3_child_0 g J (n := nab own (k + 1))  (by first | assumption | omega | rfl) (by first | assumption | omega | rfl)) dX3_lays_67 rfl q3463 q3464 q85 q3465 rfl rfl moX3_child rfl rfl (by decide) (by decide) (Nat.le_of_ble_eq_true rfl) (by omega) (by omega) (fun _ _ hx => noX_x hx) (fun v67 L1 hp67 => ?_)
        obtain ⟨rfl, rfl⟩ := hp67
        refine (show Go g κ 70 [some (.ref m), some (.ref e), some (.int (nI own)), some (.int (nI S.2.2.2.1)), some (.int (nI (k + 1))), some (.int (nI (nab own (k + 1)))), some (.int (nI 1)), none, none, none] [.int (nI (rgt (nab own (k + 1)))), .ref e] [l17_0, [(m, .inr (12, [.ref ls, .ref lb, .ref lk, .ref lp, .ref lr, .ref le, .ref lm, .ref lo, .int (nI th), .int (lcg z), .int (nI bn), .int (nI cm)]))], l17_2, l17_3] (60 * (4 - k) + 5 * (BN - S.2.2.1.length)) (400 * (4 - k) + 12 * (BN - S.2.2.1.length) + 4 * (TA - capF S.2.1.length) + 4 * (BA - capF S.2.2.1.length)) from ?_)
        refine g_stk (y := .int (nI (asd own k))) (by rw [asd_r (by omega) (by omega) (by omega)]) ?_
        refine (show Go g κ 70 [some (.ref m), some (.ref e), some (.int (nI own)), some (.int (nI S.2.2.2.1)), some (.int (nI (k + 1))), some (.int (nI (nab own (k + 1)))), some (.int (nI 1)), none, none, none] [.int (nI (asd own k)), .ref e] [l17_0, [(m, .inr (12, [.ref ls, .ref lb, .ref lk, .ref lp, .ref lr, .ref le, .ref lm, .ref lo, .int (nI th), .int (lcg z), .int (nI bn), .int (nI cm)]))], l17_2, l17_3] (60 * (4 - k) + 5 * (BN - S.2.2.1.length)) (400 * (4 - k) + 12 * (BN - S.2.2.1.length) + 4 * (TA - capF S.2.1.length) + 4 * (BA - capF S.2.2.1.length)) from ?_)
        refine g_fg 6 rfl ?_
        exact ct70  
  refine g_room (kc2 := 60 * (4 - 0) + 5 * (BN - ((setN (eTr r) (2 * own) ss.length, ss ++ [drw z], bx, ss.length, eWy r) : LmS).2.2.1.length)) (ks2 := 400 * (4 - 0) + 12 * (BN - ((setN (eTr r) (2 * own) ss.length, ss ++ [drw z], bx, ss.length, eWy r) : LmS).2.2.1.length) + 4 * (TA - capF ((setN (eTr r) (2 * own) ss.length, ss ++ [drw z], bx, ss.length, eWy r) : LmS).2.1.length) + 4 * (BA - capF ((setN (eTr r) (2 * own) ss.length, ss ++ [drw z], bx, ss.length, eWy r) : LmS).2.2.1.length)) (by omega) (by omega) ?_
  exact lp17 _ 0 ((setN (eTr r) (2 * own) ss.length, ss ++ [drw z], bx, ss.length, eWy r) : LmS) bo w2 u1_1 wc_1 hw2 hu1_1 hwc_1 (Nat.zero_le _) (rfl) (rfl) rfl
