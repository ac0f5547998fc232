set_option maxRecDepth 100000
theorem MpP.b2 {g : Gv} {a : Nat} {r : MpS} {w : va_W} (h : Sub (MpP g a r) w) : MpB r := by
  obtain ⟨w9, R9, -, h9⟩ := h
  obtain ⟨_, _, _, _, _, _, _, _, h8, -⟩ := h9
  exact h8
theorem bo_bo {P Q : Prop} {h1 : Decidable P} {h2 : Decidable Q} : nI (@ite Nat P h1 1 0) ≠ nI (@ite Nat Q h2 1 0) ↔ ¬ (P ↔ Q) := by
  by_cases hp : P <;> by_cases hq : Q
  · rw [if_pos hp, if_pos hq]; exact ⟨fun z => absurd rfl z, fun z => absurd ⟨fun _ => hq, fun _ => hp⟩ z⟩
  · rw [if_pos hp, if_neg hq]; exact ⟨fun _ z => hq (z.mp hp), fun _ => by decide⟩
  · rw [if_neg hp, if_pos hq]; exact ⟨fun _ z => hp (z.mpr hq), fun _ => by decide⟩
  · rw [if_neg hp, if_neg hq]; exact ⟨fun z => absurd rfl z, fun z => absurd ⟨fun y => absurd y hp, fun y => absurd y hq⟩ z⟩
theorem bo_andb {a b : Bool} : nI (if a = true then 1 else 0) &&& nI (if b = true then 1 else 0) = nI (if (a && b) = true then 1 else 0) := by cases a <;> cases b <;> decide
/-- what isRight asks of an epoch: E, N: what is found from all that was held, and is held -/
def epM (i : Nat) (r : MpS) (E N : Nat → Bool) (Ep : MeS) : Prop := (E (eKy Ep) = true ↔ ¬ lof (eTr Ep) i = none) ∧ (mEp r = none ∨ (∃ m, mEp r = some m ∧ m ≤ eNo Ep) ∨ ¬ N (eKy Ep) = true)
def ownM (E : MeS) (r : MpS) (n : Nat) : Bool := decide (0 < lev n ∧ cvr n (mLf r) = true) && ((eTr E).2.1 n).isSome && !hsB ((eTr E).2.2.1 n) (mLf r)
def hjM (E : MeS) (r : MpS) (n : Nat) : Bool := decide (lev n = 0) || (((mNd r n).isSome == ownM E r n) && (!ownM E r n || mNd r n == (eTr E).2.1 n))
/-- what isRight answers -/
def rgtM (D : MdS) (i : Nat) (r : MpS) (E N : Nat → Bool) : Prop := (∀ (e : Nat) (Ep : MeS), (dEs D)[e]? = some Ep → epM i r E N Ep) ∧ (isF (dEs D).length (mEp r) = true → ∀ Ep : MeS, (dEs D)[(dEs D).length - 1]? = some Ep → (List.range (2 * 2 ^ (eTr Ep).1 - 1)).all (hjM Ep r) = true)
theorem epm_s {D : MdS} {i k : Nat} {r : MpS} {E N : Nat → Bool} {is b : Bool} {Ep : MeS} (h : is = true ↔ ∀ (e : Nat) (Ep : MeS), e < k → (dEs D)[e]? = some Ep → epM i r E N Ep) (hr : (dEs D)[k]? = some Ep) (hb : b = true ↔ is = true ∧ epM i r E N Ep) : b = true ↔ ∀ (e : Nat) (Ep : MeS), e < k + 1 → (dEs D)[e]? = some Ep → epM i r E N Ep := by
  rw [hb, h]
  constructor
  · rintro ⟨h1, h2⟩ e E2 he hE
    rcases Nat.lt_or_ge e k with z | z
    · exact h1 e E2 z hE
    · rw [show e = k by omega, hr] at hE; cases hE; exact h2
  · exact fun z => ⟨fun e E2 he hE => z e E2 (by omega) hE, z k Ep (by omega) hr⟩
def sndM (D : MdS) (k : Nat) : Prop := ∀ (i : Nat) (r : MpS), i < k → (dPs D)[i]? = some r → ∀ E N : Nat → Bool, (∀ x, E x = true ↔ ClQ (dSs D) (dBx D) (fun y => y ∈ mEv r) x) → (∀ x, N x = true ↔ ClQ (dSs D) (dBx D) (fun y => helM (dKs D) (dEs D) i r y) x) → rgtM D i r E N
theorem snm_s {D : MdS} {k : Nat} {r : MpS} {E N : Nat → Bool} {is q : Bool} (h : is = true ↔ sndM D k) (hr : (dPs D)[k]? = some r) (hE : ∀ x, E x = true ↔ ClQ (dSs D) (dBx D) (fun y => y ∈ mEv r) x) (hN : ∀ x, N x = true ↔ ClQ (dSs D) (dBx D) (fun y => helM (dKs D) (dEs D) k r y) x) (hq : q = true ↔ rgtM D k r E N) : (is && q) = true ↔ sndM D (k + 1) := by
  rw [Bool.and_eq_true, h, hq]
  constructor
  · rintro ⟨h1, h2⟩ i s hi hs E2 N2 hE2 hN2
    rcases Nat.lt_or_ge i k with z | z
    · exact h1 i s z hs E2 N2 hE2 hN2
    · rw [show i = k by omega] at hs hN2 ⊢
      rw [hr] at hs; cases hs
      have e1 : E2 = E := by funext x; exact Bool.eq_iff_iff.mpr ((hE2 x).trans (hE x).symm)
      have e2 : N2 = N := by funext x; exact Bool.eq_iff_iff.mpr ((hN2 x).trans (hN x).symm)
      rw [e1, e2]; exact h2
  · exact fun z => ⟨fun i s hi hs => z i s (by omega) hs, z k r (by omega) hr E N hE hN⟩
/-- a list without repetition counts what lies in it -/
theorem len_ct : ∀ (n : Nat) (vs : List Nat) (K : Nat → Bool), vs.Nodup → (∀ x, x ∈ vs ↔ K x = true) → (∀ x ∈ vs, x < n) → vs.length = fb_ct K n
  | 0, [], _, _, _, _ => rfl
  | 0, x :: _, _, _, _, hb => absurd (hb x (by simp)) (Nat.not_lt_zero x)
  | n + 1, vs, K, hd, hm, hb => by
    rw [fb_ct_succ]
    by_cases hk : K n = true
    · rw [if_pos hk]
      have hn : n ∈ vs := (hm n).mpr hk
      have h1 := len_ct n (vs.erase n) (fun x => K x && decide (x ≠ n)) (hd.erase n) (fun x => by
        rw [List.Nodup.mem_erase_iff hd, hm x]; simp [and_comm]) (fun x hx => by
        have h2 := (List.Nodup.mem_erase_iff hd).mp hx
        have := hb x h2.2
        omega)
      have h3 : fb_ct (fun x => K x && decide (x ≠ n)) n = fb_ct K n := fb_ct_cong fun x hx => by
        have : x ≠ n := by omega
        simp [this]
      have h4 := List.length_erase_of_mem hn
      have h5 : 0 < vs.length := List.length_pos_of_mem hn
      omega
    · rw [if_neg hk]
      exact len_ct n vs K hd hm fun x hx => by
        have h1 := hb x hx
        rcases Nat.lt_or_ge x n with z | z
        · exact z
        · rw [show x = n by omega] at hx; exact absurd ((hm n).mp hx) hk
set_option maxHeartbeats 16000000 in
theorem ct_X3_isRight (g : Gv) (J : Jd g) {m : Nat} {D : MdS} {ls : Nat} {lb : Nat} {lk : Nat} {lp : Nat} {lr : Nat} {le : Nat} {lm : Nat} {lo : Nat} {th : Nat} {mks : List Nat} {kcap : Nat} {mps : List Nat} {pcap : Nat} {ecap : Nat} {i : Nat} {r : MpS} {w1 : va_W} {w2 : va_W} {w3 : va_W} {w4 : va_W} {w5 : va_W} (hw1 : LhP g (SecP g) ls (dSs D) (capF (dSs D).length) w1) (hw2 : LhP g (BbP g) lb (dBx D) (capF (dBx D).length) w2) (hw3 : LoP g (MqP g) lk mks (dKs D) kcap w3) (hw4 : LoP g (MpP g) lp mps (dPs D) pcap w4) (hw5 : LhP g (EpP g) le (dEs D) ecap w5) (hD : MdB D) (hI : MdI D) (hekl : ∀ Ep ∈ dEs D, eKy Ep < (dSs D).length) (h16 : ∀ Ep ∈ dEs D, ∀ l, 2 ^ (eTr Ep).1 ≤ l → (eTr Ep).2.2.2 l = none) (hr : (dPs D)[i]? = some r) : Ct g yX3_isRight (ws_ yX3_isRight cX3_isRight 9 (some .boolean)) 14 (2 * (dSs D).length + 32 * (dMs D).length + capF (dSs D).length / 5 + 230) (10 * (dSs D).length + 80 * (dMs D).length + 4 * capF (dSs D).length + 610) [.ref m, .int (nI i)] [[(m, .inr (12, [.ref ls, .ref lb, .ref lk, .ref lp, .ref lr, .ref le, .ref lm, .ref lo, .int (nI th), .int (dZz D), .int (nI (dBn D)), .int (nI (dCm D))]))], w1, w2, w3, w4, w5] (fun (rv_ : Option Value) (rL_ : List va_W) => ∃ (q : Bool) (E9 : Nat → Bool) (N9 : Nat → Bool), rv_ = some (.int (nI (if q = true then 1 else 0))) ∧ rL_ = [[(m, .inr (12, [.ref ls, .ref lb, .ref lk, .ref lp, .ref lr, .ref le, .ref lm, .ref lo, .int (nI th), .int (dZz D), .int (nI (dBn D)), .int (nI (dCm D))]))], w1, w2, w3, w4, w5] ∧ (∀ x, E9 x = true ↔ ClQ (dSs D) (dBx D) (fun y => y ∈ mEv r) x) ∧ (∀ x, N9 x = true ↔ ClQ (dSs D) (dBx D) (fun y => helM (dKs D) (dEs D) i r y) x) ∧ (q = true ↔ rgtM D i r E9 N9)) noX := by
  refine Ct.of "KeygroveModel" [some (.ref m), some (.int (nI i)), none, none, none, none, none, none, none] rfl (by decide) rfl (Nat.le_of_ble_eq_true rfl) rfl ?_
  intro κ B E tb
  have hD0 := hD
  obtain ⟨hd1, hd2, hd3, hd4, hd5, hd6, hd7, hd8, hd9⟩ := hD0
  obtain ⟨hi1, hi2, hi3, hi4, hi5⟩ := hI
  have hcf := capF_le (dSs D).length
  have hi := get_lt2 hr
  obtain ⟨hh1, hh2, hh3, hh4, hh5⟩ := hi5 _ _ hr
  refine g_aload_n (q := 1) B dX3_isRight_0 rfl rfl (rv_r _) ?_
  refine g_get (q := 4) B (ci := 12) (k := 0) (j := 3) in_X3 rfl dX3_isRight_1 rfl rfl (Nat.le_of_ble_eq_true rfl) q3060 rfl rfl ?_
  refine g_iload_n (q := 5) B dX3_isRight_4 rfl rfl ?_
  obtain ⟨md_1, hli_1, hln_1, hel_1⟩ := LoP.at (Sub.self hw4)
  obtain ⟨x5, hx5⟩ := get_ex (xs := mps) (i := i) (by have := get_lt2 (show (dPs D)[i]? = some r from hr); have := hln_1.1; omega)
  have hE_2 := hel_1 _ _ _ hx5 (show (dPs D)[i]? = some r from hr)
  refine g_callV (q := 8) (is := [4]) (kc2 := (2 * (dSs D).length + 32 * (dMs D).length + capF (dSs D).length / 5 + 230)) (ks2 := (10 * (dSs D).length + 80 * (dMs D).length + 4 * capF (dSs D).length + 610)) B [.int (nI i)] (ct_J2_get_s g J (p := lp) (xs := mps) (md := md_1) (cap := pcap) (i := i) (x := x5) (W0 := w4)  (hli_1) (hx5)) dX3_isRight_5 rfl (rc_in B (ci := 21) rfl (k := 4) rfl (LoP.hm hw4)) rfl q3231 q1095 q3667 q81 q1097 rfl rfl moJ2_get rfl rfl (by decide) (by decide) (Nat.le_of_ble_eq_true rfl) (by omega) (by omega) (fun _ _ hx => noX_x hx) (fun v5 L1 hp5 => ?_)
  obtain ⟨rfl, rfl⟩ := hp5
  refine (show Go g κ 8 [some (.ref m), some (.int (nI i)), none, none, none, none, none, none, none] [.ref x5] [[(m, .inr (12, [.ref ls, .ref lb, .ref lk, .ref lp, .ref lr, .ref le, .ref lm, .ref lo, .int (nI th), .int (dZz D), .int (nI (dBn D)), .int (nI (dCm D))]))], w1, w2, w3, w5, w4] (2 * (dSs D).length + 32 * (dMs D).length + capF (dSs D).length / 5 + 230) (10 * (dSs D).length + 80 * (dMs D).length + 4 * capF (dSs D).length + 610) from ?_)
  refine g_castRS (ci := 13) (q := 11) B rfl (rc_in B (ci := 13) rfl (k := 5) rfl (Sub.hm (hE_2) fun _ z => MpP.hm z)) dX3_isRight_8 rfl q3107 ?_
  refine g_astore_n (q := 12) (lv2 := [some (.ref m), some (.int (nI i)), some (.ref x5), none, none, none, none, none, none]) B dX3_isRight_11 rfl (Nat.le_of_ble_eq_true rfl) (rv_r _) rfl ?_
  have hMB := MpP.b2 (hE_2)
  refine g_aload_n (q := 13) B dX3_isRight_12 rfl rfl (rv_r _) ?_
  refine g_aload_n (q := 14) B dX3_isRight_13 rfl rfl (rv_r _) ?_
  obtain ⟨nd_3, ch_3, ev_3, cv_3, fn_3, fc_3, hM_3, hfn_3, hoc_3, hcv_3, hc_3_0, hc_3_1, hc_3_2, hs_3_0, hs_3_1⟩ := MpP.at (hE_2)
  refine g_getNM (q := 17) B (ci := 13) (k := 5) (j := 6) in_X5 rfl dX3_isRight_14 rfl rfl (hc_3_0) (Nat.le_of_ble_eq_true rfl) q3128 rfl rfl ?_
  refine g_callV (q := 20) (is := [0, 0, 0, 2]) (kc2 := (220 + 32 * (dMs D).length + capF (dSs D).length / 5) + (3 + (dSs D).length) + 4) (ks2 := (575 + 80 * (dMs D).length + 4 * capF (dSs D).length) + (8 + 5 * (dSs D).length) + 10) B [.ref ev_3] (ct_X3_all_s g J (m := m) (ls := ls) (lb := lb) (lk := lk) (lp := lp) (lr := lr) (le := le) (lm := lm) (lo := lo) (th := th) (z := dZz D) (bo := dBn D) (cm := dCm D) (ss := (dSs D)) (bx := (dBx D)) (p := ev_3) (vs := (mEv r)) (capv := cv_3) (W3 := w4) hw1 hw2 (hs_3_1) (hi1) (hi2) (by omega) (hh5)) dX3_isRight_17 rfl (rc_at B (ci := 12) rfl (k := 0) rfl) rfl q3607 q3609 qs74 q85 q3610 rfl rfl moX3_all rfl rfl (by decide) (by decide) (Nat.le_of_ble_eq_true rfl) (by omega) (by omega) (fun _ _ hx => noX_x hx) (fun v17 L1 hp17 => ?_)
  obtain ⟨a17, fa17, K17, rfl, rfl, hfa_17, hK_17, hlt_17⟩ := hp17
  refine (show Go g κ 20 [some (.ref m), some (.int (nI i)), some (.ref x5), none, none, none, none, none, none] [.ref a17] [w3, w5, [(m, .inr (12, [.ref ls, .ref lb, .ref lk, .ref lp, .ref lr, .ref le, .ref lm, .ref lo, .int (nI th), .int (dZz D), .int (nI (dBn D)), .int (nI (dCm D))]))], w1, w2, w4, [(a17, .inl (g.2.1 4, (dSs D).length, .inl fa17))]] ((220 + 32 * (dMs D).length + capF (dSs D).length / 5) + (3 + (dSs D).length) + 4) ((575 + 80 * (dMs D).length + 4 * capF (dSs D).length) + (8 + 5 * (dSs D).length) + 10) from ?_)
  refine g_astore_n (q := 21) (lv2 := [some (.ref m), some (.int (nI i)), some (.ref x5), some (.ref a17), none, none, none, none, none]) B dX3_isRight_20 rfl (Nat.le_of_ble_eq_true rfl) (rv_r _) rfl ?_
  refine g_aload_n (q := 22) B dX3_isRight_21 rfl rfl (rv_r _) ?_
  refine g_aload_n (q := 23) B dX3_isRight_22 rfl rfl (rv_r _) ?_
  refine g_iload_n (q := 24) B dX3_isRight_23 rfl rfl ?_
  refine g_callV (q := 27) (is := [2, 0, 3, 0]) (kc2 := (3 + (dSs D).length) + 4) (ks2 := (8 + 5 * (dSs D).length) + 10) B [.int (nI i)] (ct_X3_heldBy g J (m := m) (ls := ls) (lb := lb) (lk := lk) (lp := lp) (lr := lr) (le := le) (lm := lm) (lo := lo) (th := th) (z := (dZz D)) (bo := (dBn D)) (cm := (dCm D)) (mks := mks) (Ks := (dKs D)) (kcap := kcap) (mps := mps) (Ps := (dPs D)) (pcap := pcap) (Es := (dEs D)) (ecap := ecap) (i := i) (r := r) (n := (dSs D).length) (Q := (dMs D).length) hw3 hw4 hw5 (hr) (by omega) (hh1) (hh2) (hh3) (by omega)) dX3_isRight_24 rfl (rc_at B (ci := 12) rfl (k := 2) rfl) rfl q3227 q3229 qs55 q85 q3230 rfl rfl moX3_heldBy rfl rfl (by decide) (by decide) (Nat.le_of_ble_eq_true rfl) (by omega) (by omega) (fun _ _ hx => noX_x hx) (fun v24 L1 hp24 => ?_)
  obtain ⟨p24, vs24, u4_24, rfl, rfl, hu4_24, hm_24, hnd_24, hvl_24⟩ := hp24
  refine (show Go g κ 27 [some (.ref m), some (.int (nI i)), some (.ref x5), some (.ref a17), none, none, none, none, none] [.ref p24, .ref m] [w1, w2, [(a17, .inl (g.2.1 4, (dSs D).length, .inl fa17))], [(m, .inr (12, [.ref ls, .ref lb, .ref lk, .ref lp, .ref lr, .ref le, .ref lm, .ref lo, .int (nI th), .int (dZz D), .int (nI (dBn D)), .int (nI (dCm D))]))], w3, w4, w5, u4_24] ((3 + (dSs D).length) + 4) ((8 + 5 * (dSs D).length) + 10) from ?_)
  have hx24 : ∀ x ∈ vs24, x < (dSs D).length := fun x h => hh3 x ((hm_24 x).mp h)
  refine g_callV (q := 30) (is := [3, 0, 0, 4]) (kc2 := 4) (ks2 := 10) B [.ref p24] (ct_X3_all g J (m := m) (ls := ls) (lb := lb) (lk := lk) (lp := lp) (lr := lr) (le := le) (lm := lm) (lo := lo) (th := th) (z := (dZz D)) (bo := (dBn D)) (cm := (dCm D)) (ss := (dSs D)) (bx := (dBx D)) (p := p24) (vs := vs24) (capv := (capF vs24.length)) hw1 hw2 hu4_24 (hi1) (hi2) (by omega) (hx24)) dX3_isRight_27 rfl (rc_at B (ci := 12) rfl (k := 3) rfl) rfl q3607 q3609 qs74 q85 q3610 rfl rfl moX3_all rfl rfl (by decide) (by decide) (Nat.le_of_ble_eq_true rfl) (by omega) (by omega) (fun _ _ hx => noX_x hx) (fun v27 L1 hp27 => ?_)
  obtain ⟨a27, fa27, K27, rfl, rfl, hfa_27, hK_27, hlt_27⟩ := hp27
  refine (show Go g κ 30 [some (.ref m), some (.int (nI i)), some (.ref x5), some (.ref a17), none, none, none, none, none] [.ref a27] [[(a17, .inl (g.2.1 4, (dSs D).length, .inl fa17))], w3, w4, w5, [(m, .inr (12, [.ref ls, .ref lb, .ref lk, .ref lp, .ref lr, .ref le, .ref lm, .ref lo, .int (nI th), .int (dZz D), .int (nI (dBn D)), .int (nI (dCm D))]))], w1, w2, u4_24, [(a27, .inl (g.2.1 4, (dSs D).length, .inl fa27))]] 4 10 from ?_)
  have hQE := fun x => (hK_17 x).trans (ClQ.of (Q := fun y => y ∈ mEv r) (fun y => Iff.rfl) x)
  have hQN := fun x => (hK_27 x).trans (ClQ.of (Q := fun y => helM (dKs D) (dEs D) i r y) hm_24 x)
  refine g_astore (q := 32) (lv2 := [some (.ref m), some (.int (nI i)), some (.ref x5), some (.ref a17), some (.ref a27), none, none, none, none]) B dX3_isRight_30 rfl (Nat.le_of_ble_eq_true rfl) (rv_r _) rfl ?_
  refine g_iconst (v := nI 1) (q := 33) B dX3_isRight_32 rfl (by decide) ?_
  refine g_istore (q := 35) (lv2 := [some (.ref m), some (.int (nI i)), some (.ref x5), some (.ref a17), some (.ref a27), some (.int (nI 1)), none, none, none]) B dX3_isRight_33 rfl (Nat.le_of_ble_eq_true rfl) rfl ?_
  refine g_aload_n (q := 36) B dX3_isRight_35 rfl rfl (rv_r _) ?_
  refine g_get (q := 39) B (ci := 12) (k := 4) (j := 5) in_X3 rfl dX3_isRight_36 rfl rfl (Nat.le_of_ble_eq_true rfl) q3062 rfl rfl ?_
  obtain ⟨ps_4, md_4, hli_4, hln_4, hel_4⟩ := LhP.at (Sub.self hw5)
  refine g_callV (q := 42) (is := [3]) (kc2 := 3) (ks2 := 6) B [] (ct_J2_iterator_s g J (p := le) (xs := ps_4) (md := md_4) (cap := ecap) (W0 := w5)  (hli_4)) dX3_isRight_39 rfl (rc_in B (ci := 21) rfl (k := 3) rfl (LhP.hm hw5)) rfl q3232 q805 q3668 q81 q807 rfl rfl moJ2_iterator rfl rfl (by decide) (by decide) (Nat.le_of_ble_eq_true rfl) (Nat.le_of_ble_eq_true rfl) (Nat.le_of_ble_eq_true rfl) (fun _ _ hx => noX_x hx) (fun v39 L1 hp39 => ?_)
  obtain ⟨it39, rfl, rfl⟩ := hp39
  refine (show Go g κ 42 [some (.ref m), some (.int (nI i)), some (.ref x5), some (.ref a17), some (.ref a27), some (.int (nI 1)), none, none, none] [.ref it39] [[(a17, .inl (g.2.1 4, (dSs D).length, .inl fa17))], w3, w4, [(m, .inr (12, [.ref ls, .ref lb, .ref lk, .ref lp, .ref lr, .ref le, .ref lm, .ref lo, .int (nI th), .int (dZz D), .int (nI (dBn D)), .int (nI (dCm D))]))], w1, w2, u4_24, [(a27, .inl (g.2.1 4, (dSs D).length, .inl fa27))], [(it39, .inr (22, [.int (nI 0), .int (-1), .int md_4, .ref le]))], w5] 3 6 from ?_)
  refine g_astore (q := 44) (lv2 := [some (.ref m), some (.int (nI i)), some (.ref x5), some (.ref a17), some (.ref a27), some (.int (nI 1)), some (.ref it39), none, none]) B dX3_isRight_42 rfl (Nat.le_of_ble_eq_true rfl) (rv_r _) rfl ?_
  have lp44 : ∀ (n44 : Nat) (k : Nat) (lrt : Int32) (is : Bool) , (k ≤ (dEs D).length) → (is = true ↔ ∀ (e : Nat) (Ep : MeS), e < k → (dEs D)[e]? = some Ep → epM i r K17 K27 Ep) → (dEs D).length - k = n44 → Go g κ 44 [some (.ref m), some (.int (nI i)), some (.ref x5), some (.ref a17), some (.ref a27), some (.int (nI (if is = true then 1 else 0))), some (.ref it39), none, none] [] [[(a17, .inl (g.2.1 4, (dSs D).length, .inl fa17))], w3, w4, [(m, .inr (12, [.ref ls, .ref lb, .ref lk, .ref lp, .ref lr, .ref le, .ref lm, .ref lo, .int (nI th), .int (dZz D), .int (nI (dBn D)), .int (nI (dCm D))]))], w1, w2, u4_24, [(a27, .inl (g.2.1 4, (dSs D).length, .inl fa27))], [(it39, .inr (22, [.int (nI k), .int lrt, .int md_4, .ref le]))], w5] 3 6 := by
    intro n44
    induction n44 using Nat.strongRecOn with
    | _ n44 ih44 =>
    intro k lrt is  hk his hmu44
    refine g_aload (q := 46) B dX3_isRight_44 rfl rfl (rv_r _) ?_
    refine g_callF (q := 51) (is := [8, 8]) (kc2 := 3) (ks2 := 6) B [] (ct_J19_hasNext_s g J (p := le) (xs := ps_4) (md := md_4) (cap := ecap) (it := it39) (c := k) (lr := lrt) (W1 := w5)  (hli_4) (by have := hln_4.1; omega)) dX3_isRight_46 rfl (ci := 22) rfl (rc_at B (ci := 22) rfl (k := 8) rfl) q3234 q940 q942 q104 q944 q938 q937 q943 q941 q939 rfl rfl mojava_util_Iterator_hasNext___Z rfl rfl (by decide) (by decide) (Nat.le_of_ble_eq_true rfl) (Nat.le_of_ble_eq_true rfl) (Nat.le_of_ble_eq_true rfl) (fun _ _ hx => noX_x hx) (fun v46 L1 hp46 => ?_)
    obtain ⟨rfl, rfl⟩ := hp46
    refine (show Go g κ 51 [some (.ref m), some (.int (nI i)), some (.ref x5), some (.ref a17), some (.ref a27), some (.int (nI (if is = true then 1 else 0))), some (.ref it39), none, none] [.int (nI (if ¬ k = ps_4.length then 1 else 0))] [[(a17, .inl (g.2.1 4, (dSs D).length, .inl fa17))], w3, w4, [(m, .inr (12, [.ref ls, .ref lb, .ref lk, .ref lp, .ref lr, .ref le, .ref lm, .ref lo, .int (nI th), .int (dZz D), .int (nI (dBn D)), .int (nI (dCm D))]))], w1, w2, u4_24, [(a27, .inl (g.2.1 4, (dSs D).length, .inl fa27))], [(it39, .inr (22, [.int (nI k), .int lrt, .int md_4, .ref le]))], w5] 3 6 from ?_)
    rw [hln_4.1]
    refine (show Go g κ 51 [some (.ref m), some (.int (nI i)), some (.ref x5), some (.ref a17), some (.ref a27), some (.int (nI (if is = true then 1 else 0))), some (.ref it39), none, none] [.int (nI (if ¬ k = (dEs D).length then 1 else 0))] [[(a17, .inl (g.2.1 4, (dSs D).length, .inl fa17))], w3, w4, [(m, .inr (12, [.ref ls, .ref lb, .ref lk, .ref lp, .ref lr, .ref le, .ref lm, .ref lo, .int (nI th), .int (dZz D), .int (nI (dBn D)), .int (nI (dCm D))]))], w1, w2, u4_24, [(a27, .inl (g.2.1 4, (dSs D).length, .inl fa27))], [(it39, .inr (22, [.int (nI k), .int lrt, .int md_4, .ref le]))], w5] 3 6 from ?_)
    refine g_if_eq (tgt := 137) (q := 54) B dX3_isRight_51 rfl (by decide) (bo_eq) (fun c51 => ?_) (fun c51 => ?_)
    · skip
      have hisl : is = true ↔ ∀ (e : Nat) (Ep : MeS), (dEs D)[e]? = some Ep → epM i r K17 K27 Ep := by rw [his, show k = (dEs D).length by omega]; exact ⟨fun z e Ep h => z e Ep (get_lt2 h) h, fun z e Ep _ h => z e Ep h⟩
      refine g_aload_n (q := 138) B dX3_isRight_137 rfl rfl (rv_r _) ?_
      refine g_iload_n (q := 139) B dX3_isRight_138 rfl rfl ?_
      refine g_callV (q := 142) (is := [3, 2, 7]) (kc2 := 3) (ks2 := 6) B [.int (nI i)] (ct_X3_isNew g J (m := m) (ls := ls) (lb := lb) (lk := lk) (lp := lp) (lr := lr) (le := le) (lm := lm) (lo := lo) (th := th) (z := (dZz D)) (bo := (dBn D)) (cm := (dCm D)) (mps := mps) (Ps := (dPs D)) (pcap := pcap) (Es := (dEs D)) (ecap := ecap) (i := i) (r := r) hw4 hw5 (hr) (by omega) (by omega)) dX3_isRight_139 rfl (rc_at B (ci := 12) rfl (k := 3) rfl) rfl q3370 q3372 qs62 q85 q3373 rfl rfl moX3_isNew rfl rfl (by decide) (by decide) (Nat.le_of_ble_eq_true rfl) (Nat.le_of_ble_eq_true rfl) (Nat.le_of_ble_eq_true rfl) (fun _ _ hx => noX_x hx) (fun v139 L1 hp139 => ?_)
      obtain ⟨rfl, rfl⟩ := hp139
      refine (show Go g κ 142 [some (.ref m), some (.int (nI i)), some (.ref x5), some (.ref a17), some (.ref a27), some (.int (nI (if is = true then 1 else 0))), some (.ref it39), none, none] [.int (nI (if isF (dEs D).length (mEp r) = true then 1 else 0))] [[(a17, .inl (g.2.1 4, (dSs D).length, .inl fa17))], w3, w1, w2, u4_24, [(a27, .inl (g.2.1 4, (dSs D).length, .inl fa27))], [(it39, .inr (22, [.int (nI k), .int lrt, .int md_4, .ref le]))], [(m, .inr (12, [.ref ls, .ref lb, .ref lk, .ref lp, .ref lr, .ref le, .ref lm, .ref lo, .int (nI th), .int (dZz D), .int (nI (dBn D)), .int (nI (dCm D))]))], w4, w5] 3 6 from ?_)
      refine g_if_ne (tgt := 148) (q := 145) B dX3_isRight_142 rfl (by decide) (bo_ne) (fun c142 => ?_) (fun c142 => ?_)
      · skip
        have hne9 := isF_ne c142
        obtain ⟨E8, hT8⟩ := get_ex (xs := dEs D) (i := (dEs D).length - 1) (by omega)
        refine g_aload_n (q := 149) B dX3_isRight_148 rfl rfl (rv_r _) ?_
        refine g_callV (q := 152) (is := [7, 8]) (kc2 := 3) (ks2 := 6) B [] (ct_X3_newest g J (m := m) (ls := ls) (lb := lb) (lk := lk) (lp := lp) (lr := lr) (le := le) (lm := lm) (lo := lo) (th := th) (z := (dZz D)) (bo := (dBn D)) (cm := (dCm D)) (Es := (dEs D)) (ecap := ecap) (Ep := E8) hw5 (hT8) (by omega)) dX3_isRight_149 rfl (rc_at B (ci := 12) rfl (k := 7) rfl) rfl q3374 q3376 qs63 q85 q3377 rfl rfl moX3_newest rfl rfl (by decide) (by decide) (Nat.le_of_ble_eq_true rfl) (Nat.le_of_ble_eq_true rfl) (Nat.le_of_ble_eq_true rfl) (fun _ _ hx => noX_x hx) (fun v149 L1 hp149 => ?_)
        obtain ⟨e149, rfl, rfl, hE_149⟩ := hp149
        refine (show Go g κ 152 [some (.ref m), some (.int (nI i)), some (.ref x5), some (.ref a17), some (.ref a27), some (.int (nI (if is = true then 1 else 0))), some (.ref it39), none, none] [.ref e149] [[(a17, .inl (g.2.1 4, (dSs D).length, .inl fa17))], w3, w1, w2, u4_24, [(a27, .inl (g.2.1 4, (dSs D).length, .inl fa27))], [(it39, .inr (22, [.int (nI k), .int lrt, .int md_4, .ref le]))], w4, [(m, .inr (12, [.ref ls, .ref lb, .ref lk, .ref lp, .ref lr, .ref le, .ref lm, .ref lo, .int (nI th), .int (dZz D), .int (nI (dBn D)), .int (nI (dCm D))]))], w5] 3 6 from ?_)
        have hEB9 := EpP.b2 hE_149
        have hTB9 := hEB9.2.1
        have hp29 := p2_4 hTB9.1
        refine g_astore (q := 154) (lv2 := [some (.ref m), some (.int (nI i)), some (.ref x5), some (.ref a17), some (.ref a27), some (.int (nI (if is = true then 1 else 0))), some (.ref e149), none, none]) B dX3_isRight_152 rfl (Nat.le_of_ble_eq_true rfl) (rv_r _) rfl ?_
        refine g_iconst (v := nI 0) (q := 155) B dX3_isRight_154 rfl (by decide) ?_
        refine g_istore (q := 157) (lv2 := [some (.ref m), some (.int (nI i)), some (.ref x5), some (.ref a17), some (.ref a27), some (.int (nI (if is = true then 1 else 0))), some (.ref e149), some (.int (nI 0)), none]) B dX3_isRight_155 rfl (Nat.le_of_ble_eq_true rfl) rfl ?_
        have lp157 : ∀ (n157 : Nat) (n : Nat) (b : Bool) , (n ≤ 2 * 2 ^ (eTr E8).1 - 1) → (b = true ↔ is = true ∧ (List.range n).all (hjM E8 r) = true) → 31 - n = n157 → Go g κ 157 [some (.ref m), some (.int (nI i)), some (.ref x5), some (.ref a17), some (.ref a27), some (.int (nI (if b = true then 1 else 0))), some (.ref e149), some (.int (nI n)), none] [] [[(a17, .inl (g.2.1 4, (dSs D).length, .inl fa17))], w3, w1, w2, u4_24, [(a27, .inl (g.2.1 4, (dSs D).length, .inl fa27))], [(it39, .inr (22, [.int (nI k), .int lrt, .int md_4, .ref le]))], w4, [(m, .inr (12, [.ref ls, .ref lb, .ref lk, .ref lp, .ref lr, .ref le, .ref lm, .ref lo, .int (nI th), .int (dZz D), .int (nI (dBn D)), .int (nI (dCm D))]))], w5] 3 6 := by
          intro n157
          induction n157 using Nat.strongRecOn with
          | _ n157 ih157 =>
          intro n b  hn hb hmu157
          refine g_iload (q := 159) B dX3_isRight_157 rfl rfl ?_
          refine g_aload (q := 161) B dX3_isRight_159 rfl rfl (rv_r _) ?_
          refine g_callV (q := 164) (is := [9]) (kc2 := 3) (ks2 := 6) B [] (ct_X13_nodes_s g J (e := e149) (r := E8) (W0 := w5)  (hE_149)) dX3_isRight_161 rfl (rc_in B (ci := 16) rfl (k := 9) rfl (Sub.hm (hE_149) fun _ z => EpP.hm z)) rfl q3434 q3435 q3436 q137 q3437 rfl rfl moX13_nodes rfl rfl (by decide) (by decide) (Nat.le_of_ble_eq_true rfl) (Nat.le_of_ble_eq_true rfl) (Nat.le_of_ble_eq_true rfl) (fun _ _ hx => noX_x hx) (fun v161 L1 hp161 => ?_)
          obtain ⟨rfl, rfl⟩ := hp161
          refine (show Go g κ 164 [some (.ref m), some (.int (nI i)), some (.ref x5), some (.ref a17), some (.ref a27), some (.int (nI (if b = true then 1 else 0))), some (.ref e149), some (.int (nI n)), none] [.int (nI (2 * 2 ^ (eTr E8).1 - 1)), .int (nI n)] [[(a17, .inl (g.2.1 4, (dSs D).length, .inl fa17))], w3, w1, w2, u4_24, [(a27, .inl (g.2.1 4, (dSs D).length, .inl fa27))], [(it39, .inr (22, [.int (nI k), .int lrt, .int md_4, .ref le]))], w4, [(m, .inr (12, [.ref ls, .ref lb, .ref lk, .ref lp, .ref lr, .ref le, .ref lm, .ref lo, .int (nI th), .int (dZz D), .int (nI (dBn D)), .int (nI (dCm D))]))], w5] 3 6 from ?_)
          refine g_icmp_ge (tgt := 284) (q := 167) B dX3_isRight_164 rfl (by decide) (nI_leI (by omega) (by omega)) (fun c164 => ?_) (fun c164 => ?_)
          · skip
            refine g_iload (q := 286) B dX3_isRight_284 rfl rfl ?_
            refine g_pk [8, 2, 2, 1, 4, 4] rfl rfl ?_
            refine (show Go g κ 286 [some (.ref m), some (.int (nI i)), some (.ref x5), some (.ref a17), some (.ref a27), some (.int (nI (if b = true then 1 else 0))), some (.ref e149), some (.int (nI n)), none] [.int (nI (if b = true then 1 else 0))] [[(m, .inr (12, [.ref ls, .ref lb, .ref lk, .ref lp, .ref lr, .ref le, .ref lm, .ref lo, .int (nI th), .int (dZz D), .int (nI (dBn D)), .int (nI (dCm D))]))], w1, w2, w3, w4, w5] 3 6 from ?_)
            exact g_zret B E dX3_isRight_286 (by split <;> decide) (⟨b, K17, K27, rfl, rfl, hQE, hQN, ⟨fun h => ⟨hisl.mp (hb.mp h).1, fun _ E7 hE7 => by rw [hT8] at hE7; cases hE7; rw [show 2 * 2 ^ (eTr E8).1 - 1 = n by omega]; exact (hb.mp h).2⟩, fun h => hb.mpr ⟨hisl.mpr h.1, by have z := h.2 c142 E8 hT8; rw [show 2 * 2 ^ (eTr E8).1 - 1 = n by omega] at z; exact z⟩⟩⟩)
          · skip
            refine g_iload (q := 169) B dX3_isRight_167 rfl rfl ?_
            refine g_aload_n (q := 170) B dX3_isRight_169 rfl rfl (rv_r _) ?_
            refine g_getNM (q := 173) B (ci := 13) (k := 7) (j := 1) in_X5 rfl dX3_isRight_170 rfl rfl (hc_3_0) (Nat.le_of_ble_eq_true rfl) q3119 rfl rfl ?_
            refine g_callS (q := 176) (is := []) (kc2 := 3) (ks2 := 6) B [.int (nI n), .int (nI (mLf r))] (ct_X3_isAbove g J (n := n) (l := mLf r)  (by omega) (hMB.2.1)) dX3_isRight_173 rfl q3438 q3439 q85 q3440 rfl rfl moX3_isAbove rfl rfl (by decide) (by decide) (Nat.le_of_ble_eq_true rfl) (Nat.le_of_ble_eq_true rfl) (Nat.le_of_ble_eq_true rfl) (fun _ _ hx => noX_x hx) (fun v173 L1 hp173 => ?_)
            obtain ⟨rfl, rfl⟩ := hp173
            refine (show Go g κ 176 [some (.ref m), some (.int (nI i)), some (.ref x5), some (.ref a17), some (.ref a27), some (.int (nI (if b = true then 1 else 0))), some (.ref e149), some (.int (nI n)), none] [.int (nI (if 0 < lev n ∧ cvr n (mLf r) = true then 1 else 0))] [[(a17, .inl (g.2.1 4, (dSs D).length, .inl fa17))], w3, w1, w2, u4_24, [(a27, .inl (g.2.1 4, (dSs D).length, .inl fa27))], [(it39, .inr (22, [.int (nI k), .int lrt, .int md_4, .ref le]))], w4, [(m, .inr (12, [.ref ls, .ref lb, .ref lk, .ref lp, .ref lr, .ref le, .ref lm, .ref lo, .int (nI th), .int (dZz D), .int (nI (dBn D)), .int (nI (dCm D))]))], w5] 3 6 from ?_)
            refine g_if_eq (tgt := 213) (q := 179) B dX3_isRight_176 rfl (by decide) (bo_eq) (fun c176 => ?_) (fun c176 => ?_)
            · skip
              refine g_iconst (v := nI 0) (q := 214) B dX3_isRight_213 rfl (by decide) ?_
              have hown : ownM E8 r n = false := by unfold ownM; rw [decide_eq_false c176]; rfl
              refine g_istore (q := 216) (lv2 := [some (.ref m), some (.int (nI i)), some (.ref x5), some (.ref a17), some (.ref a27), some (.int (nI (if b = true then 1 else 0))), some (.ref e149), some (.int (nI n)), some (.int (nI 0))]) B dX3_isRight_214 rfl (Nat.le_of_ble_eq_true rfl) rfl ?_
              refine g_iload (q := 218) B dX3_isRight_216 rfl rfl ?_
              refine g_iload (q := 220) B dX3_isRight_218 rfl rfl ?_
              refine g_callS (q := 223) (is := []) (kc2 := 3) (ks2 := 6) B [.int (nI n)] (ct_X3_level g J (n := n)  (by omega)) dX3_isRight_220 rfl q3441 q3442 q85 q3443 rfl rfl moX3_level rfl rfl (by decide) (by decide) (Nat.le_of_ble_eq_true rfl) (Nat.le_of_ble_eq_true rfl) (Nat.le_of_ble_eq_true rfl) (fun _ _ hx => noX_x hx) (fun v220 L1 hp220 => ?_)
              obtain ⟨rfl, rfl⟩ := hp220
              refine (show Go g κ 223 [some (.ref m), some (.int (nI i)), some (.ref x5), some (.ref a17), some (.ref a27), some (.int (nI (if b = true then 1 else 0))), some (.ref e149), some (.int (nI n)), some (.int (nI 0))] [.int (nI (lev n)), .int (nI (if b = true then 1 else 0))] [[(a17, .inl (g.2.1 4, (dSs D).length, .inl fa17))], w3, w1, w2, u4_24, [(a27, .inl (g.2.1 4, (dSs D).length, .inl fa27))], [(it39, .inr (22, [.int (nI k), .int lrt, .int md_4, .ref le]))], w4, [(m, .inr (12, [.ref ls, .ref lb, .ref lk, .ref lp, .ref lr, .ref le, .ref lm, .ref lo, .int (nI th), .int (dZz D), .int (nI (dBn D)), .int (nI (dCm D))]))], w5] 3 6 from ?_)
              have hlv9 := lev_4 n (by omega)
              refine g_if_eq (tgt := 270) (q := 226) B dX3_isRight_223 rfl (by decide) (nI_eq0 (by omega)) (fun c223 => ?_) (fun c223 => ?_)
              · skip
                refine g_iconst (v := nI 1) (q := 271) B dX3_isRight_270 rfl (by decide) ?_
                refine g_goto (tgt := 275) B dX3_isRight_271 (by decide) ?_
                have hjv : hjM E8 r n = true := by unfold hjM; rw [decide_eq_true c223]; rfl
                refine g_iand (v := nI (if b = true then 1 else 0)) (q := 276) B dX3_isRight_275 rfl bo_and1 ?_
                refine g_istore (q := 278) (lv2 := [some (.ref m), some (.int (nI i)), some (.ref x5), some (.ref a17), some (.ref a27), some (.int (nI (if b = true then 1 else 0))), some (.ref e149), some (.int (nI n)), some (.int (nI 0))]) B dX3_isRight_276 rfl (Nat.le_of_ble_eq_true rfl) rfl ?_
                refine g_iinc (v := nI (n + 1)) (q := 281) (lv2 := [some (.ref m), some (.int (nI i)), some (.ref x5), some (.ref a17), some (.ref a27), some (.int (nI (if b = true then 1 else 0))), some (.ref e149), some (.int (nI (n + 1))), some (.int (nI 0))]) B dX3_isRight_278 rfl rfl (nI_add _ 1) (Nat.le_of_ble_eq_true rfl) rfl ?_
                refine g_goto (tgt := 157) B dX3_isRight_281 (by decide) ?_
                refine g_fg 8 rfl ?_
                exact ih157 _ (by omega) (n + 1) b (by omega) (by rw [all_rs, hjv, Bool.and_true]; exact hb) rfl
              · skip
                refine g_aload_n (q := 227) B dX3_isRight_226 rfl rfl (rv_r _) ?_
                refine g_getNM (q := 230) B (ci := 13) (k := 7) (j := 4) in_X5 rfl dX3_isRight_227 rfl rfl (hc_3_0) (Nat.le_of_ble_eq_true rfl) q3124 rfl rfl ?_
                refine g_iload (q := 232) B dX3_isRight_230 rfl rfl ?_
                refine g_ialdM (v := oI ((mNd r) n)) (q := 233) B (k := 7) dX3_isRight_232 rfl rfl (hc_3_1) (vp_in_nI (by omega) (by omega)) (by rw [nI_clamp (by omega)]; exact hfn_3 _ (by omega)) ?_
                refine g_iconst (v := -1) (q := 234) B dX3_isRight_233 rfl (by decide) ?_
                refine g_icmp_eq (tgt := 241) (q := 237) B dX3_isRight_234 rfl (by decide) (oI_n ((fun n h => by have := hM_3.2.2.2.2.1 _ _ h; omega))) (fun c234 => ?_) (fun c234 => ?_)
                · skip
                  refine g_iconst (v := nI 0) (q := 242) B dX3_isRight_241 rfl (by decide) ?_
                  refine g_iload (q := 244) B dX3_isRight_242 rfl rfl ?_
                  refine g_icmp_ne (tgt := 274) (q := 247) B dX3_isRight_244 rfl (by decide) (iff_false_intro (by decide)) (fun z => z.elim) (fun _ => ?_)
                  refine g_iload (q := 249) B dX3_isRight_247 rfl rfl ?_
                  refine g_if_eq (tgt := 270) (q := 252) B dX3_isRight_249 rfl (by decide) (iff_true_intro (by decide)) (fun _ => ?_) (fun z => absurd trivial z)
                  refine g_iconst (v := nI 1) (q := 271) B dX3_isRight_270 rfl (by decide) ?_
                  refine g_goto (tgt := 275) B dX3_isRight_271 (by decide) ?_
                  have hjv : hjM E8 r n = true := by unfold hjM; rw [decide_eq_false c223, hown, c234]; rfl
                  refine g_iand (v := nI (if b = true then 1 else 0)) (q := 276) B dX3_isRight_275 rfl bo_and1 ?_
                  refine g_istore (q := 278) (lv2 := [some (.ref m), some (.int (nI i)), some (.ref x5), some (.ref a17), some (.ref a27), some (.int (nI (if b = true then 1 else 0))), some (.ref e149), some (.int (nI n)), some (.int (nI 0))]) B dX3_isRight_276 rfl (Nat.le_of_ble_eq_true rfl) rfl ?_
                  refine g_iinc (v := nI (n + 1)) (q := 281) (lv2 := [some (.ref m), some (.int (nI i)), some (.ref x5), some (.ref a17), some (.ref a27), some (.int (nI (if b = true then 1 else 0))), some (.ref e149), some (.int (nI (n + 1))), some (.int (nI 0))]) B dX3_isRight_278 rfl rfl (nI_add _ 1) (Nat.le_of_ble_eq_true rfl) rfl ?_
                  refine g_goto (tgt := 157) B dX3_isRight_281 (by decide) ?_
                  refine g_fg 8 rfl ?_
                  exact ih157 _ (by omega) (n + 1) b (by omega) (by rw [all_rs, hjv, Bool.and_true]; exact hb) rfl
                · skip
                  obtain ⟨v234, ev234⟩ := Option.ne_none_iff_exists'.mp c234
                  refine g_iconst (v := nI 1) (q := 238) B dX3_isRight_237 rfl (by decide) ?_
                  refine g_goto (tgt := 242) B dX3_isRight_238 (by decide) ?_
                  refine g_iload (q := 244) B dX3_isRight_242 rfl rfl ?_
                  refine g_icmp_ne (tgt := 274) (q := 247) B dX3_isRight_244 rfl (by decide) (iff_true_intro (by decide)) (fun _ => ?_) (fun z => absurd trivial z)
                  refine g_iconst (v := nI 0) (q := 275) B dX3_isRight_274 rfl (by decide) ?_
                  have hjv : hjM E8 r n = false := by unfold hjM; rw [decide_eq_false c223, hown, ev234]; rfl
                  refine g_iand (v := nI 0) (q := 276) B dX3_isRight_275 rfl (bo_and0 _) ?_
                  refine g_istore (q := 278) (lv2 := [some (.ref m), some (.int (nI i)), some (.ref x5), some (.ref a17), some (.ref a27), some (.int (nI 0)), some (.ref e149), some (.int (nI n)), some (.int (nI 0))]) B dX3_isRight_276 rfl (Nat.le_of_ble_eq_true rfl) rfl ?_
                  refine g_iinc (v := nI (n + 1)) (q := 281) (lv2 := [some (.ref m), some (.int (nI i)), some (.ref x5), some (.ref a17), some (.ref a27), some (.int (nI 0)), some (.ref e149), some (.int (nI (n + 1))), some (.int (nI 0))]) B dX3_isRight_278 rfl rfl (nI_add _ 1) (Nat.le_of_ble_eq_true rfl) rfl ?_
                  refine g_goto (tgt := 157) B dX3_isRight_281 (by decide) ?_
                  refine g_fg 8 rfl ?_
                  exact ih157 _ (by omega) (n + 1) false (by omega) (by rw [all_rs, hjv, Bool.and_false]; simp) rfl
            · skip
              have c176 := Classical.not_not.mp c176
              refine g_aload (q := 181) B dX3_isRight_179 rfl rfl (rv_r _) ?_
              obtain ⟨ap_5, an_5, al_5, ac_5, aw_5, am_5, ak_5, fp_5, fn_5, fl_5, fc_5, fw_5, fm_5, fk_5, hE_5, hfp_5, hfn_5, hfl_5, hfc_5, hfw_5, hfm_5, hfk_5, hc_5_0, hc_5_1, hc_5_2, hc_5_3, hc_5_4, hc_5_5, hc_5_6, hc_5_7⟩ := EpP.at (hE_149)
              refine g_getNM (q := 184) B (ci := 16) (k := 9) (j := 5) in_X13 rfl dX3_isRight_181 rfl rfl (hc_5_0) (Nat.le_of_ble_eq_true rfl) q3263 rfl rfl ?_
              refine g_iload (q := 186) B dX3_isRight_184 rfl rfl ?_
              refine g_ialdM (v := oI (((eTr E8).2.1) n)) (q := 187) B (k := 9) dX3_isRight_186 rfl rfl (hc_5_2) (vp_in_nI (by omega) (by omega)) (by rw [nI_clamp (by omega)]; exact hfn_5 _ (by omega)) ?_
              refine g_iconst (v := -1) (q := 188) B dX3_isRight_187 rfl (by decide) ?_
              refine g_icmp_eq (tgt := 213) (q := 191) B dX3_isRight_188 rfl (by decide) (oI_n ((fun n h => by have := hE_5.2.1.2.1 _ _ h; omega))) (fun c188 => ?_) (fun c188 => ?_)
              · skip
                refine g_iconst (v := nI 0) (q := 214) B dX3_isRight_213 rfl (by decide) ?_
                have hown : ownM E8 r n = false := by unfold ownM; rw [c188]; simp
                refine g_istore (q := 216) (lv2 := [some (.ref m), some (.int (nI i)), some (.ref x5), some (.ref a17), some (.ref a27), some (.int (nI (if b = true then 1 else 0))), some (.ref e149), some (.int (nI n)), some (.int (nI 0))]) B dX3_isRight_214 rfl (Nat.le_of_ble_eq_true rfl) rfl ?_
                refine g_iload (q := 218) B dX3_isRight_216 rfl rfl ?_
                refine g_iload (q := 220) B dX3_isRight_218 rfl rfl ?_
                refine g_callS (q := 223) (is := []) (kc2 := 3) (ks2 := 6) B [.int (nI n)] (ct_X3_level g J (n := n)  (by omega)) dX3_isRight_220 rfl q3441 q3442 q85 q3443 rfl rfl moX3_level rfl rfl (by decide) (by decide) (Nat.le_of_ble_eq_true rfl) (Nat.le_of_ble_eq_true rfl) (Nat.le_of_ble_eq_true rfl) (fun _ _ hx => noX_x hx) (fun v220 L1 hp220 => ?_)
                obtain ⟨rfl, rfl⟩ := hp220
                refine (show Go g κ 223 [some (.ref m), some (.int (nI i)), some (.ref x5), some (.ref a17), some (.ref a27), some (.int (nI (if b = true then 1 else 0))), some (.ref e149), some (.int (nI n)), some (.int (nI 0))] [.int (nI (lev n)), .int (nI (if b = true then 1 else 0))] [[(a17, .inl (g.2.1 4, (dSs D).length, .inl fa17))], w3, w1, w2, u4_24, [(a27, .inl (g.2.1 4, (dSs D).length, .inl fa27))], [(it39, .inr (22, [.int (nI k), .int lrt, .int md_4, .ref le]))], w4, [(m, .inr (12, [.ref ls, .ref lb, .ref lk, .ref lp, .ref lr, .ref le, .ref lm, .ref lo, .int (nI th), .int (dZz D), .int (nI (dBn D)), .int (nI (dCm D))]))], w5] 3 6 from ?_)
                have hlv9 := lev_4 n (by omega)
                refine g_if_eq (tgt := 270) (q := 226) B dX3_isRight_223 rfl (by decide) (nI_eq0 (by omega)) (fun c223 => ?_) (fun c223 => ?_)
                · skip
                  refine g_iconst (v := nI 1) (q := 271) B dX3_isRight_270 rfl (by decide) ?_
                  refine g_goto (tgt := 275) B dX3_isRight_271 (by decide) ?_
                  have hjv : hjM E8 r n = true := by unfold hjM; rw [decide_eq_true c223]; rfl
                  refine g_iand (v := nI (if b = true then 1 else 0)) (q := 276) B dX3_isRight_275 rfl bo_and1 ?_
                  refine g_istore (q := 278) (lv2 := [some (.ref m), some (.int (nI i)), some (.ref x5), some (.ref a17), some (.ref a27), some (.int (nI (if b = true then 1 else 0))), some (.ref e149), some (.int (nI n)), some (.int (nI 0))]) B dX3_isRight_276 rfl (Nat.le_of_ble_eq_true rfl) rfl ?_
                  refine g_iinc (v := nI (n + 1)) (q := 281) (lv2 := [some (.ref m), some (.int (nI i)), some (.ref x5), some (.ref a17), some (.ref a27), some (.int (nI (if b = true then 1 else 0))), some (.ref e149), some (.int (nI (n + 1))), some (.int (nI 0))]) B dX3_isRight_278 rfl rfl (nI_add _ 1) (Nat.le_of_ble_eq_true rfl) rfl ?_
                  refine g_goto (tgt := 157) B dX3_isRight_281 (by decide) ?_
                  refine g_fg 8 rfl ?_
                  exact ih157 _ (by omega) (n + 1) b (by omega) (by rw [all_rs, hjv, Bool.and_true]; exact hb) rfl
                · skip
                  refine g_aload_n (q := 227) B dX3_isRight_226 rfl rfl (rv_r _) ?_
                  refine g_getNM (q := 230) B (ci := 13) (k := 7) (j := 4) in_X5 rfl dX3_isRight_227 rfl rfl (hc_3_0) (Nat.le_of_ble_eq_true rfl) q3124 rfl rfl ?_
                  refine g_iload (q := 232) B dX3_isRight_230 rfl rfl ?_
                  refine g_ialdM (v := oI ((mNd r) n)) (q := 233) B (k := 7) dX3_isRight_232 rfl rfl (hc_3_1) (vp_in_nI (by omega) (by omega)) (by rw [nI_clamp (by omega)]; exact hfn_3 _ (by omega)) ?_
                  refine g_iconst (v := -1) (q := 234) B dX3_isRight_233 rfl (by decide) ?_
                  refine g_icmp_eq (tgt := 241) (q := 237) B dX3_isRight_234 rfl (by decide) (oI_n ((fun n h => by have := hM_3.2.2.2.2.1 _ _ h; omega))) (fun c234 => ?_) (fun c234 => ?_)
                  · skip
                    refine g_iconst (v := nI 0) (q := 242) B dX3_isRight_241 rfl (by decide) ?_
                    refine g_iload (q := 244) B dX3_isRight_242 rfl rfl ?_
                    refine g_icmp_ne (tgt := 274) (q := 247) B dX3_isRight_244 rfl (by decide) (iff_false_intro (by decide)) (fun z => z.elim) (fun _ => ?_)
                    refine g_iload (q := 249) B dX3_isRight_247 rfl rfl ?_
                    refine g_if_eq (tgt := 270) (q := 252) B dX3_isRight_249 rfl (by decide) (iff_true_intro (by decide)) (fun _ => ?_) (fun z => absurd trivial z)
                    refine g_iconst (v := nI 1) (q := 271) B dX3_isRight_270 rfl (by decide) ?_
                    refine g_goto (tgt := 275) B dX3_isRight_271 (by decide) ?_
                    have hjv : hjM E8 r n = true := by unfold hjM; rw [decide_eq_false c223, hown, c234]; rfl
                    refine g_iand (v := nI (if b = true then 1 else 0)) (q := 276) B dX3_isRight_275 rfl bo_and1 ?_
                    refine g_istore (q := 278) (lv2 := [some (.ref m), some (.int (nI i)), some (.ref x5), some (.ref a17), some (.ref a27), some (.int (nI (if b = true then 1 else 0))), some (.ref e149), some (.int (nI n)), some (.int (nI 0))]) B dX3_isRight_276 rfl (Nat.le_of_ble_eq_true rfl) rfl ?_
                    refine g_iinc (v := nI (n + 1)) (q := 281) (lv2 := [some (.ref m), some (.int (nI i)), some (.ref x5), some (.ref a17), some (.ref a27), some (.int (nI (if b = true then 1 else 0))), some (.ref e149), some (.int (nI (n + 1))), some (.int (nI 0))]) B dX3_isRight_278 rfl rfl (nI_add _ 1) (Nat.le_of_ble_eq_true rfl) rfl ?_
                    refine g_goto (tgt := 157) B dX3_isRight_281 (by decide) ?_
                    refine g_fg 8 rfl ?_
                    exact ih157 _ (by omega) (n + 1) b (by omega) (by rw [all_rs, hjv, Bool.and_true]; exact hb) rfl
                  · skip
                    obtain ⟨v234, ev234⟩ := Option.ne_none_iff_exists'.mp c234
                    refine g_iconst (v := nI 1) (q := 238) B dX3_isRight_237 rfl (by decide) ?_
                    refine g_goto (tgt := 242) B dX3_isRight_238 (by decide) ?_
                    refine g_iload (q := 244) B dX3_isRight_242 rfl rfl ?_
                    refine g_icmp_ne (tgt := 274) (q := 247) B dX3_isRight_244 rfl (by decide) (iff_true_intro (by decide)) (fun _ => ?_) (fun z => absurd trivial z)
                    refine g_iconst (v := nI 0) (q := 275) B dX3_isRight_274 rfl (by decide) ?_
                    have hjv : hjM E8 r n = false := by unfold hjM; rw [decide_eq_false c223, hown, ev234]; rfl
                    refine g_iand (v := nI 0) (q := 276) B dX3_isRight_275 rfl (bo_and0 _) ?_
                    refine g_istore (q := 278) (lv2 := [some (.ref m), some (.int (nI i)), some (.ref x5), some (.ref a17), some (.ref a27), some (.int (nI 0)), some (.ref e149), some (.int (nI n)), some (.int (nI 0))]) B dX3_isRight_276 rfl (Nat.le_of_ble_eq_true rfl) rfl ?_
                    refine g_iinc (v := nI (n + 1)) (q := 281) (lv2 := [some (.ref m), some (.int (nI i)), some (.ref x5), some (.ref a17), some (.ref a27), some (.int (nI 0)), some (.ref e149), some (.int (nI (n + 1))), some (.int (nI 0))]) B dX3_isRight_278 rfl rfl (nI_add _ 1) (Nat.le_of_ble_eq_true rfl) rfl ?_
                    refine g_goto (tgt := 157) B dX3_isRight_281 (by decide) ?_
                    refine g_fg 8 rfl ?_
                    exact ih157 _ (by omega) (n + 1) false (by omega) (by rw [all_rs, hjv, Bool.and_false]; simp) rfl
              · skip
                obtain ⟨v188, ev188⟩ := Option.ne_none_iff_exists'.mp c188
                refine g_aload (q := 193) B dX3_isRight_191 rfl rfl (rv_r _) ?_
                refine g_getNM (q := 196) B (ci := 16) (k := 9) (j := 6) in_X13 rfl dX3_isRight_193 rfl rfl (hc_5_0) (Nat.le_of_ble_eq_true rfl) q3265 rfl rfl ?_
                refine g_iload (q := 198) B dX3_isRight_196 rfl rfl ?_
                have hls := hTB9.2.2.1 n
                refine g_ialdM (v := nI (((eTr E8).2.2.1) n)) (q := 199) B (k := 9) dX3_isRight_198 rfl rfl (hc_5_3) (vp_in_nI (by omega) (by omega)) (by rw [nI_clamp (by omega)]; exact hfl_5 _ (by omega)) ?_
                refine g_aload_n (q := 200) B dX3_isRight_199 rfl rfl (rv_r _) ?_
                refine g_getNM (q := 203) B (ci := 13) (k := 7) (j := 1) in_X5 rfl dX3_isRight_200 rfl rfl (hc_3_0) (Nat.le_of_ble_eq_true rfl) q3119 rfl rfl ?_
                refine g_ishr (v := nI ((eTr E8).2.2.1 n / 2 ^ mLf r)) (q := 204) B dX3_isRight_203 rfl (shr_J (by omega) (by have := hMB.2.1; omega)) ?_
                refine g_iconst (v := nI 1) (q := 205) B dX3_isRight_204 rfl (by decide) ?_
                refine g_iand (v := nI ((eTr E8).2.2.1 n / 2 ^ mLf r % 2)) (q := 206) B dX3_isRight_205 rfl (nI_an1 _) ?_
                refine g_if_ne (tgt := 213) (q := 209) B dX3_isRight_206 rfl (by decide) (nI_ne00 (by omega)) (fun c206 => ?_) (fun c206 => ?_)
                · skip
                  refine g_iconst (v := nI 0) (q := 214) B dX3_isRight_213 rfl (by decide) ?_
                  have hown : ownM E8 r n = false := by unfold ownM; rw [show hsB ((eTr E8).2.2.1 n) (mLf r) = true by unfold hsB; simp; omega]; simp
                  refine g_istore (q := 216) (lv2 := [some (.ref m), some (.int (nI i)), some (.ref x5), some (.ref a17), some (.ref a27), some (.int (nI (if b = true then 1 else 0))), some (.ref e149), some (.int (nI n)), some (.int (nI 0))]) B dX3_isRight_214 rfl (Nat.le_of_ble_eq_true rfl) rfl ?_
                  refine g_iload (q := 218) B dX3_isRight_216 rfl rfl ?_
                  refine g_iload (q := 220) B dX3_isRight_218 rfl rfl ?_
                  refine g_callS (q := 223) (is := []) (kc2 := 3) (ks2 := 6) B [.int (nI n)] (ct_X3_level g J (n := n)  (by omega)) dX3_isRight_220 rfl q3441 q3442 q85 q3443 rfl rfl moX3_level rfl rfl (by decide) (by decide) (Nat.le_of_ble_eq_true rfl) (Nat.le_of_ble_eq_true rfl) (Nat.le_of_ble_eq_true rfl) (fun _ _ hx => noX_x hx) (fun v220 L1 hp220 => ?_)
                  obtain ⟨rfl, rfl⟩ := hp220
                  refine (show Go g κ 223 [some (.ref m), some (.int (nI i)), some (.ref x5), some (.ref a17), some (.ref a27), some (.int (nI (if b = true then 1 else 0))), some (.ref e149), some (.int (nI n)), some (.int (nI 0))] [.int (nI (lev n)), .int (nI (if b = true then 1 else 0))] [[(a17, .inl (g.2.1 4, (dSs D).length, .inl fa17))], w3, w1, w2, u4_24, [(a27, .inl (g.2.1 4, (dSs D).length, .inl fa27))], [(it39, .inr (22, [.int (nI k), .int lrt, .int md_4, .ref le]))], w4, [(m, .inr (12, [.ref ls, .ref lb, .ref lk, .ref lp, .ref lr, .ref le, .ref lm, .ref lo, .int (nI th), .int (dZz D), .int (nI (dBn D)), .int (nI (dCm D))]))], w5] 3 6 from ?_)
                  have hlv9 := lev_4 n (by omega)
                  refine g_if_eq (tgt := 270) (q := 226) B dX3_isRight_223 rfl (by decide) (nI_eq0 (by omega)) (fun c223 => ?_) (fun c223 => ?_)
                  · skip
                    refine g_iconst (v := nI 1) (q := 271) B dX3_isRight_270 rfl (by decide) ?_
                    refine g_goto (tgt := 275) B dX3_isRight_271 (by decide) ?_
                    have hjv : hjM E8 r n = true := by unfold hjM; rw [decide_eq_true c223]; rfl
                    refine g_iand (v := nI (if b = true then 1 else 0)) (q := 276) B dX3_isRight_275 rfl bo_and1 ?_
                    refine g_istore (q := 278) (lv2 := [some (.ref m), some (.int (nI i)), some (.ref x5), some (.ref a17), some (.ref a27), some (.int (nI (if b = true then 1 else 0))), some (.ref e149), some (.int (nI n)), some (.int (nI 0))]) B dX3_isRight_276 rfl (Nat.le_of_ble_eq_true rfl) rfl ?_
                    refine g_iinc (v := nI (n + 1)) (q := 281) (lv2 := [some (.ref m), some (.int (nI i)), some (.ref x5), some (.ref a17), some (.ref a27), some (.int (nI (if b = true then 1 else 0))), some (.ref e149), some (.int (nI (n + 1))), some (.int (nI 0))]) B dX3_isRight_278 rfl rfl (nI_add _ 1) (Nat.le_of_ble_eq_true rfl) rfl ?_
                    refine g_goto (tgt := 157) B dX3_isRight_281 (by decide) ?_
                    refine g_fg 8 rfl ?_
                    exact ih157 _ (by omega) (n + 1) b (by omega) (by rw [all_rs, hjv, Bool.and_true]; exact hb) rfl
                  · skip
                    refine g_aload_n (q := 227) B dX3_isRight_226 rfl rfl (rv_r _) ?_
                    refine g_getNM (q := 230) B (ci := 13) (k := 7) (j := 4) in_X5 rfl dX3_isRight_227 rfl rfl (hc_3_0) (Nat.le_of_ble_eq_true rfl) q3124 rfl rfl ?_
                    refine g_iload (q := 232) B dX3_isRight_230 rfl rfl ?_
                    refine g_ialdM (v := oI ((mNd r) n)) (q := 233) B (k := 7) dX3_isRight_232 rfl rfl (hc_3_1) (vp_in_nI (by omega) (by omega)) (by rw [nI_clamp (by omega)]; exact hfn_3 _ (by omega)) ?_
                    refine g_iconst (v := -1) (q := 234) B dX3_isRight_233 rfl (by decide) ?_
                    refine g_icmp_eq (tgt := 241) (q := 237) B dX3_isRight_234 rfl (by decide) (oI_n ((fun n h => by have := hM_3.2.2.2.2.1 _ _ h; omega))) (fun c234 => ?_) (fun c234 => ?_)
                    · skip
                      refine g_iconst (v := nI 0) (q := 242) B dX3_isRight_241 rfl (by decide) ?_
                      refine g_iload (q := 244) B dX3_isRight_242 rfl rfl ?_
                      refine g_icmp_ne (tgt := 274) (q := 247) B dX3_isRight_244 rfl (by decide) (iff_false_intro (by decide)) (fun z => z.elim) (fun _ => ?_)
                      refine g_iload (q := 249) B dX3_isRight_247 rfl rfl ?_
                      refine g_if_eq (tgt := 270) (q := 252) B dX3_isRight_249 rfl (by decide) (iff_true_intro (by decide)) (fun _ => ?_) (fun z => absurd trivial z)
                      refine g_iconst (v := nI 1) (q := 271) B dX3_isRight_270 rfl (by decide) ?_
                      refine g_goto (tgt := 275) B dX3_isRight_271 (by decide) ?_
                      have hjv : hjM E8 r n = true := by unfold hjM; rw [decide_eq_false c223, hown, c234]; rfl
                      refine g_iand (v := nI (if b = true then 1 else 0)) (q := 276) B dX3_isRight_275 rfl bo_and1 ?_
                      refine g_istore (q := 278) (lv2 := [some (.ref m), some (.int (nI i)), some (.ref x5), some (.ref a17), some (.ref a27), some (.int (nI (if b = true then 1 else 0))), some (.ref e149), some (.int (nI n)), some (.int (nI 0))]) B dX3_isRight_276 rfl (Nat.le_of_ble_eq_true rfl) rfl ?_
                      refine g_iinc (v := nI (n + 1)) (q := 281) (lv2 := [some (.ref m), some (.int (nI i)), some (.ref x5), some (.ref a17), some (.ref a27), some (.int (nI (if b = true then 1 else 0))), some (.ref e149), some (.int (nI (n + 1))), some (.int (nI 0))]) B dX3_isRight_278 rfl rfl (nI_add _ 1) (Nat.le_of_ble_eq_true rfl) rfl ?_
                      refine g_goto (tgt := 157) B dX3_isRight_281 (by decide) ?_
                      refine g_fg 8 rfl ?_
                      exact ih157 _ (by omega) (n + 1) b (by omega) (by rw [all_rs, hjv, Bool.and_true]; exact hb) rfl
                    · skip
                      obtain ⟨v234, ev234⟩ := Option.ne_none_iff_exists'.mp c234
                      refine g_iconst (v := nI 1) (q := 238) B dX3_isRight_237 rfl (by decide) ?_
                      refine g_goto (tgt := 242) B dX3_isRight_238 (by decide) ?_
                      refine g_iload (q := 244) B dX3_isRight_242 rfl rfl ?_
                      refine g_icmp_ne (tgt := 274) (q := 247) B dX3_isRight_244 rfl (by decide) (iff_true_intro (by decide)) (fun _ => ?_) (fun z => absurd trivial z)
                      refine g_iconst (v := nI 0) (q := 275) B dX3_isRight_274 rfl (by decide) ?_
                      have hjv : hjM E8 r n = false := by unfold hjM; rw [decide_eq_false c223, hown, ev234]; rfl
                      refine g_iand (v := nI 0) (q := 276) B dX3_isRight_275 rfl (bo_and0 _) ?_
                      refine g_istore (q := 278) (lv2 := [some (.ref m), some (.int (nI i)), some (.ref x5), some (.ref a17), some (.ref a27), some (.int (nI 0)), some (.ref e149), some (.int (nI n)), some (.int (nI 0))]) B dX3_isRight_276 rfl (Nat.le_of_ble_eq_true rfl) rfl ?_
                      refine g_iinc (v := nI (n + 1)) (q := 281) (lv2 := [some (.ref m), some (.int (nI i)), some (.ref x5), some (.ref a17), some (.ref a27), some (.int (nI 0)), some (.ref e149), some (.int (nI (n + 1))), some (.int (nI 0))]) B dX3_isRight_278 rfl rfl (nI_add _ 1) (Nat.le_of_ble_eq_true rfl) rfl ?_
                      refine g_goto (tgt := 157) B dX3_isRight_281 (by decide) ?_
                      refine g_fg 8 rfl ?_
                      exact ih157 _ (by omega) (n + 1) false (by omega) (by rw [all_rs, hjv, Bool.and_false]; simp) rfl
                · skip
                  refine g_iconst (v := nI 1) (q := 210) B dX3_isRight_209 rfl (by decide) ?_
                  refine g_goto (tgt := 214) B dX3_isRight_210 (by decide) ?_
                  have hown : ownM E8 r n = true := by unfold ownM; rw [decide_eq_true c176, ev188, show hsB ((eTr E8).2.2.1 n) (mLf r) = false by unfold hsB; simp; omega]; rfl
                  refine g_istore (q := 216) (lv2 := [some (.ref m), some (.int (nI i)), some (.ref x5), some (.ref a17), some (.ref a27), some (.int (nI (if b = true then 1 else 0))), some (.ref e149), some (.int (nI n)), some (.int (nI 1))]) B dX3_isRight_214 rfl (Nat.le_of_ble_eq_true rfl) rfl ?_
                  refine g_iload (q := 218) B dX3_isRight_216 rfl rfl ?_
                  refine g_iload (q := 220) B dX3_isRight_218 rfl rfl ?_
                  refine g_callS (q := 223) (is := []) (kc2 := 3) (ks2 := 6) B [.int (nI n)] (ct_X3_level g J (n := n)  (by omega)) dX3_isRight_220 rfl q3441 q3442 q85 q3443 rfl rfl moX3_level rfl rfl (by decide) (by decide) (Nat.le_of_ble_eq_true rfl) (Nat.le_of_ble_eq_true rfl) (Nat.le_of_ble_eq_true rfl) (fun _ _ hx => noX_x hx) (fun v220 L1 hp220 => ?_)
                  obtain ⟨rfl, rfl⟩ := hp220
                  refine (show Go g κ 223 [some (.ref m), some (.int (nI i)), some (.ref x5), some (.ref a17), some (.ref a27), some (.int (nI (if b = true then 1 else 0))), some (.ref e149), some (.int (nI n)), some (.int (nI 1))] [.int (nI (lev n)), .int (nI (if b = true then 1 else 0))] [[(a17, .inl (g.2.1 4, (dSs D).length, .inl fa17))], w3, w1, w2, u4_24, [(a27, .inl (g.2.1 4, (dSs D).length, .inl fa27))], [(it39, .inr (22, [.int (nI k), .int lrt, .int md_4, .ref le]))], w4, [(m, .inr (12, [.ref ls, .ref lb, .ref lk, .ref lp, .ref lr, .ref le, .ref lm, .ref lo, .int (nI th), .int (dZz D), .int (nI (dBn D)), .int (nI (dCm D))]))], w5] 3 6 from ?_)
                  have hlv9 := lev_4 n (by omega)
                  refine g_if_eq (tgt := 270) (q := 226) B dX3_isRight_223 rfl (by decide) (nI_eq0 (by omega)) (fun c223 => ?_) (fun c223 => ?_)
                  · skip
                    refine g_iconst (v := nI 1) (q := 271) B dX3_isRight_270 rfl (by decide) ?_
                    refine g_goto (tgt := 275) B dX3_isRight_271 (by decide) ?_
                    have hjv : hjM E8 r n = true := by unfold hjM; rw [decide_eq_true c223]; rfl
                    refine g_iand (v := nI (if b = true then 1 else 0)) (q := 276) B dX3_isRight_275 rfl bo_and1 ?_
                    refine g_istore (q := 278) (lv2 := [some (.ref m), some (.int (nI i)), some (.ref x5), some (.ref a17), some (.ref a27), some (.int (nI (if b = true then 1 else 0))), some (.ref e149), some (.int (nI n)), some (.int (nI 1))]) B dX3_isRight_276 rfl (Nat.le_of_ble_eq_true rfl) rfl ?_
                    refine g_iinc (v := nI (n + 1)) (q := 281) (lv2 := [some (.ref m), some (.int (nI i)), some (.ref x5), some (.ref a17), some (.ref a27), some (.int (nI (if b = true then 1 else 0))), some (.ref e149), some (.int (nI (n + 1))), some (.int (nI 1))]) B dX3_isRight_278 rfl rfl (nI_add _ 1) (Nat.le_of_ble_eq_true rfl) rfl ?_
                    refine g_goto (tgt := 157) B dX3_isRight_281 (by decide) ?_
                    refine g_fg 8 rfl ?_
                    exact ih157 _ (by omega) (n + 1) b (by omega) (by rw [all_rs, hjv, Bool.and_true]; exact hb) rfl
                  · skip
                    refine g_aload_n (q := 227) B dX3_isRight_226 rfl rfl (rv_r _) ?_
                    refine g_getNM (q := 230) B (ci := 13) (k := 7) (j := 4) in_X5 rfl dX3_isRight_227 rfl rfl (hc_3_0) (Nat.le_of_ble_eq_true rfl) q3124 rfl rfl ?_
                    refine g_iload (q := 232) B dX3_isRight_230 rfl rfl ?_
                    refine g_ialdM (v := oI ((mNd r) n)) (q := 233) B (k := 7) dX3_isRight_232 rfl rfl (hc_3_1) (vp_in_nI (by omega) (by omega)) (by rw [nI_clamp (by omega)]; exact hfn_3 _ (by omega)) ?_
                    refine g_iconst (v := -1) (q := 234) B dX3_isRight_233 rfl (by decide) ?_
                    refine g_icmp_eq (tgt := 241) (q := 237) B dX3_isRight_234 rfl (by decide) (oI_n ((fun n h => by have := hM_3.2.2.2.2.1 _ _ h; omega))) (fun c234 => ?_) (fun c234 => ?_)
                    · skip
                      refine g_iconst (v := nI 0) (q := 242) B dX3_isRight_241 rfl (by decide) ?_
                      refine g_iload (q := 244) B dX3_isRight_242 rfl rfl ?_
                      refine g_icmp_ne (tgt := 274) (q := 247) B dX3_isRight_244 rfl (by decide) (iff_true_intro (by decide)) (fun _ => ?_) (fun z => absurd trivial z)
                      refine g_iconst (v := nI 0) (q := 275) B dX3_isRight_274 rfl (by decide) ?_
                      have hjv : hjM E8 r n = false := by unfold hjM; rw [decide_eq_false c223, hown, c234]; rfl
                      refine g_iand (v := nI 0) (q := 276) B dX3_isRight_275 rfl (bo_and0 _) ?_
                      refine g_istore (q := 278) (lv2 := [some (.ref m), some (.int (nI i)), some (.ref x5), some (.ref a17), some (.ref a27), some (.int (nI 0)), some (.ref e149), some (.int (nI n)), some (.int (nI 1))]) B dX3_isRight_276 rfl (Nat.le_of_ble_eq_true rfl) rfl ?_
                      refine g_iinc (v := nI (n + 1)) (q := 281) (lv2 := [some (.ref m), some (.int (nI i)), some (.ref x5), some (.ref a17), some (.ref a27), some (.int (nI 0)), some (.ref e149), some (.int (nI (n + 1))), some (.int (nI 1))]) B dX3_isRight_278 rfl rfl (nI_add _ 1) (Nat.le_of_ble_eq_true rfl) rfl ?_
                      refine g_goto (tgt := 157) B dX3_isRight_281 (by decide) ?_
                      refine g_fg 8 rfl ?_
                      exact ih157 _ (by omega) (n + 1) false (by omega) (by rw [all_rs, hjv, Bool.and_false]; simp) rfl
                    · skip
                      obtain ⟨v234, ev234⟩ := Option.ne_none_iff_exists'.mp c234
                      refine g_iconst (v := nI 1) (q := 238) B dX3_isRight_237 rfl (by decide) ?_
                      refine g_goto (tgt := 242) B dX3_isRight_238 (by decide) ?_
                      refine g_iload (q := 244) B dX3_isRight_242 rfl rfl ?_
                      refine g_icmp_ne (tgt := 274) (q := 247) B dX3_isRight_244 rfl (by decide) (iff_false_intro (by decide)) (fun z => z.elim) (fun _ => ?_)
                      refine g_iload (q := 249) B dX3_isRight_247 rfl rfl ?_
                      refine g_if_eq (tgt := 270) (q := 252) B dX3_isRight_249 rfl (by decide) (iff_false_intro (by decide)) (fun z => z.elim) (fun _ => ?_)
                      have hv234 := hMB.2.2.2.2.1 _ _ ev234
                      have hv188 := hTB9.2.1 _ _ ev188
                      refine g_aload_n (q := 253) B dX3_isRight_252 rfl rfl (rv_r _) ?_
                      refine g_getNM (q := 256) B (ci := 13) (k := 7) (j := 4) in_X5 rfl dX3_isRight_253 rfl rfl (hc_3_0) (Nat.le_of_ble_eq_true rfl) q3124 rfl rfl ?_
                      refine g_iload (q := 258) B dX3_isRight_256 rfl rfl ?_
                      refine g_ialdM (v := oI ((mNd r) n)) (q := 259) B (k := 7) dX3_isRight_258 rfl rfl (hc_3_1) (vp_in_nI (by omega) (by omega)) (by rw [nI_clamp (by omega)]; exact hfn_3 _ (by omega)) ?_
                      refine g_stk (y := .int (nI v234)) (by rw [ev234]; rfl) ?_
                      refine g_aload (q := 261) B dX3_isRight_259 rfl rfl (rv_r _) ?_
                      refine g_getNM (q := 264) B (ci := 16) (k := 9) (j := 5) in_X13 rfl dX3_isRight_261 rfl rfl (hc_5_0) (Nat.le_of_ble_eq_true rfl) q3263 rfl rfl ?_
                      refine g_iload (q := 266) B dX3_isRight_264 rfl rfl ?_
                      refine g_ialdM (v := oI (((eTr E8).2.1) n)) (q := 267) B (k := 9) dX3_isRight_266 rfl rfl (hc_5_2) (vp_in_nI (by omega) (by omega)) (by rw [nI_clamp (by omega)]; exact hfn_5 _ (by omega)) ?_
                      refine g_stk (y := .int (nI v188)) (by rw [ev188]; rfl) ?_
                      refine g_icmp_ne (tgt := 274) (q := 270) B dX3_isRight_267 rfl (by decide) (not_congr (nI_eq (by omega) (by omega))) (fun c267 => ?_) (fun c267 => ?_)
                      · skip
                        refine g_iconst (v := nI 0) (q := 275) B dX3_isRight_274 rfl (by decide) ?_
                        have hjv : hjM E8 r n = false := by unfold hjM; rw [decide_eq_false c223, hown, ev234, ev188]; simp [c267]
                        refine g_iand (v := nI 0) (q := 276) B dX3_isRight_275 rfl (bo_and0 _) ?_
                        refine g_istore (q := 278) (lv2 := [some (.ref m), some (.int (nI i)), some (.ref x5), some (.ref a17), some (.ref a27), some (.int (nI 0)), some (.ref e149), some (.int (nI n)), some (.int (nI 1))]) B dX3_isRight_276 rfl (Nat.le_of_ble_eq_true rfl) rfl ?_
                        refine g_iinc (v := nI (n + 1)) (q := 281) (lv2 := [some (.ref m), some (.int (nI i)), some (.ref x5), some (.ref a17), some (.ref a27), some (.int (nI 0)), some (.ref e149), some (.int (nI (n + 1))), some (.int (nI 1))]) B dX3_isRight_278 rfl rfl (nI_add _ 1) (Nat.le_of_ble_eq_true rfl) rfl ?_
                        refine g_goto (tgt := 157) B dX3_isRight_281 (by decide) ?_
                        refine g_fg 8 rfl ?_
                        exact ih157 _ (by omega) (n + 1) false (by omega) (by rw [all_rs, hjv, Bool.and_false]; simp) rfl
                      · skip
                        have c267 := Classical.not_not.mp c267
                        refine g_iconst (v := nI 1) (q := 271) B dX3_isRight_270 rfl (by decide) ?_
                        refine g_goto (tgt := 275) B dX3_isRight_271 (by decide) ?_
                        have hjv : hjM E8 r n = true := by unfold hjM; rw [decide_eq_false c223, hown, ev234, ev188]; simp [c267]
                        refine g_iand (v := nI (if b = true then 1 else 0)) (q := 276) B dX3_isRight_275 rfl bo_and1 ?_
                        refine g_istore (q := 278) (lv2 := [some (.ref m), some (.int (nI i)), some (.ref x5), some (.ref a17), some (.ref a27), some (.int (nI (if b = true then 1 else 0))), some (.ref e149), some (.int (nI n)), some (.int (nI 1))]) B dX3_isRight_276 rfl (Nat.le_of_ble_eq_true rfl) rfl ?_
                        refine g_iinc (v := nI (n + 1)) (q := 281) (lv2 := [some (.ref m), some (.int (nI i)), some (.ref x5), some (.ref a17), some (.ref a27), some (.int (nI (if b = true then 1 else 0))), some (.ref e149), some (.int (nI (n + 1))), some (.int (nI 1))]) B dX3_isRight_278 rfl rfl (nI_add _ 1) (Nat.le_of_ble_eq_true rfl) rfl ?_
                        refine g_goto (tgt := 157) B dX3_isRight_281 (by decide) ?_
                        refine g_fg 8 rfl ?_
                        exact ih157 _ (by omega) (n + 1) b (by omega) (by rw [all_rs, hjv, Bool.and_true]; exact hb) rfl
        exact lp157 _ 0 is (Nat.zero_le _) (by simp) rfl
      · skip
        refine g_iload (q := 147) B dX3_isRight_145 rfl rfl ?_
        refine g_pk [7, 2, 2, 1, 4, 4] rfl rfl ?_
        refine (show Go g κ 147 [some (.ref m), some (.int (nI i)), some (.ref x5), some (.ref a17), some (.ref a27), some (.int (nI (if is = true then 1 else 0))), some (.ref it39), none, none] [.int (nI (if is = true then 1 else 0))] [[(m, .inr (12, [.ref ls, .ref lb, .ref lk, .ref lp, .ref lr, .ref le, .ref lm, .ref lo, .int (nI th), .int (dZz D), .int (nI (dBn D)), .int (nI (dCm D))]))], w1, w2, w3, w4, w5] 3 6 from ?_)
        exact g_zret B E dX3_isRight_147 (by split <;> decide) (⟨is, K17, K27, rfl, rfl, hQE, hQN, ⟨fun h => ⟨hisl.mp h, fun z => absurd z c142⟩, fun h => hisl.mpr h.1⟩⟩)
    · skip
      have c51 := Classical.not_not.mp c51
      refine g_aload (q := 56) B dX3_isRight_54 rfl rfl (rv_r _) ?_
      obtain ⟨r56, hr56⟩ := get_ex (xs := (dEs D)) (i := k) (by omega)
      obtain ⟨x56, hx56⟩ := get_ex (xs := ps_4) (i := k) (by have := get_lt2 hr56; have := hln_4.1; omega)
      have hE_6 := hel_4 _ _ _ hx56 hr56
      refine g_callF (q := 61) (is := [8, 8]) (kc2 := 3) (ks2 := 6) B [] (ct_J19_next_s g J (p := le) (xs := ps_4) (md := md_4) (cap := ecap) (it := it39) (c := k) (lr := lrt) (x := x56) (W1 := w5)  (hli_4) (hx56)) dX3_isRight_56 rfl (ci := 22) rfl (rc_at B (ci := 22) rfl (k := 8) rfl) q3236 q967 q969 q104 q971 q966 q965 q970 q968 q939 rfl rfl mojava_util_Iterator_next___Ljava_lang_Object_ rfl rfl (by decide) (by decide) (Nat.le_of_ble_eq_true rfl) (Nat.le_of_ble_eq_true rfl) (Nat.le_of_ble_eq_true rfl) (fun _ _ hx => noX_x hx) (fun v56 L1 hp56 => ?_)
      obtain ⟨rfl, rfl⟩ := hp56
      refine (show Go g κ 61 [some (.ref m), some (.int (nI i)), some (.ref x5), some (.ref a17), some (.ref a27), some (.int (nI (if is = true then 1 else 0))), some (.ref it39), none, none] [.ref x56] [[(a17, .inl (g.2.1 4, (dSs D).length, .inl fa17))], w3, w4, [(m, .inr (12, [.ref ls, .ref lb, .ref lk, .ref lp, .ref lr, .ref le, .ref lm, .ref lo, .int (nI th), .int (dZz D), .int (nI (dBn D)), .int (nI (dCm D))]))], w1, w2, u4_24, [(a27, .inl (g.2.1 4, (dSs D).length, .inl fa27))], [(it39, .inr (22, [.int (nI (k + 1)), .int (nI k), .int md_4, .ref le]))], w5] 3 6 from ?_)
      refine g_castRS (ci := 16) (q := 64) B rfl (rc_in B (ci := 16) rfl (k := 9) rfl (Sub.hm (hE_6) fun _ z => EpP.hm z)) dX3_isRight_61 rfl q3243 ?_
      refine g_astore (q := 66) (lv2 := [some (.ref m), some (.int (nI i)), some (.ref x5), some (.ref a17), some (.ref a27), some (.int (nI (if is = true then 1 else 0))), some (.ref it39), some (.ref x56), none]) B dX3_isRight_64 rfl (Nat.le_of_ble_eq_true rfl) (rv_r _) rfl ?_
      have hEm := List.mem_of_getElem? hr56
      have hekb := hekl _ hEm
      have heno := (EpP.b2 (hE_6)).1
      refine g_iload (q := 68) B dX3_isRight_66 rfl rfl ?_
      refine g_aload_n (q := 69) B dX3_isRight_68 rfl rfl (rv_r _) ?_
      refine g_aload (q := 71) B dX3_isRight_69 rfl rfl (rv_r _) ?_
      obtain ⟨ap_7, an_7, al_7, ac_7, aw_7, am_7, ak_7, fp_7, fn_7, fl_7, fc_7, fw_7, fm_7, fk_7, hE_7, hfp_7, hfn_7, hfl_7, hfc_7, hfw_7, hfm_7, hfk_7, hc_7_0, hc_7_1, hc_7_2, hc_7_3, hc_7_4, hc_7_5, hc_7_6, hc_7_7⟩ := EpP.at (hE_6)
      refine g_getNM (q := 74) B (ci := 16) (k := 9) (j := 3) in_X13 rfl dX3_isRight_71 rfl rfl (hc_7_0) (Nat.le_of_ble_eq_true rfl) q3259 rfl rfl ?_
      refine g_zald (v := nI (if K17 (eKy r56) = true then 1 else 0)) (q := 75) B (k := 0) dX3_isRight_74 rfl rfl (vp_in_nI (by omega) (by omega)) (by rw [nI_clamp (by omega)]; exact hfa_17 _ (by omega)) ?_
      refine g_aload_n (q := 76) B dX3_isRight_75 rfl rfl (rv_r _) ?_
      refine g_iload_n (q := 77) B dX3_isRight_76 rfl rfl ?_
      refine g_aload (q := 79) B dX3_isRight_77 rfl rfl (rv_r _) ?_
      refine g_callV (q := 82) (is := [3, 8]) (kc2 := 3) (ks2 := 6) B [.int (nI i), .ref x56] (ct_X3_isIn g J (m := m) (ls := ls) (lb := lb) (lk := lk) (lp := lp) (lr := lr) (le := le) (lm := lm) (lo := lo) (th := th) (z := (dZz D)) (bo := (dBn D)) (cm := (dCm D)) (p := i) (e := x56) (Ep := r56) (we := w5)  (hE_6) (by omega) (h16 _ hEm)) dX3_isRight_79 rfl (rc_at B (ci := 12) rfl (k := 3) rfl) rfl q3362 q3364 qs61 q85 q3365 rfl rfl moX3_isIn rfl rfl (by decide) (by decide) (Nat.le_of_ble_eq_true rfl) (Nat.le_of_ble_eq_true rfl) (Nat.le_of_ble_eq_true rfl) (fun _ _ hx => noX_x hx) (fun v79 L1 hp79 => ?_)
      obtain ⟨rfl, rfl⟩ := hp79
      refine (show Go g κ 82 [some (.ref m), some (.int (nI i)), some (.ref x5), some (.ref a17), some (.ref a27), some (.int (nI (if is = true then 1 else 0))), some (.ref it39), some (.ref x56), none] [.int (nI (if ¬ lof (eTr r56) i = none then 1 else 0)), .int (nI (if K17 (eKy r56) = true then 1 else 0)), .int (nI (if is = true then 1 else 0))] [[(a17, .inl (g.2.1 4, (dSs D).length, .inl fa17))], w3, w4, w1, w2, u4_24, [(a27, .inl (g.2.1 4, (dSs D).length, .inl fa27))], [(it39, .inr (22, [.int (nI (k + 1)), .int (nI k), .int md_4, .ref le]))], [(m, .inr (12, [.ref ls, .ref lb, .ref lk, .ref lp, .ref lr, .ref le, .ref lm, .ref lo, .int (nI th), .int (dZz D), .int (nI (dBn D)), .int (nI (dCm D))]))], w5] 3 6 from ?_)
      refine g_icmp_ne (tgt := 89) (q := 85) B dX3_isRight_82 rfl (by decide) (bo_bo) (fun c82 => ?_) (fun c82 => ?_)
      · skip
        refine g_iconst (v := nI 0) (q := 90) B dX3_isRight_89 rfl (by decide) ?_
        refine g_iand (v := nI 0) (q := 91) B dX3_isRight_90 rfl (bo_and0 _) ?_
        refine g_istore (q := 93) (lv2 := [some (.ref m), some (.int (nI i)), some (.ref x5), some (.ref a17), some (.ref a27), some (.int (nI 0)), some (.ref it39), some (.ref x56), none]) B dX3_isRight_91 rfl (Nat.le_of_ble_eq_true rfl) rfl ?_
        refine g_iload (q := 95) B dX3_isRight_93 rfl rfl ?_
        refine g_aload_n (q := 96) B dX3_isRight_95 rfl rfl (rv_r _) ?_
        refine g_getNM (q := 99) B (ci := 13) (k := 2) (j := 0) in_X5 rfl dX3_isRight_96 rfl rfl (hc_3_0) (Nat.le_of_ble_eq_true rfl) q3118 rfl rfl ?_
        refine g_iconst (v := -1) (q := 100) B dX3_isRight_99 rfl (by decide) ?_
        refine g_icmp_eq (tgt := 126) (q := 103) B dX3_isRight_100 rfl (by decide) (oI_n ((fun n h => by have := hM_3.1 _ h; omega))) (fun c100 => ?_) (fun c100 => ?_)
        · skip
          refine g_iconst (v := nI 1) (q := 127) B dX3_isRight_126 rfl (by decide) ?_
          refine g_goto (tgt := 131) B dX3_isRight_127 (by decide) ?_
          refine g_iand (v := nI 0) (q := 132) B dX3_isRight_131 rfl (by decide) ?_
          refine g_istore (q := 134) (lv2 := [some (.ref m), some (.int (nI i)), some (.ref x5), some (.ref a17), some (.ref a27), some (.int (nI 0)), some (.ref it39), some (.ref x56), none]) B dX3_isRight_132 rfl (Nat.le_of_ble_eq_true rfl) rfl ?_
          refine g_goto (tgt := 44) B dX3_isRight_134 (by decide) ?_
          refine g_fg 7 rfl ?_
          refine g_pk [0, 0, 0, 5, 0, 0, 0, 0, 0, 0] rfl rfl ?_
          refine (show Go g κ 44 [some (.ref m), some (.int (nI i)), some (.ref x5), some (.ref a17), some (.ref a27), some (.int (nI 0)), some (.ref it39), none, none] [] [[(a17, .inl (g.2.1 4, (dSs D).length, .inl fa17))], w3, w4, [(m, .inr (12, [.ref ls, .ref lb, .ref lk, .ref lp, .ref lr, .ref le, .ref lm, .ref lo, .int (nI th), .int (dZz D), .int (nI (dBn D)), .int (nI (dCm D))]))], w1, w2, u4_24, [(a27, .inl (g.2.1 4, (dSs D).length, .inl fa27))], [(it39, .inr (22, [.int (nI (k + 1)), .int (nI k), .int md_4, .ref le]))], w5] 3 6 from ?_)
          exact ih44 _ (by have := get_lt2 hr56; omega) (k + 1) (nI k) false (by first | assumption | omega | rfl) (epm_s his hr56 (b := false) ⟨(fun z => by cases z), fun z => absurd z.2.1 c82⟩) rfl
        · skip
          obtain ⟨v100, ev100⟩ := Option.ne_none_iff_exists'.mp c100
          have hv100 := hMB.1 _ ev100
          refine g_aload (q := 105) B dX3_isRight_103 rfl rfl (rv_r _) ?_
          refine g_getNM (q := 108) B (ci := 16) (k := 9) (j := 0) in_X13 rfl dX3_isRight_105 rfl rfl (hc_7_0) (Nat.le_of_ble_eq_true rfl) q3255 rfl rfl ?_
          refine g_aload_n (q := 109) B dX3_isRight_108 rfl rfl (rv_r _) ?_
          refine g_getNM (q := 112) B (ci := 13) (k := 2) (j := 0) in_X5 rfl dX3_isRight_109 rfl rfl (hc_3_0) (Nat.le_of_ble_eq_true rfl) q3118 rfl rfl ?_
          refine g_stk (y := .int (nI v100)) (by rw [ev100]; rfl) ?_
          refine g_icmp_ge (tgt := 126) (q := 115) B dX3_isRight_112 rfl (by decide) (nI_leI (by omega) (by omega)) (fun c112 => ?_) (fun c112 => ?_)
          · skip
            refine g_iconst (v := nI 1) (q := 127) B dX3_isRight_126 rfl (by decide) ?_
            refine g_goto (tgt := 131) B dX3_isRight_127 (by decide) ?_
            refine g_iand (v := nI 0) (q := 132) B dX3_isRight_131 rfl (by decide) ?_
            refine g_istore (q := 134) (lv2 := [some (.ref m), some (.int (nI i)), some (.ref x5), some (.ref a17), some (.ref a27), some (.int (nI 0)), some (.ref it39), some (.ref x56), none]) B dX3_isRight_132 rfl (Nat.le_of_ble_eq_true rfl) rfl ?_
            refine g_goto (tgt := 44) B dX3_isRight_134 (by decide) ?_
            refine g_fg 7 rfl ?_
            refine g_pk [0, 0, 0, 5, 0, 0, 0, 0, 0, 0] rfl rfl ?_
            refine (show Go g κ 44 [some (.ref m), some (.int (nI i)), some (.ref x5), some (.ref a17), some (.ref a27), some (.int (nI 0)), some (.ref it39), none, none] [] [[(a17, .inl (g.2.1 4, (dSs D).length, .inl fa17))], w3, w4, [(m, .inr (12, [.ref ls, .ref lb, .ref lk, .ref lp, .ref lr, .ref le, .ref lm, .ref lo, .int (nI th), .int (dZz D), .int (nI (dBn D)), .int (nI (dCm D))]))], w1, w2, u4_24, [(a27, .inl (g.2.1 4, (dSs D).length, .inl fa27))], [(it39, .inr (22, [.int (nI (k + 1)), .int (nI k), .int md_4, .ref le]))], w5] 3 6 from ?_)
            exact ih44 _ (by have := get_lt2 hr56; omega) (k + 1) (nI k) false (by first | assumption | omega | rfl) (epm_s his hr56 (b := false) ⟨(fun z => by cases z), fun z => absurd z.2.1 c82⟩) rfl
          · skip
            refine g_aload (q := 117) B dX3_isRight_115 rfl rfl (rv_r _) ?_
            refine g_aload (q := 119) B dX3_isRight_117 rfl rfl (rv_r _) ?_
            refine g_getNM (q := 122) B (ci := 16) (k := 9) (j := 3) in_X13 rfl dX3_isRight_119 rfl rfl (hc_7_0) (Nat.le_of_ble_eq_true rfl) q3259 rfl rfl ?_
            refine g_zald (v := nI (if K27 (eKy r56) = true then 1 else 0)) (q := 123) B (k := 6) dX3_isRight_122 rfl rfl (vp_in_nI (by omega) (by omega)) (by rw [nI_clamp (by omega)]; exact hfa_27 _ (by omega)) ?_
            refine g_if_ne (tgt := 130) (q := 126) B dX3_isRight_123 rfl (by decide) (bo_ne) (fun c123 => ?_) (fun c123 => ?_)
            · skip
              refine g_iconst (v := nI 0) (q := 131) B dX3_isRight_130 rfl (by decide) ?_
              refine g_iand (v := nI 0) (q := 132) B dX3_isRight_131 rfl (by decide) ?_
              refine g_istore (q := 134) (lv2 := [some (.ref m), some (.int (nI i)), some (.ref x5), some (.ref a17), some (.ref a27), some (.int (nI 0)), some (.ref it39), some (.ref x56), none]) B dX3_isRight_132 rfl (Nat.le_of_ble_eq_true rfl) rfl ?_
              refine g_goto (tgt := 44) B dX3_isRight_134 (by decide) ?_
              refine g_fg 7 rfl ?_
              refine g_pk [0, 0, 0, 5, 0, 0, 0, 0, 0, 0] rfl rfl ?_
              refine (show Go g κ 44 [some (.ref m), some (.int (nI i)), some (.ref x5), some (.ref a17), some (.ref a27), some (.int (nI 0)), some (.ref it39), none, none] [] [[(a17, .inl (g.2.1 4, (dSs D).length, .inl fa17))], w3, w4, [(m, .inr (12, [.ref ls, .ref lb, .ref lk, .ref lp, .ref lr, .ref le, .ref lm, .ref lo, .int (nI th), .int (dZz D), .int (nI (dBn D)), .int (nI (dCm D))]))], w1, w2, u4_24, [(a27, .inl (g.2.1 4, (dSs D).length, .inl fa27))], [(it39, .inr (22, [.int (nI (k + 1)), .int (nI k), .int md_4, .ref le]))], w5] 3 6 from ?_)
              exact ih44 _ (by have := get_lt2 hr56; omega) (k + 1) (nI k) false (by first | assumption | omega | rfl) (epm_s his hr56 (b := false) ⟨(fun z => by cases z), fun z => absurd z.2.1 c82⟩) rfl
            · skip
              refine g_iconst (v := nI 1) (q := 127) B dX3_isRight_126 rfl (by decide) ?_
              refine g_goto (tgt := 131) B dX3_isRight_127 (by decide) ?_
              refine g_iand (v := nI 0) (q := 132) B dX3_isRight_131 rfl (by decide) ?_
              refine g_istore (q := 134) (lv2 := [some (.ref m), some (.int (nI i)), some (.ref x5), some (.ref a17), some (.ref a27), some (.int (nI 0)), some (.ref it39), some (.ref x56), none]) B dX3_isRight_132 rfl (Nat.le_of_ble_eq_true rfl) rfl ?_
              refine g_goto (tgt := 44) B dX3_isRight_134 (by decide) ?_
              refine g_fg 7 rfl ?_
              refine g_pk [0, 0, 0, 5, 0, 0, 0, 0, 0, 0] rfl rfl ?_
              refine (show Go g κ 44 [some (.ref m), some (.int (nI i)), some (.ref x5), some (.ref a17), some (.ref a27), some (.int (nI 0)), some (.ref it39), none, none] [] [[(a17, .inl (g.2.1 4, (dSs D).length, .inl fa17))], w3, w4, [(m, .inr (12, [.ref ls, .ref lb, .ref lk, .ref lp, .ref lr, .ref le, .ref lm, .ref lo, .int (nI th), .int (dZz D), .int (nI (dBn D)), .int (nI (dCm D))]))], w1, w2, u4_24, [(a27, .inl (g.2.1 4, (dSs D).length, .inl fa27))], [(it39, .inr (22, [.int (nI (k + 1)), .int (nI k), .int md_4, .ref le]))], w5] 3 6 from ?_)
              exact ih44 _ (by have := get_lt2 hr56; omega) (k + 1) (nI k) false (by first | assumption | omega | rfl) (epm_s his hr56 (b := false) ⟨(fun z => by cases z), fun z => absurd z.2.1 c82⟩) rfl
      · skip
        refine g_iconst (v := nI 1) (q := 86) B dX3_isRight_85 rfl (by decide) ?_
        refine g_goto (tgt := 90) B dX3_isRight_86 (by decide) ?_
        refine g_iand (v := nI (if is = true then 1 else 0)) (q := 91) B dX3_isRight_90 rfl bo_and1 ?_
        refine g_istore (q := 93) (lv2 := [some (.ref m), some (.int (nI i)), some (.ref x5), some (.ref a17), some (.ref a27), some (.int (nI (if is = true then 1 else 0))), some (.ref it39), some (.ref x56), none]) B dX3_isRight_91 rfl (Nat.le_of_ble_eq_true rfl) rfl ?_
        refine g_iload (q := 95) B dX3_isRight_93 rfl rfl ?_
        refine g_aload_n (q := 96) B dX3_isRight_95 rfl rfl (rv_r _) ?_
        refine g_getNM (q := 99) B (ci := 13) (k := 2) (j := 0) in_X5 rfl dX3_isRight_96 rfl rfl (hc_3_0) (Nat.le_of_ble_eq_true rfl) q3118 rfl rfl ?_
        refine g_iconst (v := -1) (q := 100) B dX3_isRight_99 rfl (by decide) ?_
        refine g_icmp_eq (tgt := 126) (q := 103) B dX3_isRight_100 rfl (by decide) (oI_n ((fun n h => by have := hM_3.1 _ h; omega))) (fun c100 => ?_) (fun c100 => ?_)
        · skip
          refine g_iconst (v := nI 1) (q := 127) B dX3_isRight_126 rfl (by decide) ?_
          refine g_goto (tgt := 131) B dX3_isRight_127 (by decide) ?_
          refine g_iand (v := nI (if is = true then 1 else 0)) (q := 132) B dX3_isRight_131 rfl bo_and1 ?_
          refine g_istore (q := 134) (lv2 := [some (.ref m), some (.int (nI i)), some (.ref x5), some (.ref a17), some (.ref a27), some (.int (nI (if is = true then 1 else 0))), some (.ref it39), some (.ref x56), none]) B dX3_isRight_132 rfl (Nat.le_of_ble_eq_true rfl) rfl ?_
          refine g_goto (tgt := 44) B dX3_isRight_134 (by decide) ?_
          refine g_fg 7 rfl ?_
          refine g_pk [0, 0, 0, 5, 0, 0, 0, 0, 0, 0] rfl rfl ?_
          refine (show Go g κ 44 [some (.ref m), some (.int (nI i)), some (.ref x5), some (.ref a17), some (.ref a27), some (.int (nI (if is = true then 1 else 0))), some (.ref it39), none, none] [] [[(a17, .inl (g.2.1 4, (dSs D).length, .inl fa17))], w3, w4, [(m, .inr (12, [.ref ls, .ref lb, .ref lk, .ref lp, .ref lr, .ref le, .ref lm, .ref lo, .int (nI th), .int (dZz D), .int (nI (dBn D)), .int (nI (dCm D))]))], w1, w2, u4_24, [(a27, .inl (g.2.1 4, (dSs D).length, .inl fa27))], [(it39, .inr (22, [.int (nI (k + 1)), .int (nI k), .int md_4, .ref le]))], w5] 3 6 from ?_)
          exact ih44 _ (by have := get_lt2 hr56; omega) (k + 1) (nI k) is (by first | assumption | omega | rfl) (epm_s his hr56 (b := is) ⟨fun h => ⟨h, Classical.not_not.mp c82, Or.inl c100⟩, fun h => h.1⟩) rfl
        · skip
          obtain ⟨v100, ev100⟩ := Option.ne_none_iff_exists'.mp c100
          have hv100 := hMB.1 _ ev100
          refine g_aload (q := 105) B dX3_isRight_103 rfl rfl (rv_r _) ?_
          refine g_getNM (q := 108) B (ci := 16) (k := 9) (j := 0) in_X13 rfl dX3_isRight_105 rfl rfl (hc_7_0) (Nat.le_of_ble_eq_true rfl) q3255 rfl rfl ?_
          refine g_aload_n (q := 109) B dX3_isRight_108 rfl rfl (rv_r _) ?_
          refine g_getNM (q := 112) B (ci := 13) (k := 2) (j := 0) in_X5 rfl dX3_isRight_109 rfl rfl (hc_3_0) (Nat.le_of_ble_eq_true rfl) q3118 rfl rfl ?_
          refine g_stk (y := .int (nI v100)) (by rw [ev100]; rfl) ?_
          refine g_icmp_ge (tgt := 126) (q := 115) B dX3_isRight_112 rfl (by decide) (nI_leI (by omega) (by omega)) (fun c112 => ?_) (fun c112 => ?_)
          · skip
            refine g_iconst (v := nI 1) (q := 127) B dX3_isRight_126 rfl (by decide) ?_
            refine g_goto (tgt := 131) B dX3_isRight_127 (by decide) ?_
            refine g_iand (v := nI (if is = true then 1 else 0)) (q := 132) B dX3_isRight_131 rfl bo_and1 ?_
            refine g_istore (q := 134) (lv2 := [some (.ref m), some (.int (nI i)), some (.ref x5), some (.ref a17), some (.ref a27), some (.int (nI (if is = true then 1 else 0))), some (.ref it39), some (.ref x56), none]) B dX3_isRight_132 rfl (Nat.le_of_ble_eq_true rfl) rfl ?_
            refine g_goto (tgt := 44) B dX3_isRight_134 (by decide) ?_
            refine g_fg 7 rfl ?_
            refine g_pk [0, 0, 0, 5, 0, 0, 0, 0, 0, 0] rfl rfl ?_
            refine (show Go g κ 44 [some (.ref m), some (.int (nI i)), some (.ref x5), some (.ref a17), some (.ref a27), some (.int (nI (if is = true then 1 else 0))), some (.ref it39), none, none] [] [[(a17, .inl (g.2.1 4, (dSs D).length, .inl fa17))], w3, w4, [(m, .inr (12, [.ref ls, .ref lb, .ref lk, .ref lp, .ref lr, .ref le, .ref lm, .ref lo, .int (nI th), .int (dZz D), .int (nI (dBn D)), .int (nI (dCm D))]))], w1, w2, u4_24, [(a27, .inl (g.2.1 4, (dSs D).length, .inl fa27))], [(it39, .inr (22, [.int (nI (k + 1)), .int (nI k), .int md_4, .ref le]))], w5] 3 6 from ?_)
            exact ih44 _ (by have := get_lt2 hr56; omega) (k + 1) (nI k) is (by first | assumption | omega | rfl) (epm_s his hr56 (b := is) ⟨fun h => ⟨h, Classical.not_not.mp c82, Or.inr (Or.inl ⟨v100, ev100, c112⟩)⟩, fun h => h.1⟩) rfl
          · skip
            refine g_aload (q := 117) B dX3_isRight_115 rfl rfl (rv_r _) ?_
            refine g_aload (q := 119) B dX3_isRight_117 rfl rfl (rv_r _) ?_
            refine g_getNM (q := 122) B (ci := 16) (k := 9) (j := 3) in_X13 rfl dX3_isRight_119 rfl rfl (hc_7_0) (Nat.le_of_ble_eq_true rfl) q3259 rfl rfl ?_
            refine g_zald (v := nI (if K27 (eKy r56) = true then 1 else 0)) (q := 123) B (k := 6) dX3_isRight_122 rfl rfl (vp_in_nI (by omega) (by omega)) (by rw [nI_clamp (by omega)]; exact hfa_27 _ (by omega)) ?_
            refine g_if_ne (tgt := 130) (q := 126) B dX3_isRight_123 rfl (by decide) (bo_ne) (fun c123 => ?_) (fun c123 => ?_)
            · skip
              refine g_iconst (v := nI 0) (q := 131) B dX3_isRight_130 rfl (by decide) ?_
              refine g_iand (v := nI 0) (q := 132) B dX3_isRight_131 rfl (bo_and0 _) ?_
              refine g_istore (q := 134) (lv2 := [some (.ref m), some (.int (nI i)), some (.ref x5), some (.ref a17), some (.ref a27), some (.int (nI 0)), some (.ref it39), some (.ref x56), none]) B dX3_isRight_132 rfl (Nat.le_of_ble_eq_true rfl) rfl ?_
              refine g_goto (tgt := 44) B dX3_isRight_134 (by decide) ?_
              refine g_fg 7 rfl ?_
              refine g_pk [0, 0, 0, 5, 0, 0, 0, 0, 0, 0] rfl rfl ?_
              refine (show Go g κ 44 [some (.ref m), some (.int (nI i)), some (.ref x5), some (.ref a17), some (.ref a27), some (.int (nI 0)), some (.ref it39), none, none] [] [[(a17, .inl (g.2.1 4, (dSs D).length, .inl fa17))], w3, w4, [(m, .inr (12, [.ref ls, .ref lb, .ref lk, .ref lp, .ref lr, .ref le, .ref lm, .ref lo, .int (nI th), .int (dZz D), .int (nI (dBn D)), .int (nI (dCm D))]))], w1, w2, u4_24, [(a27, .inl (g.2.1 4, (dSs D).length, .inl fa27))], [(it39, .inr (22, [.int (nI (k + 1)), .int (nI k), .int md_4, .ref le]))], w5] 3 6 from ?_)
              exact ih44 _ (by have := get_lt2 hr56; omega) (k + 1) (nI k) false (by first | assumption | omega | rfl) (epm_s his hr56 (b := false) ⟨(fun z => by cases z), fun z => z.2.2.elim (fun h => by rw [ev100] at h; cases h) (fun h => h.elim (fun ⟨m, h1, h2⟩ => by rw [ev100] at h1; cases h1; exact absurd h2 c112) (fun h => absurd c123 h))⟩) rfl
            · skip
              refine g_iconst (v := nI 1) (q := 127) B dX3_isRight_126 rfl (by decide) ?_
              refine g_goto (tgt := 131) B dX3_isRight_127 (by decide) ?_
              refine g_iand (v := nI (if is = true then 1 else 0)) (q := 132) B dX3_isRight_131 rfl bo_and1 ?_
              refine g_istore (q := 134) (lv2 := [some (.ref m), some (.int (nI i)), some (.ref x5), some (.ref a17), some (.ref a27), some (.int (nI (if is = true then 1 else 0))), some (.ref it39), some (.ref x56), none]) B dX3_isRight_132 rfl (Nat.le_of_ble_eq_true rfl) rfl ?_
              refine g_goto (tgt := 44) B dX3_isRight_134 (by decide) ?_
              refine g_fg 7 rfl ?_
              refine g_pk [0, 0, 0, 5, 0, 0, 0, 0, 0, 0] rfl rfl ?_
              refine (show Go g κ 44 [some (.ref m), some (.int (nI i)), some (.ref x5), some (.ref a17), some (.ref a27), some (.int (nI (if is = true then 1 else 0))), some (.ref it39), none, none] [] [[(a17, .inl (g.2.1 4, (dSs D).length, .inl fa17))], w3, w4, [(m, .inr (12, [.ref ls, .ref lb, .ref lk, .ref lp, .ref lr, .ref le, .ref lm, .ref lo, .int (nI th), .int (dZz D), .int (nI (dBn D)), .int (nI (dCm D))]))], w1, w2, u4_24, [(a27, .inl (g.2.1 4, (dSs D).length, .inl fa27))], [(it39, .inr (22, [.int (nI (k + 1)), .int (nI k), .int md_4, .ref le]))], w5] 3 6 from ?_)
              exact ih44 _ (by have := get_lt2 hr56; omega) (k + 1) (nI k) is (by first | assumption | omega | rfl) (epm_s his hr56 (b := is) ⟨fun h => ⟨h, Classical.not_not.mp c82, Or.inr (Or.inr c123)⟩, fun h => h.1⟩) rfl
  exact lp44 _ 0 (-1) true (Nat.zero_le _) (⟨fun _ e Ep h => absurd h (Nat.not_lt_zero e), fun _ => rfl⟩) rfl
theorem moX3_isRight : Mo yX3_isRight 1 := by
  refine ⟨by decide, by decide, by decide +kernel⟩
theorem ct_X3_isSound (g : Gv) (J : Jd g) {m : Nat} {D : MdS} {w0 : va_W} (hw0 : KdP g m D w0) (hD : MdB D) (hI : MdI D) (hekl : ∀ Ep ∈ dEs D, eKy Ep < (dSs D).length) (h16 : ∀ Ep ∈ dEs D, ∀ l, 2 ^ (eTr Ep).1 ≤ l → (eTr Ep).2.2.2 l = none) : Ct g yX3_isSound (ws_ yX3_isSound cX3_isSound 3 (some .boolean)) 15 ((dPs D).length * (2 * (dSs D).length + 32 * (dMs D).length + capF (dSs D).length / 5 + 230)) ((dPs D).length * (10 * (dSs D).length + 80 * (dMs D).length + 4 * capF (dSs D).length + 610)) [.ref m] [w0] (fun (rv_ : Option Value) (rL_ : List va_W) => ∃ (q : Bool) (u0 : va_W), rv_ = some (.int (nI (if q = true then 1 else 0))) ∧ rL_ = [u0] ∧ KdP g m (dT D 0) u0 ∧ (q = true ↔ sndM D (dPs D).length)) noX := by
  refine Ct.of "KeygroveModel" [some (.ref m), none, none] rfl (by decide) rfl (Nat.le_of_ble_eq_true rfl) rfl ?_
  intro κ B E tb
  have hD0 := hD
  obtain ⟨hd1, hd2, hd3, hd4, hd5, hd6, hd7, hd8, hd9⟩ := hD0
  obtain ⟨ls, lb, lk, lp, lr, le, lm, lo, kcap, pcap, rcap, ecap, mcap, mks, mps, v0, v1, v2, v3, v4, v5, v6, v7, hcap, hv0, hv1, hv2, hv3, hv4, hv5, hv6, hv7, rfl⟩ := hw0
  refine g_open 0 rfl rfl rfl ?_
  refine (show Go g κ 0 [some (.ref m), none, none] [] [[(m, .inr (12, [.ref ls, .ref lb, .ref lk, .ref lp, .ref lr, .ref le, .ref lm, .ref lo, .int (nI (dTh D)), .int (dZz D), .int (nI (dBn D)), .int (nI (dCm D))]))], v0, v1, v2, v3, v4, v5, v6, v7] ((dPs D).length * (2 * (dSs D).length + 32 * (dMs D).length + capF (dSs D).length / 5 + 230)) ((dPs D).length * (10 * (dSs D).length + 80 * (dMs D).length + 4 * capF (dSs D).length + 610)) from ?_)
  obtain ⟨kc1, kc2, kc3, kc4, kc5⟩ := (show capM kcap pcap rcap ecap mcap from hcap)
  have hm0 : ((dPs D).length - 0) * (2 * (dSs D).length + 32 * (dMs D).length + capF (dSs D).length / 5 + 230) = (dPs D).length * (2 * (dSs D).length + 32 * (dMs D).length + capF (dSs D).length / 5 + 230) := by rw [Nat.sub_zero]
  have hm00 : ((dPs D).length - 0) * (10 * (dSs D).length + 80 * (dMs D).length + 4 * capF (dSs D).length + 610) = (dPs D).length * (10 * (dSs D).length + 80 * (dMs D).length + 4 * capF (dSs D).length + 610) := by rw [Nat.sub_zero]
  refine g_aload_n (q := 1) B dX3_isSound_0 rfl rfl (rv_r _) ?_
  refine g_iconst (v := nI 0) (q := 2) B dX3_isSound_1 rfl (by decide) ?_
  refine g_put (q := 5) (L2 := [[(m, .inr (12, [.ref ls, .ref lb, .ref lk, .ref lp, .ref lr, .ref le, .ref lm, .ref lo, .int (nI 0), .int (dZz D), .int (nI (dBn D)), .int (nI (dCm D))]))], v0, v1, v2, v3, v4, v5, v6, v7]) B (ci := 12) (k := 0) (j := 8) in_X3 tyX3 tyX3_ok nmX3 rfl dX3_isSound_2 rfl rfl (Nat.le_of_ble_eq_true rfl) q3065 rfl rfl rfl rfl (Nat.le_of_ble_eq_true rfl) rfl ?_
  refine g_iconst (v := nI 1) (q := 6) B dX3_isSound_5 rfl (by decide) ?_
  refine g_istore_n (q := 7) (lv2 := [some (.ref m), some (.int (nI 1)), none]) B dX3_isSound_6 rfl (Nat.le_of_ble_eq_true rfl) rfl ?_
  refine g_iconst (v := nI 0) (q := 8) B dX3_isSound_7 rfl (by decide) ?_
  refine g_istore_n (q := 9) (lv2 := [some (.ref m), some (.int (nI 1)), some (.int (nI 0))]) B dX3_isSound_8 rfl (Nat.le_of_ble_eq_true rfl) rfl ?_
  have lp9 : ∀ (n9 : Nat) (k : Nat) (is : Bool) , (k ≤ (dPs D).length) → (is = true ↔ sndM D k) → (dPs D).length - k = n9 → Go g κ 9 [some (.ref m), some (.int (nI (if is = true then 1 else 0))), some (.int (nI k))] [] [[(m, .inr (12, [.ref ls, .ref lb, .ref lk, .ref lp, .ref lr, .ref le, .ref lm, .ref lo, .int (nI 0), .int (dZz D), .int (nI (dBn D)), .int (nI (dCm D))]))], v0, v1, v2, v3, v4, v5, v6, v7] (((dPs D).length - k) * (2 * (dSs D).length + 32 * (dMs D).length + capF (dSs D).length / 5 + 230)) (((dPs D).length - k) * (10 * (dSs D).length + 80 * (dMs D).length + 4 * capF (dSs D).length + 610)) := by
    intro n9
    induction n9 using Nat.strongRecOn with
    | _ n9 ih9 =>
    intro k is  hk his hmu9
    refine g_iload_n (q := 10) B dX3_isSound_9 rfl rfl ?_
    refine g_aload_n (q := 11) B dX3_isSound_10 rfl rfl (rv_r _) ?_
    refine g_get (q := 14) B (ci := 12) (k := 0) (j := 3) in_X3 rfl dX3_isSound_11 rfl rfl (Nat.le_of_ble_eq_true rfl) q3060 rfl rfl ?_
    obtain ⟨md_1, hli_1, hln_1, hel_1⟩ := LoP.at (Sub.self hv3)
    refine g_callV (q := 17) (is := [4]) (kc2 := ((dPs D).length - k) * (2 * (dSs D).length + 32 * (dMs D).length + capF (dSs D).length / 5 + 230)) (ks2 := ((dPs D).length - k) * (10 * (dSs D).length + 80 * (dMs D).length + 4 * capF (dSs D).length + 610)) B [] (ct_J2_size_s g J (p := lp) (xs := mps) (md := md_1) (cap := pcap) (W0 := v3)  (hli_1)) dX3_isSound_14 rfl (rc_in B (ci := 21) rfl (k := 4) rfl (LoP.hm hv3)) rfl q3102 q321 q3665 q81 q323 rfl rfl moJ2_size rfl rfl (by decide) (by decide) (Nat.le_of_ble_eq_true rfl) (by omega) (by omega) (fun _ _ hx => noX_x hx) (fun v14 L1 hp14 => ?_)
    obtain ⟨rfl, rfl⟩ := hp14
    refine (show Go g κ 17 [some (.ref m), some (.int (nI (if is = true then 1 else 0))), some (.int (nI k))] [.int (nI mps.length), .int (nI k)] [[(m, .inr (12, [.ref ls, .ref lb, .ref lk, .ref lp, .ref lr, .ref le, .ref lm, .ref lo, .int (nI 0), .int (dZz D), .int (nI (dBn D)), .int (nI (dCm D))]))], v0, v1, v2, v4, v5, v6, v7, v3] (((dPs D).length - k) * (2 * (dSs D).length + 32 * (dMs D).length + capF (dSs D).length / 5 + 230)) (((dPs D).length - k) * (10 * (dSs D).length + 80 * (dMs D).length + 4 * capF (dSs D).length + 610)) from ?_)
    rw [hln_1.1]
    refine (show Go g κ 17 [some (.ref m), some (.int (nI (if is = true then 1 else 0))), some (.int (nI k))] [.int (nI ((dPs D).length)), .int (nI k)] [[(m, .inr (12, [.ref ls, .ref lb, .ref lk, .ref lp, .ref lr, .ref le, .ref lm, .ref lo, .int (nI 0), .int (dZz D), .int (nI (dBn D)), .int (nI (dCm D))]))], v0, v1, v2, v4, v5, v6, v7, v3] (((dPs D).length - k) * (2 * (dSs D).length + 32 * (dMs D).length + capF (dSs D).length / 5 + 230)) (((dPs D).length - k) * (10 * (dSs D).length + 80 * (dMs D).length + 4 * capF (dSs D).length + 610)) from ?_)
    refine g_icmp_ge (tgt := 34) (q := 20) B dX3_isSound_17 rfl (by decide) (nI_leI (by omega) (by omega)) (fun c17 => ?_) (fun c17 => ?_)
    · skip
      refine g_iload_n (q := 35) B dX3_isSound_34 rfl rfl ?_
      obtain ⟨wc_2, ewc_2⟩ : ∃ w : va_W, w = ([[(m, .inr (12, [.ref ls, .ref lb, .ref lk, .ref lp, .ref lr, .ref le, .ref lm, .ref lo, .int (nI 0), .int (dZz D), .int (nI (dBn D)), .int (nI (dCm D))]))], v0, v1, v2, v3, v4, v5, v6, v7] : List va_W).flatten := ⟨_, rfl⟩
      have hwc_2 : KdP g m (dT D 0) wc_2 := by
        rw [ewc_2]
        exact ⟨ls, lb, lk, lp, lr, le, lm, lo, kcap, pcap, rcap, ecap, mcap, mks, mps, _, _, _, _, _, _, _, _, hcap, hv0, hv1, hv2, hv3, hv4, hv5, hv6, hv7, rfl⟩
      refine g_close (w := wc_2) [0, 0, 0, 0, 4, 0, 0, 0, 0] rfl ewc_2 rfl ?_
      refine (show Go g κ 35 [some (.ref m), some (.int (nI (if is = true then 1 else 0))), some (.int (nI k))] [.int (nI (if is = true then 1 else 0))] [wc_2] (((dPs D).length - k) * (2 * (dSs D).length + 32 * (dMs D).length + capF (dSs D).length / 5 + 230)) (((dPs D).length - k) * (10 * (dSs D).length + 80 * (dMs D).length + 4 * capF (dSs D).length + 610)) from ?_)
      exact g_zret B E dX3_isSound_35 (by split <;> decide) (⟨is, _, rfl, rfl, hwc_2, by rw [his, show k = (dPs D).length by omega]⟩)
    · skip
      refine g_iload_n (q := 21) B dX3_isSound_20 rfl rfl ?_
      refine g_aload_n (q := 22) B dX3_isSound_21 rfl rfl (rv_r _) ?_
      refine g_iload_n (q := 23) B dX3_isSound_22 rfl rfl ?_
      obtain ⟨r9, hr9⟩ := get_ex (xs := dPs D) (i := k) (by omega)
      have hm1 := mul_st (M := (2 * (dSs D).length + 32 * (dMs D).length + capF (dSs D).length / 5 + 230)) (get_lt2 hr9)
      have hm2 := mul_st (M := (10 * (dSs D).length + 80 * (dMs D).length + 4 * capF (dSs D).length + 610)) (get_lt2 hr9)
      refine g_callV (q := 26) (is := [0, 0, 0, 0, 4, 1]) (kc2 := ((dPs D).length - (k + 1)) * (2 * (dSs D).length + 32 * (dMs D).length + capF (dSs D).length / 5 + 230)) (ks2 := ((dPs D).length - (k + 1)) * (10 * (dSs D).length + 80 * (dMs D).length + 4 * capF (dSs D).length + 610)) B [.int (nI k)] (ct_X3_isRight g J (m := m) (D := D) (ls := ls) (lb := lb) (lk := lk) (lp := lp) (lr := lr) (le := le) (lm := lm) (lo := lo) (th := 0) (mks := mks) (kcap := kcap) (mps := mps) (pcap := pcap) (ecap := ecap) (i := k) (r := r9) hv0 hv1 hv2 hv3 hv5 (hD) (hI) (hekl) (h16) (hr9)) dX3_isSound_23 rfl (rc_at B (ci := 12) rfl (k := 0) rfl) rfl q3649 q3651 qs75 q85 q3652 rfl rfl moX3_isRight rfl rfl (by decide) (by decide) (Nat.le_of_ble_eq_true rfl) (by omega) (by omega) (fun _ _ hx => noX_x hx) (fun v23 L1 hp23 => ?_)
      obtain ⟨q23, E923, N923, rfl, rfl, hE_23, hN_23, hq_23⟩ := hp23
      refine (show Go g κ 26 [some (.ref m), some (.int (nI (if is = true then 1 else 0))), some (.int (nI k))] [.int (nI (if q23 = true then 1 else 0)), .int (nI (if is = true then 1 else 0))] [v4, v6, v7, [(m, .inr (12, [.ref ls, .ref lb, .ref lk, .ref lp, .ref lr, .ref le, .ref lm, .ref lo, .int (nI 0), .int (dZz D), .int (nI (dBn D)), .int (nI (dCm D))]))], v0, v1, v2, v3, v5] (((dPs D).length - (k + 1)) * (2 * (dSs D).length + 32 * (dMs D).length + capF (dSs D).length / 5 + 230)) (((dPs D).length - (k + 1)) * (10 * (dSs D).length + 80 * (dMs D).length + 4 * capF (dSs D).length + 610)) from ?_)
      refine g_iand (v := nI (if (is && q23) = true then 1 else 0)) (q := 27) B dX3_isSound_26 rfl bo_andb ?_
      refine g_istore_n (q := 28) (lv2 := [some (.ref m), some (.int (nI (if (is && q23) = true then 1 else 0))), some (.int (nI k))]) B dX3_isSound_27 rfl (Nat.le_of_ble_eq_true rfl) rfl ?_
      refine g_iinc (v := nI (k + 1)) (q := 31) (lv2 := [some (.ref m), some (.int (nI (if (is && q23) = true then 1 else 0))), some (.int (nI (k + 1)))]) B dX3_isSound_28 rfl rfl (nI_add _ 1) (Nat.le_of_ble_eq_true rfl) rfl ?_
      refine g_goto (tgt := 9) B dX3_isSound_31 (by decide) ?_
      refine g_pk [3, 3, 3, 3, 3, 0, 2, 0, 0] rfl rfl ?_
      refine (show Go g κ 9 [some (.ref m), some (.int (nI (if (is && q23) = true then 1 else 0))), some (.int (nI (k + 1)))] [] [[(m, .inr (12, [.ref ls, .ref lb, .ref lk, .ref lp, .ref lr, .ref le, .ref lm, .ref lo, .int (nI 0), .int (dZz D), .int (nI (dBn D)), .int (nI (dCm D))]))], v0, v1, v2, v3, v4, v5, v6, v7] (((dPs D).length - (k + 1)) * (2 * (dSs D).length + 32 * (dMs D).length + capF (dSs D).length / 5 + 230)) (((dPs D).length - (k + 1)) * (10 * (dSs D).length + 80 * (dMs D).length + 4 * capF (dSs D).length + 610)) from ?_)
      exact ih9 _ (by omega) (k + 1) (is && q23) (by omega) (snm_s his hr9 hE_23 hN_23 hq_23) rfl
  refine g_room (kc2 := ((dPs D).length - 0) * (2 * (dSs D).length + 32 * (dMs D).length + capF (dSs D).length / 5 + 230)) (ks2 := ((dPs D).length - 0) * (10 * (dSs D).length + 80 * (dMs D).length + 4 * capF (dSs D).length + 610)) (by omega) (by omega) ?_
  exact lp9 _ 0 true (Nat.zero_le _) (⟨fun _ i r h => absurd h (Nat.not_lt_zero i), fun _ => rfl⟩) rfl
noncomputable def heM (Ks : List MkS) (Es : List MeS) (i : Nat) (r : MpS) (x : Nat) : Bool := @decide (helM Ks Es i r x) (Classical.propDecidable _)
theorem heM_i {Ks : List MkS} {Es : List MeS} {i : Nat} {r : MpS} {x : Nat} : heM Ks Es i r x = true ↔ helM Ks Es i r x := by unfold heM; simp
def ckZM (D : MdS) : Int64 := 31 * (217 + (dZz D).toInt64) + (nI (dEs D).length - nI 1).toInt64
noncomputable def ckRM (D : MdS) (i : Nat) (r : MpS) : Nat × Int32 := (fb_ct (heM (dKs D) (dEs D) i r) (dSs D).length, match mEp r with
  | none => nI 0
  | some e => match (dEs D)[e]? with
    | none => nI 0
    | some E => vl (dSs D) (eKy E))
noncomputable def ckPM (D : MdS) (s : Int64) : Nat → Int64
  | 0 => s
  | k + 1 => match (dPs D)[k]? with
    | none => ckPM D s k
    | some r => ck2 (ckPM D s k) (ckRM D k r)
theorem ckPM_s {D : MdS} {s : Int64} {k : Nat} {r : MpS} (h : (dPs D)[k]? = some r) : ckPM D s (k + 1) = ck2 (ckPM D s k) (ckRM D k r) := by
  show (match (dPs D)[k]? with | none => ckPM D s k | some r => ck2 (ckPM D s k) (ckRM D k r)) = _
  rw [h]
theorem ckRM_n {D : MdS} {i : Nat} {r : MpS} (h : mEp r = none) : (ckRM D i r).2 = nI 0 := by unfold ckRM; rw [h]
theorem ckRM_y {D : MdS} {i e : Nat} {r : MpS} {E : MeS} (h : mEp r = some e) (h2 : (dEs D)[e]? = some E) : (ckRM D i r).2 = vl (dSs D) (eKy E) := by unfold ckRM; rw [h]; show (match (dEs D)[e]? with | none => nI 0 | some E => vl (dSs D) (eKy E)) = _; rw [h2]
noncomputable def ckSM (D : MdS) (E : MeS) : Int64 := ckPM D (if dEs D = [] then ckZM D else ckT (dSs D) (eTr E) (ckZM D) (2 * 2 ^ (eTr E).1 - 1)) (dPs D).length
theorem ct_X3_checksum (g : Gv) (J : Jd g) {m : Nat} {D : MdS} {Ep : MeS} {w0 : va_W} (hw0 : KdP g m D w0) (hD : MdB D) (hI : MdI D) (hT : dEs D ≠ [] → (dEs D)[(dEs D).length - 1]? = some Ep) (hsb : ∀ n x, dEs D ≠ [] → (eTr Ep).2.1 n = some x → x < (dSs D).length) (hekl : ∀ Ep ∈ dEs D, eKy Ep < (dSs D).length) : Ct g yX3_checksum (ws_ yX3_checksum cX3_checksum 5 (some .long)) 10 (10 * (490 + 32 * (dMs D).length)) (10 * (6020 + 80 * (dMs D).length)) [.ref m] [w0] (fun (rv_ : Option Value) (rL_ : List va_W) => ∃ (u0 : va_W), rv_ = some (.long (ckSM D Ep)) ∧ rL_ = [u0] ∧ KdP g m (dT D 0) u0) noX := by
  refine Ct.of "KeygroveModel" [some (.ref m), none, none, none, none] rfl (by decide) rfl (Nat.le_of_ble_eq_true rfl) rfl ?_
  intro κ B E tb
  have hD0 := hD
  obtain ⟨hd1, hd2, hd3, hd4, hd5, hd6, hd7, hd8, hd9⟩ := hD0
  obtain ⟨ls, lb, lk, lp, lr, le, lm, lo, kcap, pcap, rcap, ecap, mcap, mks, mps, v0, v1, v2, v3, v4, v5, v6, v7, hcap, hv0, hv1, hv2, hv3, hv4, hv5, hv6, hv7, rfl⟩ := hw0
  refine g_open 0 rfl rfl rfl ?_
  refine (show Go g κ 0 [some (.ref m), none, none, none, none] [] [[(m, .inr (12, [.ref ls, .ref lb, .ref lk, .ref lp, .ref lr, .ref le, .ref lm, .ref lo, .int (nI (dTh D)), .int (dZz D), .int (nI (dBn D)), .int (nI (dCm D))]))], v0, v1, v2, v3, v4, v5, v6, v7] (10 * (490 + 32 * (dMs D).length)) (10 * (6020 + 80 * (dMs D).length)) from ?_)
  obtain ⟨kc1, kc2, kc3, kc4, kc5⟩ := (show capM kcap pcap rcap ecap mcap from hcap)
  obtain ⟨hi1, hi2, hi3, hi4, hi5⟩ := hI
  have hcf := capF_le (dSs D).length
  have hz0 : (10 - 0) * (490 + 32 * (dMs D).length) = 10 * (490 + 32 * (dMs D).length) := rfl
  have hz1 : (10 - 0) * (6020 + 80 * (dMs D).length) = 10 * (6020 + 80 * (dMs D).length) := rfl
  refine g_aload_n (q := 1) B dX3_checksum_0 rfl rfl (rv_r _) ?_
  refine g_iconst (v := nI 0) (q := 2) B dX3_checksum_1 rfl (by decide) ?_
  refine g_put (q := 5) (L2 := [[(m, .inr (12, [.ref ls, .ref lb, .ref lk, .ref lp, .ref lr, .ref le, .ref lm, .ref lo, .int (nI 0), .int (dZz D), .int (nI (dBn D)), .int (nI (dCm D))]))], v0, v1, v2, v3, v4, v5, v6, v7]) B (ci := 12) (k := 0) (j := 8) in_X3 tyX3 tyX3_ok nmX3 rfl dX3_checksum_2 rfl rfl (Nat.le_of_ble_eq_true rfl) q3065 rfl rfl rfl rfl (Nat.le_of_ble_eq_true rfl) rfl ?_
  refine g_ldc2 (q := 8) B dX3_checksum_5 rfl q3643 ?_
  refine g_ldc2 (q := 11) B dX3_checksum_8 rfl q3644 ?_
  refine g_aload_n (q := 12) B dX3_checksum_11 rfl rfl (rv_r _) ?_
  refine g_get (q := 15) B (ci := 12) (k := 0) (j := 9) in_X3 rfl dX3_checksum_12 rfl rfl (Nat.le_of_ble_eq_true rfl) q3066 rfl rfl ?_
  refine g_i2l (v := (dZz D).toInt64) (q := 16) B dX3_checksum_15 rfl rfl ?_
  refine g_ladd (v := 217 + ((dZz D).toInt64)) (q := 17) B dX3_checksum_16 rfl rfl ?_
  refine g_lmul (v := 31 * (217 + ((dZz D).toInt64))) (q := 18) B dX3_checksum_17 rfl rfl ?_
  refine g_aload_n (q := 19) B dX3_checksum_18 rfl rfl (rv_r _) ?_
  refine g_get (q := 22) B (ci := 12) (k := 0) (j := 5) in_X3 rfl dX3_checksum_19 rfl rfl (Nat.le_of_ble_eq_true rfl) q3062 rfl rfl ?_
  obtain ⟨ps_1, md_1, hli_1, hln_1, hel_1⟩ := LhP.at (Sub.self hv5)
  refine g_callV (q := 25) (is := [6]) (kc2 := 10 * (490 + 32 * (dMs D).length)) (ks2 := 10 * (6020 + 80 * (dMs D).length)) B [] (ct_J2_isEmpty_s g J (p := le) (xs := ps_1) (md := md_1) (cap := ecap) (W0 := v5)  (hli_1)) dX3_checksum_22 rfl (rc_in B (ci := 21) rfl (k := 6) rfl (LhP.hm hv5)) rfl q3248 q1130 q3669 q81 q1132 rfl rfl moJ2_isEmpty rfl rfl (by decide) (by decide) (Nat.le_of_ble_eq_true rfl) (by omega) (by omega) (fun _ _ hx => noX_x hx) (fun v22 L1 hp22 => ?_)
  obtain ⟨rfl, rfl⟩ := hp22
  refine (show Go g κ 25 [some (.ref m), none, none, none, none] [.int (nI (if ps_1.length = 0 then 1 else 0)), .long (31 * (217 + ((dZz D).toInt64)))] [[(m, .inr (12, [.ref ls, .ref lb, .ref lk, .ref lp, .ref lr, .ref le, .ref lm, .ref lo, .int (nI 0), .int (dZz D), .int (nI (dBn D)), .int (nI (dCm D))]))], v0, v1, v2, v3, v4, v6, v7, v5] (10 * (490 + 32 * (dMs D).length)) (10 * (6020 + 80 * (dMs D).length)) from ?_)
  rw [hln_1.1]
  refine (show Go g κ 25 [some (.ref m), none, none, none, none] [.int (nI (if (dEs D).length = 0 then 1 else 0)), .long (31 * (217 + ((dZz D).toInt64)))] [[(m, .inr (12, [.ref ls, .ref lb, .ref lk, .ref lp, .ref lr, .ref le, .ref lm, .ref lo, .int (nI 0), .int (dZz D), .int (nI (dBn D)), .int (nI (dCm D))]))], v0, v1, v2, v3, v4, v6, v7, v5] (10 * (490 + 32 * (dMs D).length)) (10 * (6020 + 80 * (dMs D).length)) from ?_)
  have ct44 : Go g κ 44 [some (.ref m), some (.long (ckZM D)), none, none, none] [] [[(m, .inr (12, [.ref ls, .ref lb, .ref lk, .ref lp, .ref lr, .ref le, .ref lm, .ref lo, .int (nI 0), .int (dZz D), .int (nI (dBn D)), .int (nI (dCm D))]))], v0, v1, v2, v3, v4, v6, v7, v5] (10 * (490 + 32 * (dMs D).length)) (10 * (6020 + 80 * (dMs D).length)) := by
    refine g_iconst (v := nI 0) (q := 45) B dX3_checksum_44 rfl (by decide) ?_
    have ct140 : ∀ (s : Int64) , (s = (if dEs D = [] then ckZM D else ckT (dSs D) (eTr Ep) (ckZM D) (2 * 2 ^ (eTr Ep).1 - 1))) → Go g κ 140 [some (.ref m), some (.long s), none, none, none] [] [[(m, .inr (12, [.ref ls, .ref lb, .ref lk, .ref lp, .ref lr, .ref le, .ref lm, .ref lo, .int (nI 0), .int (dZz D), .int (nI (dBn D)), .int (nI (dCm D))]))], v0, v1, v2, v3, v4, v6, v7, v5] (10 * (490 + 32 * (dMs D).length)) (10 * (6020 + 80 * (dMs D).length)) := by
      intro s hs
      refine g_iconst (v := nI 0) (q := 141) B dX3_checksum_140 rfl (by decide) ?_
      refine g_istore_n (q := 142) (lv2 := [some (.ref m), some (.long s), none, some (.int (nI 0)), none]) B dX3_checksum_141 rfl (Nat.le_of_ble_eq_true rfl) rfl ?_
      have lp142 : ∀ (n142 : Nat) (k : Nat) (s : Int64) , (k ≤ (dPs D).length) → (s = ckPM D (if dEs D = [] then ckZM D else ckT (dSs D) (eTr Ep) (ckZM D) (2 * 2 ^ (eTr Ep).1 - 1)) k) → (dPs D).length - k = n142 → Go g κ 142 [some (.ref m), some (.long s), none, some (.int (nI k)), none] [] [[(m, .inr (12, [.ref ls, .ref lb, .ref lk, .ref lp, .ref lr, .ref le, .ref lm, .ref lo, .int (nI 0), .int (dZz D), .int (nI (dBn D)), .int (nI (dCm D))]))], v0, v1, v2, v3, v4, v6, v7, v5] ((10 - k) * (490 + 32 * (dMs D).length)) ((10 - k) * (6020 + 80 * (dMs D).length)) := by
        intro n142
        induction n142 using Nat.strongRecOn with
        | _ n142 ih142 =>
        intro k s  hk hs hmu142
        refine g_iload_n (q := 143) B dX3_checksum_142 rfl rfl ?_
        refine g_aload_n (q := 144) B dX3_checksum_143 rfl rfl (rv_r _) ?_
        refine g_get (q := 147) B (ci := 12) (k := 0) (j := 3) in_X3 rfl dX3_checksum_144 rfl rfl (Nat.le_of_ble_eq_true rfl) q3060 rfl rfl ?_
        obtain ⟨md_2, hli_2, hln_2, hel_2⟩ := LoP.at (Sub.self hv3)
        refine g_callV (q := 150) (is := [4]) (kc2 := (10 - k) * (490 + 32 * (dMs D).length)) (ks2 := (10 - k) * (6020 + 80 * (dMs D).length)) B [] (ct_J2_size_s g J (p := lp) (xs := mps) (md := md_2) (cap := pcap) (W0 := v3)  (hli_2)) dX3_checksum_147 rfl (rc_in B (ci := 21) rfl (k := 4) rfl (LoP.hm hv3)) rfl q3102 q321 q3665 q81 q323 rfl rfl moJ2_size rfl rfl (by decide) (by decide) (Nat.le_of_ble_eq_true rfl) (by omega) (by omega) (fun _ _ hx => noX_x hx) (fun v147 L1 hp147 => ?_)
        obtain ⟨rfl, rfl⟩ := hp147
        refine (show Go g κ 150 [some (.ref m), some (.long s), none, some (.int (nI k)), none] [.int (nI mps.length), .int (nI k)] [[(m, .inr (12, [.ref ls, .ref lb, .ref lk, .ref lp, .ref lr, .ref le, .ref lm, .ref lo, .int (nI 0), .int (dZz D), .int (nI (dBn D)), .int (nI (dCm D))]))], v0, v1, v2, v4, v6, v7, v5, v3] ((10 - k) * (490 + 32 * (dMs D).length)) ((10 - k) * (6020 + 80 * (dMs D).length)) from ?_)
        rw [hln_2.1]
        refine (show Go g κ 150 [some (.ref m), some (.long s), none, some (.int (nI k)), none] [.int (nI ((dPs D).length)), .int (nI k)] [[(m, .inr (12, [.ref ls, .ref lb, .ref lk, .ref lp, .ref lr, .ref le, .ref lm, .ref lo, .int (nI 0), .int (dZz D), .int (nI (dBn D)), .int (nI (dCm D))]))], v0, v1, v2, v4, v6, v7, v5, v3] ((10 - k) * (490 + 32 * (dMs D).length)) ((10 - k) * (6020 + 80 * (dMs D).length)) from ?_)
        refine g_icmp_ge (tgt := 235) (q := 153) B dX3_checksum_150 rfl (by decide) (nI_leI (by omega) (by omega)) (fun c150 => ?_) (fun c150 => ?_)
        · skip
          refine g_lload_n (q := 236) B dX3_checksum_235 rfl rfl ?_
          obtain ⟨wc_3, ewc_3⟩ : ∃ w : va_W, w = ([[(m, .inr (12, [.ref ls, .ref lb, .ref lk, .ref lp, .ref lr, .ref le, .ref lm, .ref lo, .int (nI 0), .int (dZz D), .int (nI (dBn D)), .int (nI (dCm D))]))], v0, v1, v2, v3, v4, v5, v6, v7] : List va_W).flatten := ⟨_, rfl⟩
          have hwc_3 : KdP g m (dT D 0) wc_3 := by
            rw [ewc_3]
            exact ⟨ls, lb, lk, lp, lr, le, lm, lo, kcap, pcap, rcap, ecap, mcap, mks, mps, _, _, _, _, _, _, _, _, hcap, hv0, hv1, hv2, hv3, hv4, hv5, hv6, hv7, rfl⟩
          refine g_close (w := wc_3) [0, 0, 0, 0, 4, 0, 2, 0, 0] rfl ewc_3 rfl ?_
          refine (show Go g κ 236 [some (.ref m), some (.long s), none, some (.int (nI k)), none] [.long s] [wc_3] ((10 - k) * (490 + 32 * (dMs D).length)) ((10 - k) * (6020 + 80 * (dMs D).length)) from ?_)
          exact g_lret B E dX3_checksum_236 (⟨_, by unfold ckSM; rw [← show k = (dPs D).length by omega, ← hs], rfl, hwc_3⟩)
        · skip
          have hm1 := mul_st (M := (490 + 32 * (dMs D).length)) (show k < 10 by omega)
          have hm2 := mul_st (M := (6020 + 80 * (dMs D).length)) (show k < 10 by omega)
          refine g_aload_n (q := 154) B dX3_checksum_153 rfl rfl (rv_r _) ?_
          refine g_get (q := 157) B (ci := 12) (k := 0) (j := 3) in_X3 rfl dX3_checksum_154 rfl rfl (Nat.le_of_ble_eq_true rfl) q3060 rfl rfl ?_
          refine g_iload_n (q := 158) B dX3_checksum_157 rfl rfl ?_
          obtain ⟨r158, hr158⟩ := get_ex (xs := (dPs D)) (i := k) (by omega)
          obtain ⟨x158, hx158⟩ := get_ex (xs := mps) (i := k) (by have := get_lt2 hr158; have := hln_2.1; omega)
          have hE_4 := hel_2 _ _ _ hx158 hr158
          refine g_callV (q := 161) (is := [8]) (kc2 := (10 - k) * (490 + 32 * (dMs D).length)) (ks2 := (10 - k) * (6020 + 80 * (dMs D).length)) B [.int (nI k)] (ct_J2_get_s g J (p := lp) (xs := mps) (md := md_2) (cap := pcap) (i := k) (x := x158) (W0 := v3)  (hli_2) (hx158)) dX3_checksum_158 rfl (rc_in B (ci := 21) rfl (k := 8) rfl (LoP.hm hv3)) rfl q3231 q1095 q3667 q81 q1097 rfl rfl moJ2_get rfl rfl (by decide) (by decide) (Nat.le_of_ble_eq_true rfl) (by omega) (by omega) (fun _ _ hx => noX_x hx) (fun v158 L1 hp158 => ?_)
          obtain ⟨rfl, rfl⟩ := hp158
          refine (show Go g κ 161 [some (.ref m), some (.long s), none, some (.int (nI k)), none] [.ref x158] [[(m, .inr (12, [.ref ls, .ref lb, .ref lk, .ref lp, .ref lr, .ref le, .ref lm, .ref lo, .int (nI 0), .int (dZz D), .int (nI (dBn D)), .int (nI (dCm D))]))], v0, v1, v2, v4, v6, v7, v5, v3] ((10 - k) * (490 + 32 * (dMs D).length)) ((10 - k) * (6020 + 80 * (dMs D).length)) from ?_)
          refine g_castRS (ci := 13) (q := 164) B rfl (rc_in B (ci := 13) rfl (k := 8) rfl (Sub.hm (hE_4) fun _ z => MpP.hm z)) dX3_checksum_161 rfl q3107 ?_
          obtain ⟨nd_5, ch_5, ev_5, cv_5, fn_5, fc_5, hM_5, hfn_5, hoc_5, hcv_5, hc_5_0, hc_5_1, hc_5_2, hs_5_0, hs_5_1⟩ := MpP.at (hE_4)
          refine g_getNM (q := 167) B (ci := 13) (k := 8) (j := 0) in_X5 rfl dX3_checksum_164 rfl rfl (hc_5_0) (Nat.le_of_ble_eq_true rfl) q3118 rfl rfl ?_
          refine g_istore (q := 169) (lv2 := [some (.ref m), some (.long s), none, some (.int (nI k)), some (.int (oI (mEp r158)))]) B dX3_checksum_167 rfl (Nat.le_of_ble_eq_true rfl) rfl ?_
          refine g_ldc2 (q := 172) B dX3_checksum_169 rfl q3643 ?_
          refine g_ldc2 (q := 175) B dX3_checksum_172 rfl q3643 ?_
          refine g_lload_n (q := 176) B dX3_checksum_175 rfl rfl ?_
          refine g_lmul (v := 31 * s) (q := 177) B dX3_checksum_176 rfl rfl ?_
          refine g_aload_n (q := 178) B dX3_checksum_177 rfl rfl (rv_r _) ?_
          refine g_iload_n (q := 179) B dX3_checksum_178 rfl rfl ?_
          obtain ⟨hh1_179, hh2_179, hh3_179, hh4_179, hh5_179⟩ := hi5 _ _ hr158
          refine g_callV (q := 182) (is := [0, 2, 6, 5]) (kc2 := (10 - (k + 1)) * (490 + 32 * (dMs D).length)) (ks2 := (10 - (k + 1)) * (6020 + 80 * (dMs D).length)) B [.int (nI k)] (ct_X3_heldBy g J (m := m) (ls := ls) (lb := lb) (lk := lk) (lp := lp) (lr := lr) (le := le) (lm := lm) (lo := lo) (th := 0) (z := dZz D) (bo := dBn D) (cm := dCm D) (mks := mks) (Ks := (dKs D)) (kcap := kcap) (mps := mps) (Ps := (dPs D)) (pcap := pcap) (Es := (dEs D)) (ecap := ecap) (i := k) (r := r158) (n := (dSs D).length) (Q := (dMs D).length) hv2 hv3 hv5 (hr158) (by have := get_lt2 hr158; omega) (hh1_179) (hh2_179) (hh3_179) (by omega)) dX3_checksum_179 rfl (rc_at B (ci := 12) rfl (k := 0) rfl) rfl q3227 q3229 qs55 q85 q3230 rfl rfl moX3_heldBy rfl rfl (by decide) (by decide) (Nat.le_of_ble_eq_true rfl) (by omega) (by omega) (fun _ _ hx => noX_x hx) (fun v179 L1 hp179 => ?_)
          obtain ⟨p179, vs179, u4_179, rfl, rfl, hu4_179, hm_179, hnd_179, hvl_179⟩ := hp179
          refine (show Go g κ 182 [some (.ref m), some (.long s), none, some (.int (nI k)), some (.int (oI (mEp r158)))] [.ref p179, .long (31 * s), .long 31] [v0, v1, v4, v6, v7, [(m, .inr (12, [.ref ls, .ref lb, .ref lk, .ref lp, .ref lr, .ref le, .ref lm, .ref lo, .int (nI 0), .int (dZz D), .int (nI (dBn D)), .int (nI (dCm D))]))], v2, v3, v5, u4_179] ((10 - (k + 1)) * (490 + 32 * (dMs D).length)) ((10 - (k + 1)) * (6020 + 80 * (dMs D).length)) from ?_)
          have hlc := len_ct (dSs D).length vs179 (heM (dKs D) (dEs D) k r158) hnd_179 (fun x => (hm_179 x).trans heM_i.symm) (fun x hx => hh3_179 x ((hm_179 x).mp hx))
          obtain ⟨ps_6, md_6, hli_6, hln_6, hel_6⟩ := LhP.at (Sub.self hu4_179)
          refine g_callV (q := 185) (is := [9]) (kc2 := (10 - (k + 1)) * (490 + 32 * (dMs D).length)) (ks2 := (10 - (k + 1)) * (6020 + 80 * (dMs D).length)) B [] (ct_J2_size_s g J (p := p179) (xs := ps_6) (md := md_6) (cap := (capF vs179.length)) (W0 := u4_179)  (hli_6)) dX3_checksum_182 rfl (rc_in B (ci := 21) rfl (k := 9) rfl (LhP.hm hu4_179)) rfl q3102 q321 q3665 q81 q323 rfl rfl moJ2_size rfl rfl (by decide) (by decide) (Nat.le_of_ble_eq_true rfl) (by omega) (by omega) (fun _ _ hx => noX_x hx) (fun v182 L1 hp182 => ?_)
          obtain ⟨rfl, rfl⟩ := hp182
          refine (show Go g κ 185 [some (.ref m), some (.long s), none, some (.int (nI k)), some (.int (oI (mEp r158)))] [.int (nI ps_6.length), .long (31 * s), .long 31] [v0, v1, v4, v6, v7, [(m, .inr (12, [.ref ls, .ref lb, .ref lk, .ref lp, .ref lr, .ref le, .ref lm, .ref lo, .int (nI 0), .int (dZz D), .int (nI (dBn D)), .int (nI (dCm D))]))], v2, v3, v5, u4_179] ((10 - (k + 1)) * (490 + 32 * (dMs D).length)) ((10 - (k + 1)) * (6020 + 80 * (dMs D).length)) from ?_)
          rw [hln_6.1]
          refine (show Go g κ 185 [some (.ref m), some (.long s), none, some (.int (nI k)), some (.int (oI (mEp r158)))] [.int (nI vs179.length), .long (31 * s), .long 31] [v0, v1, v4, v6, v7, [(m, .inr (12, [.ref ls, .ref lb, .ref lk, .ref lp, .ref lr, .ref le, .ref lm, .ref lo, .int (nI 0), .int (dZz D), .int (nI (dBn D)), .int (nI (dCm D))]))], v2, v3, v5, u4_179] ((10 - (k + 1)) * (490 + 32 * (dMs D).length)) ((10 - (k + 1)) * (6020 + 80 * (dMs D).length)) from ?_)
          refine g_i2l (v := (nI vs179.length).toInt64) (q := 186) B dX3_checksum_185 rfl rfl ?_
          refine g_ladd (v := (31 * s) + ((nI vs179.length).toInt64)) (q := 187) B dX3_checksum_186 rfl rfl ?_
          refine g_lmul (v := 31 * ((31 * s) + ((nI vs179.length).toInt64))) (q := 188) B dX3_checksum_187 rfl rfl ?_
          refine g_iload (q := 190) B dX3_checksum_188 rfl rfl ?_
          refine g_iconst (v := -1) (q := 191) B dX3_checksum_190 rfl (by decide) ?_
          refine g_icmp_ne (tgt := 198) (q := 194) B dX3_checksum_191 rfl (by decide) (oI_nn ((fun n h => by have := hM_5.1 _ h; omega))) (fun c191 => ?_) (fun c191 => ?_)
          · skip
            obtain ⟨v191, ev191⟩ := Option.ne_none_iff_exists'.mp c191
            refine g_lvs (lv2 := [some (.ref m), some (.long s), none, some (.int (nI k)), some (.int (nI v191))]) (st2 := [.long (31 * ((31 * s) + ((nI vs179.length).toInt64)))]) (by rw [(show oI (mEp r158) = nI v191 from by rw [ev191]; rfl)]) (by first | rfl | rw [(show oI (mEp r158) = nI v191 from by rw [ev191]; rfl)]) ?_
            have hel9 := hh1_179 _ ev191
            obtain ⟨E7, hE7⟩ := get_ex (xs := dEs D) (i := v191) hel9
            have hky7 := hekl _ (List.mem_of_getElem? hE7)
            refine g_aload_n (q := 199) B dX3_checksum_198 rfl rfl (rv_r _) ?_
            refine g_get (q := 202) B (ci := 12) (k := 5) (j := 0) in_X3 rfl dX3_checksum_199 rfl rfl (Nat.le_of_ble_eq_true rfl) q3057 rfl rfl ?_
            refine g_aload_n (q := 203) B dX3_checksum_202 rfl rfl (rv_r _) ?_
            refine g_get (q := 206) B (ci := 12) (k := 5) (j := 5) in_X3 rfl dX3_checksum_203 rfl rfl (Nat.le_of_ble_eq_true rfl) q3062 rfl rfl ?_
            refine g_iload (q := 208) B dX3_checksum_206 rfl rfl ?_
            obtain ⟨x208, hx208⟩ := get_ex (xs := ps_1) (i := v191) (by have := get_lt2 (show (dEs D)[v191]? = some E7 from hE7); have := hln_1.1; omega)
            have hE_7 := hel_1 _ _ _ hx208 (show (dEs D)[v191]? = some E7 from hE7)
            refine g_callV (q := 211) (is := [8]) (kc2 := (10 - (k + 1)) * (490 + 32 * (dMs D).length)) (ks2 := (10 - (k + 1)) * (6020 + 80 * (dMs D).length)) B [.int (nI v191)] (ct_J2_get_s g J (p := le) (xs := ps_1) (md := md_1) (cap := ecap) (i := v191) (x := x208) (W0 := v5)  (hli_1) (hx208)) dX3_checksum_208 rfl (rc_in B (ci := 21) rfl (k := 8) rfl (LhP.hm hv5)) rfl q3231 q1095 q3667 q81 q1097 rfl rfl moJ2_get rfl rfl (by decide) (by decide) (Nat.le_of_ble_eq_true rfl) (by omega) (by omega) (fun _ _ hx => noX_x hx) (fun v208 L1 hp208 => ?_)
            obtain ⟨rfl, rfl⟩ := hp208
            refine (show Go g κ 211 [some (.ref m), some (.long s), none, some (.int (nI k)), some (.int (nI v191))] [.ref x208, .ref ls, .long (31 * ((31 * s) + ((nI vs179.length).toInt64)))] [v0, v1, v4, v6, v7, [(m, .inr (12, [.ref ls, .ref lb, .ref lk, .ref lp, .ref lr, .ref le, .ref lm, .ref lo, .int (nI 0), .int (dZz D), .int (nI (dBn D)), .int (nI (dCm D))]))], v2, v3, u4_179, v5] ((10 - (k + 1)) * (490 + 32 * (dMs D).length)) ((10 - (k + 1)) * (6020 + 80 * (dMs D).length)) from ?_)
            refine g_castRS (ci := 16) (q := 214) B rfl (rc_in B (ci := 16) rfl (k := 9) rfl (Sub.hm (hE_7) fun _ z => EpP.hm z)) dX3_checksum_211 rfl q3243 ?_
            obtain ⟨ap_8, an_8, al_8, ac_8, aw_8, am_8, ak_8, fp_8, fn_8, fl_8, fc_8, fw_8, fm_8, fk_8, hE_8, hfp_8, hfn_8, hfl_8, hfc_8, hfw_8, hfm_8, hfk_8, hc_8_0, hc_8_1, hc_8_2, hc_8_3, hc_8_4, hc_8_5, hc_8_6, hc_8_7⟩ := EpP.at (hE_7)
            refine g_getNM (q := 217) B (ci := 16) (k := 9) (j := 3) in_X13 rfl dX3_checksum_214 rfl rfl (hc_8_0) (Nat.le_of_ble_eq_true rfl) q3259 rfl rfl ?_
            obtain ⟨ps_9, md_9, hli_9, hln_9, hel_9⟩ := LhP.at (Sub.self hv0)
            obtain ⟨r217, hr217⟩ := get_ex (xs := (dSs D)) (i := eKy E7) (by omega)
            obtain ⟨x217, hx217⟩ := get_ex (xs := ps_9) (i := eKy E7) (by have := get_lt2 hr217; have := hln_9.1; omega)
            have hE_10 := hel_9 _ _ _ hx217 hr217
            refine g_callV (q := 220) (is := [0]) (kc2 := (10 - (k + 1)) * (490 + 32 * (dMs D).length)) (ks2 := (10 - (k + 1)) * (6020 + 80 * (dMs D).length)) B [.int (nI (eKy E7))] (ct_J2_get_s g J (p := ls) (xs := ps_9) (md := md_9) (cap := (capF (dSs D).length)) (i := eKy E7) (x := x217) (W0 := v0)  (hli_9) (hx217)) dX3_checksum_217 rfl (rc_in B (ci := 21) rfl (k := 0) rfl (LhP.hm hv0)) rfl q3231 q1095 q3667 q81 q1097 rfl rfl moJ2_get rfl rfl (by decide) (by decide) (Nat.le_of_ble_eq_true rfl) (by omega) (by omega) (fun _ _ hx => noX_x hx) (fun v217 L1 hp217 => ?_)
            obtain ⟨rfl, rfl⟩ := hp217
            refine (show Go g κ 220 [some (.ref m), some (.long s), none, some (.int (nI k)), some (.int (nI v191))] [.ref x217, .long (31 * ((31 * s) + ((nI vs179.length).toInt64)))] [v1, v4, v6, v7, [(m, .inr (12, [.ref ls, .ref lb, .ref lk, .ref lp, .ref lr, .ref le, .ref lm, .ref lo, .int (nI 0), .int (dZz D), .int (nI (dBn D)), .int (nI (dCm D))]))], v2, v3, u4_179, v5, v0] ((10 - (k + 1)) * (490 + 32 * (dMs D).length)) ((10 - (k + 1)) * (6020 + 80 * (dMs D).length)) from ?_)
            refine g_castRS (ci := 14) (q := 223) B rfl (rc_in B (ci := 14) rfl (k := 9) rfl (Sub.hm (hE_10) fun _ z => SecP.hm z)) dX3_checksum_220 rfl q3175 ?_
            obtain ⟨hS_11, hc_11_0⟩ := SecP.at (hE_10)
            refine g_getNM (q := 226) B (ci := 14) (k := 9) (j := 0) in_X8 rfl dX3_checksum_223 rfl rfl (hc_11_0) (Nat.le_of_ble_eq_true rfl) q3182 rfl rfl ?_
            refine g_i2l (v := (vl (dSs D) (eKy E7)).toInt64) (q := 227) B dX3_checksum_226 rfl (by rw [vl_eq hr217]) ?_
            refine g_ladd (v := (31 * ((31 * s) + ((nI vs179.length).toInt64))) + ((vl (dSs D) (eKy E7)).toInt64)) (q := 228) B dX3_checksum_227 rfl rfl ?_
            refine g_lstore_n (q := 229) (lv2 := [some (.ref m), some (.long ((31 * ((31 * s) + ((nI vs179.length).toInt64))) + ((vl (dSs D) (eKy E7)).toInt64))), none, some (.int (nI k)), some (.int (nI v191))]) B dX3_checksum_228 rfl (Nat.le_of_ble_eq_true rfl) rfl ?_
            refine g_iinc (v := nI (k + 1)) (q := 232) (lv2 := [some (.ref m), some (.long ((31 * ((31 * s) + ((nI vs179.length).toInt64))) + ((vl (dSs D) (eKy E7)).toInt64))), none, some (.int (nI (k + 1))), some (.int (nI v191))]) B dX3_checksum_229 rfl rfl (nI_add _ 1) (Nat.le_of_ble_eq_true rfl) rfl ?_
            refine g_goto (tgt := 142) B dX3_checksum_232 (by decide) ?_
            refine g_fg 4 rfl ?_
            refine g_pk [4, 8, 0, 3, 3, 0, 0, 0, 1] rfl rfl ?_
            refine (show Go g κ 142 [some (.ref m), some (.long ((31 * ((31 * s) + ((nI vs179.length).toInt64))) + ((vl (dSs D) (eKy E7)).toInt64))), none, some (.int (nI (k + 1))), none] [] [[(m, .inr (12, [.ref ls, .ref lb, .ref lk, .ref lp, .ref lr, .ref le, .ref lm, .ref lo, .int (nI 0), .int (dZz D), .int (nI (dBn D)), .int (nI (dCm D))]))], v0, v1, v2, v3, v4, v6, v7, v5] ((10 - (k + 1)) * (490 + 32 * (dMs D).length)) ((10 - (k + 1)) * (6020 + 80 * (dMs D).length)) from ?_)
            exact ih142 _ (by omega) (k + 1) ((31 * ((31 * s) + ((nI vs179.length).toInt64))) + ((vl (dSs D) (eKy E7)).toInt64)) (by omega) (by rw [ckPM_s hr158, ← hs]; unfold ck2; rw [ckRM_y ev191 hE7]; rw [hlc]; rfl) rfl
          · skip
            have c191 := Classical.not_not.mp c191
            refine g_lvs (lv2 := [some (.ref m), some (.long s), none, some (.int (nI k)), some (.int (-1))]) (st2 := [.long (31 * ((31 * s) + ((nI vs179.length).toInt64)))]) (by rw [(show oI (mEp r158) = -1 from by rw [c191]; rfl)]) (by first | rfl | rw [(show oI (mEp r158) = -1 from by rw [c191]; rfl)]) ?_
            refine g_iconst (v := nI 0) (q := 195) B dX3_checksum_194 rfl (by decide) ?_
            refine g_goto (tgt := 226) B dX3_checksum_195 (by decide) ?_
            refine g_i2l (v := (nI 0).toInt64) (q := 227) B dX3_checksum_226 rfl rfl ?_
            refine g_ladd (v := (31 * ((31 * s) + ((nI vs179.length).toInt64))) + ((nI 0).toInt64)) (q := 228) B dX3_checksum_227 rfl rfl ?_
            refine g_lstore_n (q := 229) (lv2 := [some (.ref m), some (.long ((31 * ((31 * s) + ((nI vs179.length).toInt64))) + ((nI 0).toInt64))), none, some (.int (nI k)), some (.int (-1))]) B dX3_checksum_228 rfl (Nat.le_of_ble_eq_true rfl) rfl ?_
            refine g_iinc (v := nI (k + 1)) (q := 232) (lv2 := [some (.ref m), some (.long ((31 * ((31 * s) + ((nI vs179.length).toInt64))) + ((nI 0).toInt64))), none, some (.int (nI (k + 1))), some (.int (-1))]) B dX3_checksum_229 rfl rfl (nI_add _ 1) (Nat.le_of_ble_eq_true rfl) rfl ?_
            refine g_goto (tgt := 142) B dX3_checksum_232 (by decide) ?_
            refine g_fg 4 rfl ?_
            refine g_pk [5, 0, 0, 3, 3, 0, 0, 0, 0] rfl rfl ?_
            refine (show Go g κ 142 [some (.ref m), some (.long ((31 * ((31 * s) + ((nI vs179.length).toInt64))) + ((nI 0).toInt64))), none, some (.int (nI (k + 1))), none] [] [[(m, .inr (12, [.ref ls, .ref lb, .ref lk, .ref lp, .ref lr, .ref le, .ref lm, .ref lo, .int (nI 0), .int (dZz D), .int (nI (dBn D)), .int (nI (dCm D))]))], v0, v1, v2, v3, v4, v6, v7, v5] ((10 - (k + 1)) * (490 + 32 * (dMs D).length)) ((10 - (k + 1)) * (6020 + 80 * (dMs D).length)) from ?_)
            exact ih142 _ (by omega) (k + 1) ((31 * ((31 * s) + ((nI vs179.length).toInt64))) + ((nI 0).toInt64)) (by omega) (by rw [ckPM_s hr158, ← hs]; unfold ck2; rw [ckRM_n c191]; rw [hlc]; rfl) rfl
      refine g_room (kc2 := (10 - 0) * (490 + 32 * (dMs D).length)) (ks2 := (10 - 0) * (6020 + 80 * (dMs D).length)) (by omega) (by omega) ?_
      exact lp142 _ 0 s (Nat.zero_le _) (hs) rfl
    refine g_istore_n (q := 46) (lv2 := [some (.ref m), some (.long (ckZM D)), none, some (.int (nI 0)), none]) B dX3_checksum_45 rfl (Nat.le_of_ble_eq_true rfl) rfl ?_
    have lp46 : ∀ (n46 : Nat) (k : Nat) (s : Int64) , (s = ckT (dSs D) (eTr Ep) (ckZM D) k) → (dEs D = [] → k = 0) → (dEs D ≠ [] → k ≤ 2 * 2 ^ (eTr Ep).1 - 1) → 31 - k = n46 → Go g κ 46 [some (.ref m), some (.long s), none, some (.int (nI k)), none] [] [[(m, .inr (12, [.ref ls, .ref lb, .ref lk, .ref lp, .ref lr, .ref le, .ref lm, .ref lo, .int (nI 0), .int (dZz D), .int (nI (dBn D)), .int (nI (dCm D))]))], v0, v1, v2, v3, v4, v6, v7, v5] (10 * (490 + 32 * (dMs D).length)) (10 * (6020 + 80 * (dMs D).length)) := by
      intro n46
      induction n46 using Nat.strongRecOn with
      | _ n46 ih46 =>
      intro k s  hs hk0 hkn hmu46
      refine g_aload_n (q := 47) B dX3_checksum_46 rfl rfl (rv_r _) ?_
      refine g_get (q := 50) B (ci := 12) (k := 0) (j := 5) in_X3 rfl dX3_checksum_47 rfl rfl (Nat.le_of_ble_eq_true rfl) q3062 rfl rfl ?_
      refine g_callV (q := 53) (is := [8]) (kc2 := 10 * (490 + 32 * (dMs D).length)) (ks2 := 10 * (6020 + 80 * (dMs D).length)) B [] (ct_J2_isEmpty_s g J (p := le) (xs := ps_1) (md := md_1) (cap := ecap) (W0 := v5)  (hli_1)) dX3_checksum_50 rfl (rc_in B (ci := 21) rfl (k := 8) rfl (LhP.hm hv5)) rfl q3248 q1130 q3669 q81 q1132 rfl rfl moJ2_isEmpty rfl rfl (by decide) (by decide) (Nat.le_of_ble_eq_true rfl) (by omega) (by omega) (fun _ _ hx => noX_x hx) (fun v50 L1 hp50 => ?_)
      obtain ⟨rfl, rfl⟩ := hp50
      refine (show Go g κ 53 [some (.ref m), some (.long s), none, some (.int (nI k)), none] [.int (nI (if ps_1.length = 0 then 1 else 0))] [[(m, .inr (12, [.ref ls, .ref lb, .ref lk, .ref lp, .ref lr, .ref le, .ref lm, .ref lo, .int (nI 0), .int (dZz D), .int (nI (dBn D)), .int (nI (dCm D))]))], v0, v1, v2, v3, v4, v6, v7, v5] (10 * (490 + 32 * (dMs D).length)) (10 * (6020 + 80 * (dMs D).length)) from ?_)
      rw [hln_1.1]
      refine (show Go g κ 53 [some (.ref m), some (.long s), none, some (.int (nI k)), none] [.int (nI (if (dEs D).length = 0 then 1 else 0))] [[(m, .inr (12, [.ref ls, .ref lb, .ref lk, .ref lp, .ref lr, .ref le, .ref lm, .ref lo, .int (nI 0), .int (dZz D), .int (nI (dBn D)), .int (nI (dCm D))]))], v0, v1, v2, v3, v4, v6, v7, v5] (10 * (490 + 32 * (dMs D).length)) (10 * (6020 + 80 * (dMs D).length)) from ?_)
      refine g_if_ne (tgt := 140) (q := 56) B dX3_checksum_53 rfl (by decide) (bo_ne) (fun c53 => ?_) (fun c53 => ?_)
      · skip
        refine g_fg 3 rfl ?_
        exact ct140 s (by rw [hs, if_pos (List.length_eq_zero_iff.mp c53), hk0 (List.length_eq_zero_iff.mp c53)]; rfl)
      · skip
        have hne : dEs D ≠ [] := fun z => c53 (by rw [z]; rfl)
        have hkn9 := hkn hne
        refine g_iload_n (q := 57) B dX3_checksum_56 rfl rfl ?_
        refine g_aload_n (q := 58) B dX3_checksum_57 rfl rfl (rv_r _) ?_
        refine g_callV (q := 61) (is := [0, 7]) (kc2 := 10 * (490 + 32 * (dMs D).length)) (ks2 := 10 * (6020 + 80 * (dMs D).length)) B [] (ct_X3_newest g J (m := m) (ls := ls) (lb := lb) (lk := lk) (lp := lp) (lr := lr) (le := le) (lm := lm) (lo := lo) (th := 0) (z := dZz D) (bo := dBn D) (cm := dCm D) (Es := (dEs D)) (ecap := ecap) (Ep := Ep) hv5 (hT hne) (by omega)) dX3_checksum_58 rfl (rc_at B (ci := 12) rfl (k := 0) rfl) rfl q3374 q3376 qs63 q85 q3377 rfl rfl moX3_newest rfl rfl (by decide) (by decide) (Nat.le_of_ble_eq_true rfl) (by omega) (by omega) (fun _ _ hx => noX_x hx) (fun v58 L1 hp58 => ?_)
        obtain ⟨e58, rfl, rfl, hE_58⟩ := hp58
        refine (show Go g κ 61 [some (.ref m), some (.long s), none, some (.int (nI k)), none] [.ref e58, .int (nI k)] [v0, v1, v2, v3, v4, v6, v7, [(m, .inr (12, [.ref ls, .ref lb, .ref lk, .ref lp, .ref lr, .ref le, .ref lm, .ref lo, .int (nI 0), .int (dZz D), .int (nI (dBn D)), .int (nI (dCm D))]))], v5] (10 * (490 + 32 * (dMs D).length)) (10 * (6020 + 80 * (dMs D).length)) from ?_)
        have hEB58 := EpP.b2 hE_58
        have hTB58 := hEB58.2.1
        have hp258 := p2_4 hTB58.1
        refine g_callV (q := 64) (is := [8]) (kc2 := 10 * (490 + 32 * (dMs D).length)) (ks2 := 10 * (6020 + 80 * (dMs D).length)) B [] (ct_X13_nodes_s g J (e := e58) (r := Ep) (W0 := v5)  (hE_58)) dX3_checksum_61 rfl (rc_in B (ci := 16) rfl (k := 8) rfl (Sub.hm (hE_58) fun _ z => EpP.hm z)) rfl q3434 q3435 q3436 q137 q3437 rfl rfl moX13_nodes rfl rfl (by decide) (by decide) (Nat.le_of_ble_eq_true rfl) (by omega) (by omega) (fun _ _ hx => noX_x hx) (fun v61 L1 hp61 => ?_)
        obtain ⟨rfl, rfl⟩ := hp61
        refine (show Go g κ 64 [some (.ref m), some (.long s), none, some (.int (nI k)), none] [.int (nI (2 * 2 ^ (eTr Ep).1 - 1)), .int (nI k)] [v0, v1, v2, v3, v4, v6, v7, [(m, .inr (12, [.ref ls, .ref lb, .ref lk, .ref lp, .ref lr, .ref le, .ref lm, .ref lo, .int (nI 0), .int (dZz D), .int (nI (dBn D)), .int (nI (dCm D))]))], v5] (10 * (490 + 32 * (dMs D).length)) (10 * (6020 + 80 * (dMs D).length)) from ?_)
        refine g_icmp_ge (tgt := 140) (q := 67) B dX3_checksum_64 rfl (by decide) (nI_leI (by omega) (by omega)) (fun c64 => ?_) (fun c64 => ?_)
        · skip
          refine g_fg 3 rfl ?_
          refine g_pk [7, 0, 0, 0, 0, 0, 0, 0, 0] rfl rfl ?_
          refine (show Go g κ 140 [some (.ref m), some (.long s), none, none, none] [] [[(m, .inr (12, [.ref ls, .ref lb, .ref lk, .ref lp, .ref lr, .ref le, .ref lm, .ref lo, .int (nI 0), .int (dZz D), .int (nI (dBn D)), .int (nI (dCm D))]))], v0, v1, v2, v3, v4, v6, v7, v5] (10 * (490 + 32 * (dMs D).length)) (10 * (6020 + 80 * (dMs D).length)) from ?_)
          exact ct140 s (by rw [hs, if_neg hne, show k = 2 * 2 ^ (eTr Ep).1 - 1 by have := hkn hne; omega])
        · skip
          refine g_aload_n (q := 68) B dX3_checksum_67 rfl rfl (rv_r _) ?_
          refine g_callV (q := 71) (is := [7, 7]) (kc2 := 10 * (490 + 32 * (dMs D).length)) (ks2 := 10 * (6020 + 80 * (dMs D).length)) B [] (ct_X3_newest g J (m := m) (ls := ls) (lb := lb) (lk := lk) (lp := lp) (lr := lr) (le := le) (lm := lm) (lo := lo) (th := 0) (z := (dZz D)) (bo := (dBn D)) (cm := (dCm D)) (Es := (dEs D)) (ecap := ecap) (Ep := Ep) hv5 (hT hne) (by omega)) dX3_checksum_68 rfl (rc_at B (ci := 12) rfl (k := 7) rfl) rfl q3374 q3376 qs63 q85 q3377 rfl rfl moX3_newest rfl rfl (by decide) (by decide) (Nat.le_of_ble_eq_true rfl) (by omega) (by omega) (fun _ _ hx => noX_x hx) (fun v68 L1 hp68 => ?_)
          obtain ⟨e68, rfl, rfl, hE_68⟩ := hp68
          refine (show Go g κ 71 [some (.ref m), some (.long s), none, some (.int (nI k)), none] [.ref e68] [v0, v1, v2, v3, v4, v6, v7, [(m, .inr (12, [.ref ls, .ref lb, .ref lk, .ref lp, .ref lr, .ref le, .ref lm, .ref lo, .int (nI 0), .int (dZz D), .int (nI (dBn D)), .int (nI (dCm D))]))], v5] (10 * (490 + 32 * (dMs D).length)) (10 * (6020 + 80 * (dMs D).length)) from ?_)
          have hEB68 := EpP.b2 hE_68
          have hTB68 := hEB68.2.1
          have hp268 := p2_4 hTB68.1
          obtain ⟨ap_12, an_12, al_12, ac_12, aw_12, am_12, ak_12, fp_12, fn_12, fl_12, fc_12, fw_12, fm_12, fk_12, hE_12, hfp_12, hfn_12, hfl_12, hfc_12, hfw_12, hfm_12, hfk_12, hc_12_0, hc_12_1, hc_12_2, hc_12_3, hc_12_4, hc_12_5, hc_12_6, hc_12_7⟩ := EpP.at (hE_68)
          refine g_getNM (q := 74) B (ci := 16) (k := 8) (j := 5) in_X13 rfl dX3_checksum_71 rfl rfl (hc_12_0) (Nat.le_of_ble_eq_true rfl) q3263 rfl rfl ?_
          refine g_iload_n (q := 75) B dX3_checksum_74 rfl rfl ?_
          refine g_ialdM (v := oI (((eTr Ep).2.1) k)) (q := 76) B (k := 8) dX3_checksum_75 rfl rfl (hc_12_2) (vp_in_nI (by omega) (by omega)) (by rw [nI_clamp (by omega)]; exact hfn_12 _ (by omega)) ?_
          refine g_iconst (v := -1) (q := 77) B dX3_checksum_76 rfl (by decide) ?_
          refine g_icmp_ne (tgt := 89) (q := 80) B dX3_checksum_77 rfl (by decide) (oI_nn ((fun n h => by have := hE_12.2.1.2.1 _ _ h; omega))) (fun c77 => ?_) (fun c77 => ?_)
          · skip
            obtain ⟨v77, ev77⟩ := Option.ne_none_iff_exists'.mp c77
            have hsxb := hsb _ _ hne ev77
            refine g_ldc2 (q := 92) B dX3_checksum_89 rfl q3643 ?_
            refine g_ldc2 (q := 95) B dX3_checksum_92 rfl q3643 ?_
            refine g_lload_n (q := 96) B dX3_checksum_95 rfl rfl ?_
            refine g_lmul (v := 31 * s) (q := 97) B dX3_checksum_96 rfl rfl ?_
            refine g_aload_n (q := 98) B dX3_checksum_97 rfl rfl (rv_r _) ?_
            refine g_get (q := 101) B (ci := 12) (k := 7) (j := 0) in_X3 rfl dX3_checksum_98 rfl rfl (Nat.le_of_ble_eq_true rfl) q3057 rfl rfl ?_
            refine g_aload_n (q := 102) B dX3_checksum_101 rfl rfl (rv_r _) ?_
            refine g_callV (q := 105) (is := [7, 7]) (kc2 := 10 * (490 + 32 * (dMs D).length)) (ks2 := 10 * (6020 + 80 * (dMs D).length)) B [] (ct_X3_newest g J (m := m) (ls := ls) (lb := lb) (lk := lk) (lp := lp) (lr := lr) (le := le) (lm := lm) (lo := lo) (th := 0) (z := (dZz D)) (bo := (dBn D)) (cm := (dCm D)) (Es := (dEs D)) (ecap := ecap) (Ep := Ep) hv5 (hT hne) (by omega)) dX3_checksum_102 rfl (rc_at B (ci := 12) rfl (k := 7) rfl) rfl q3374 q3376 qs63 q85 q3377 rfl rfl moX3_newest rfl rfl (by decide) (by decide) (Nat.le_of_ble_eq_true rfl) (by omega) (by omega) (fun _ _ hx => noX_x hx) (fun v102 L1 hp102 => ?_)
            obtain ⟨e102, rfl, rfl, hE_102⟩ := hp102
            refine (show Go g κ 105 [some (.ref m), some (.long s), none, some (.int (nI k)), none] [.ref e102, .ref ls, .long (31 * s), .long 31] [v0, v1, v2, v3, v4, v6, v7, [(m, .inr (12, [.ref ls, .ref lb, .ref lk, .ref lp, .ref lr, .ref le, .ref lm, .ref lo, .int (nI 0), .int (dZz D), .int (nI (dBn D)), .int (nI (dCm D))]))], v5] (10 * (490 + 32 * (dMs D).length)) (10 * (6020 + 80 * (dMs D).length)) from ?_)
            have hEB102 := EpP.b2 hE_102
            have hTB102 := hEB102.2.1
            have hp2102 := p2_4 hTB102.1
            obtain ⟨ap_13, an_13, al_13, ac_13, aw_13, am_13, ak_13, fp_13, fn_13, fl_13, fc_13, fw_13, fm_13, fk_13, hE_13, hfp_13, hfn_13, hfl_13, hfc_13, hfw_13, hfm_13, hfk_13, hc_13_0, hc_13_1, hc_13_2, hc_13_3, hc_13_4, hc_13_5, hc_13_6, hc_13_7⟩ := EpP.at (hE_102)
            refine g_getNM (q := 108) B (ci := 16) (k := 8) (j := 5) in_X13 rfl dX3_checksum_105 rfl rfl (hc_13_0) (Nat.le_of_ble_eq_true rfl) q3263 rfl rfl ?_
            refine g_iload_n (q := 109) B dX3_checksum_108 rfl rfl ?_
            refine g_ialdM (v := oI (((eTr Ep).2.1) k)) (q := 110) B (k := 8) dX3_checksum_109 rfl rfl (hc_13_2) (vp_in_nI (by omega) (by omega)) (by rw [nI_clamp (by omega)]; exact hfn_13 _ (by omega)) ?_
            refine g_stk (y := .int (nI v77)) (by rw [ev77]; rfl) ?_
            obtain ⟨ps_14, md_14, hli_14, hln_14, hel_14⟩ := LhP.at (Sub.self hv0)
            obtain ⟨r110, hr110⟩ := get_ex (xs := (dSs D)) (i := v77) (by omega)
            obtain ⟨x110, hx110⟩ := get_ex (xs := ps_14) (i := v77) (by have := get_lt2 hr110; have := hln_14.1; omega)
            have hE_15 := hel_14 _ _ _ hx110 hr110
            refine g_callV (q := 113) (is := [0]) (kc2 := 10 * (490 + 32 * (dMs D).length)) (ks2 := 10 * (6020 + 80 * (dMs D).length)) B [.int (nI v77)] (ct_J2_get_s g J (p := ls) (xs := ps_14) (md := md_14) (cap := (capF (dSs D).length)) (i := v77) (x := x110) (W0 := v0)  (hli_14) (hx110)) dX3_checksum_110 rfl (rc_in B (ci := 21) rfl (k := 0) rfl (LhP.hm hv0)) rfl q3231 q1095 q3667 q81 q1097 rfl rfl moJ2_get rfl rfl (by decide) (by decide) (Nat.le_of_ble_eq_true rfl) (by omega) (by omega) (fun _ _ hx => noX_x hx) (fun v110 L1 hp110 => ?_)
            obtain ⟨rfl, rfl⟩ := hp110
            refine (show Go g κ 113 [some (.ref m), some (.long s), none, some (.int (nI k)), none] [.ref x110, .long (31 * s), .long 31] [v1, v2, v3, v4, v6, v7, [(m, .inr (12, [.ref ls, .ref lb, .ref lk, .ref lp, .ref lr, .ref le, .ref lm, .ref lo, .int (nI 0), .int (dZz D), .int (nI (dBn D)), .int (nI (dCm D))]))], v5, v0] (10 * (490 + 32 * (dMs D).length)) (10 * (6020 + 80 * (dMs D).length)) from ?_)
            refine g_castRS (ci := 14) (q := 116) B rfl (rc_in B (ci := 14) rfl (k := 8) rfl (Sub.hm (hE_15) fun _ z => SecP.hm z)) dX3_checksum_113 rfl q3175 ?_
            obtain ⟨hS_16, hc_16_0⟩ := SecP.at (hE_15)
            refine g_getNM (q := 119) B (ci := 14) (k := 8) (j := 0) in_X8 rfl dX3_checksum_116 rfl rfl (hc_16_0) (Nat.le_of_ble_eq_true rfl) q3182 rfl rfl ?_
            refine g_i2l (v := r110.1.toInt64) (q := 120) B dX3_checksum_119 rfl rfl ?_
            refine g_ladd (v := (31 * s) + r110.1.toInt64) (q := 121) B dX3_checksum_120 rfl rfl ?_
            refine g_lmul (v := 31 * ((31 * s) + r110.1.toInt64)) (q := 122) B dX3_checksum_121 rfl rfl ?_
            refine g_aload_n (q := 123) B dX3_checksum_122 rfl rfl (rv_r _) ?_
            refine g_callV (q := 126) (is := [6, 6]) (kc2 := 10 * (490 + 32 * (dMs D).length)) (ks2 := 10 * (6020 + 80 * (dMs D).length)) B [] (ct_X3_newest g J (m := m) (ls := ls) (lb := lb) (lk := lk) (lp := lp) (lr := lr) (le := le) (lm := lm) (lo := lo) (th := 0) (z := (dZz D)) (bo := (dBn D)) (cm := (dCm D)) (Es := (dEs D)) (ecap := ecap) (Ep := Ep) hv5 (hT hne) (by omega)) dX3_checksum_123 rfl (rc_at B (ci := 12) rfl (k := 6) rfl) rfl q3374 q3376 qs63 q85 q3377 rfl rfl moX3_newest rfl rfl (by decide) (by decide) (Nat.le_of_ble_eq_true rfl) (by omega) (by omega) (fun _ _ hx => noX_x hx) (fun v123 L1 hp123 => ?_)
            obtain ⟨e123, rfl, rfl, hE_123⟩ := hp123
            refine (show Go g κ 126 [some (.ref m), some (.long s), none, some (.int (nI k)), none] [.ref e123, .long (31 * ((31 * s) + r110.1.toInt64))] [v1, v2, v3, v4, v6, v7, v0, [(m, .inr (12, [.ref ls, .ref lb, .ref lk, .ref lp, .ref lr, .ref le, .ref lm, .ref lo, .int (nI 0), .int (dZz D), .int (nI (dBn D)), .int (nI (dCm D))]))], v5] (10 * (490 + 32 * (dMs D).length)) (10 * (6020 + 80 * (dMs D).length)) from ?_)
            have hEB123 := EpP.b2 hE_123
            have hTB123 := hEB123.2.1
            have hp2123 := p2_4 hTB123.1
            obtain ⟨ap_17, an_17, al_17, ac_17, aw_17, am_17, ak_17, fp_17, fn_17, fl_17, fc_17, fw_17, fm_17, fk_17, hE_17, hfp_17, hfn_17, hfl_17, hfc_17, hfw_17, hfm_17, hfk_17, hc_17_0, hc_17_1, hc_17_2, hc_17_3, hc_17_4, hc_17_5, hc_17_6, hc_17_7⟩ := EpP.at (hE_123)
            refine g_getNM (q := 129) B (ci := 16) (k := 8) (j := 6) in_X13 rfl dX3_checksum_126 rfl rfl (hc_17_0) (Nat.le_of_ble_eq_true rfl) q3265 rfl rfl ?_
            refine g_iload_n (q := 130) B dX3_checksum_129 rfl rfl ?_
            refine g_ialdM (v := nI (((eTr Ep).2.2.1) k)) (q := 131) B (k := 8) dX3_checksum_130 rfl rfl (hc_17_3) (vp_in_nI (by omega) (by omega)) (by rw [nI_clamp (by omega)]; exact hfl_17 _ (by omega)) ?_
            refine g_i2l (v := (nI (((eTr Ep).2.2.1) k)).toInt64) (q := 132) B dX3_checksum_131 rfl rfl ?_
            refine g_ladd (v := (31 * ((31 * s) + r110.1.toInt64)) + ((nI (((eTr Ep).2.2.1) k)).toInt64)) (q := 133) B dX3_checksum_132 rfl rfl ?_
            refine g_lstore_n (q := 134) (lv2 := [some (.ref m), some (.long ((31 * ((31 * s) + r110.1.toInt64)) + ((nI (((eTr Ep).2.2.1) k)).toInt64))), none, some (.int (nI k)), none]) B dX3_checksum_133 rfl (Nat.le_of_ble_eq_true rfl) rfl ?_
            refine g_iinc (v := nI (k + 1)) (q := 137) (lv2 := [some (.ref m), some (.long ((31 * ((31 * s) + r110.1.toInt64)) + ((nI (((eTr Ep).2.2.1) k)).toInt64))), none, some (.int (nI (k + 1))), none]) B dX3_checksum_134 rfl rfl (nI_add _ 1) (Nat.le_of_ble_eq_true rfl) rfl ?_
            refine g_goto (tgt := 46) B dX3_checksum_137 (by decide) ?_
            refine g_pk [7, 6, 0, 0, 0, 0, 0, 0, 0] rfl rfl ?_
            refine (show Go g κ 46 [some (.ref m), some (.long ((31 * ((31 * s) + r110.1.toInt64)) + ((nI (((eTr Ep).2.2.1) k)).toInt64))), none, some (.int (nI (k + 1))), none] [] [[(m, .inr (12, [.ref ls, .ref lb, .ref lk, .ref lp, .ref lr, .ref le, .ref lm, .ref lo, .int (nI 0), .int (dZz D), .int (nI (dBn D)), .int (nI (dCm D))]))], v0, v1, v2, v3, v4, v6, v7, v5] (10 * (490 + 32 * (dMs D).length)) (10 * (6020 + 80 * (dMs D).length)) from ?_)
            exact ih46 _ (by omega) (k + 1) ((31 * ((31 * s) + r110.1.toInt64)) + ((nI (((eTr Ep).2.2.1) k)).toInt64)) (by show _ = ck1 (dSs D) (eTr Ep) k (ckT (dSs D) (eTr Ep) (ckZM D) k); rw [← hs]; rw [ck1_s ev77, vl_eq hr110]) (fun z => absurd z hne) (fun _ => by omega) rfl
          · skip
            have c77 := Classical.not_not.mp c77
            refine g_ldc2 (q := 83) B dX3_checksum_80 rfl q3643 ?_
            refine g_lload_n (q := 84) B dX3_checksum_83 rfl rfl ?_
            refine g_lmul (v := 31 * s) (q := 85) B dX3_checksum_84 rfl rfl ?_
            refine g_lstore_n (q := 86) (lv2 := [some (.ref m), some (.long (31 * s)), none, some (.int (nI k)), none]) B dX3_checksum_85 rfl (Nat.le_of_ble_eq_true rfl) rfl ?_
            refine g_goto (tgt := 134) B dX3_checksum_86 (by decide) ?_
            refine g_iinc (v := nI (k + 1)) (q := 137) (lv2 := [some (.ref m), some (.long (31 * s)), none, some (.int (nI (k + 1))), none]) B dX3_checksum_134 rfl rfl (nI_add _ 1) (Nat.le_of_ble_eq_true rfl) rfl ?_
            refine g_goto (tgt := 46) B dX3_checksum_137 (by decide) ?_
            refine g_pk [7, 0, 0, 0, 0, 0, 0, 0, 0] rfl rfl ?_
            refine (show Go g κ 46 [some (.ref m), some (.long (31 * s)), none, some (.int (nI (k + 1))), none] [] [[(m, .inr (12, [.ref ls, .ref lb, .ref lk, .ref lp, .ref lr, .ref le, .ref lm, .ref lo, .int (nI 0), .int (dZz D), .int (nI (dBn D)), .int (nI (dCm D))]))], v0, v1, v2, v3, v4, v6, v7, v5] (10 * (490 + 32 * (dMs D).length)) (10 * (6020 + 80 * (dMs D).length)) from ?_)
            exact ih46 _ (by omega) (k + 1) (31 * s) (by show _ = ck1 (dSs D) (eTr Ep) k (ckT (dSs D) (eTr Ep) (ckZM D) k); rw [← hs]; rw [ck1_n c77]) (fun z => absurd z hne) (fun _ => by omega) rfl
    exact lp46 _ 0 (ckZM D) (rfl) (fun _ => rfl) (fun _ => Nat.zero_le _) rfl
  refine g_if_eq (tgt := 32) (q := 28) B dX3_checksum_25 rfl (by decide) (bo_eq) (fun c25 => ?_) (fun c25 => ?_)
  · skip
    refine g_aload_n (q := 33) B dX3_checksum_32 rfl rfl (rv_r _) ?_
    refine g_get (q := 36) B (ci := 12) (k := 0) (j := 5) in_X3 rfl dX3_checksum_33 rfl rfl (Nat.le_of_ble_eq_true rfl) q3062 rfl rfl ?_
    refine g_callV (q := 39) (is := [8]) (kc2 := 10 * (490 + 32 * (dMs D).length)) (ks2 := 10 * (6020 + 80 * (dMs D).length)) B [] (ct_J2_size_s g J (p := le) (xs := ps_1) (md := md_1) (cap := ecap) (W0 := v5)  (hli_1)) dX3_checksum_36 rfl (rc_in B (ci := 21) rfl (k := 8) rfl (LhP.hm hv5)) rfl q3102 q321 q3665 q81 q323 rfl rfl moJ2_size rfl rfl (by decide) (by decide) (Nat.le_of_ble_eq_true rfl) (by omega) (by omega) (fun _ _ hx => noX_x hx) (fun v36 L1 hp36 => ?_)
    obtain ⟨rfl, rfl⟩ := hp36
    refine (show Go g κ 39 [some (.ref m), none, none, none, none] [.int (nI ps_1.length), .long (31 * (217 + ((dZz D).toInt64)))] [[(m, .inr (12, [.ref ls, .ref lb, .ref lk, .ref lp, .ref lr, .ref le, .ref lm, .ref lo, .int (nI 0), .int (dZz D), .int (nI (dBn D)), .int (nI (dCm D))]))], v0, v1, v2, v3, v4, v6, v7, v5] (10 * (490 + 32 * (dMs D).length)) (10 * (6020 + 80 * (dMs D).length)) from ?_)
    rw [hln_1.1]
    refine (show Go g κ 39 [some (.ref m), none, none, none, none] [.int (nI ((dEs D).length)), .long (31 * (217 + ((dZz D).toInt64)))] [[(m, .inr (12, [.ref ls, .ref lb, .ref lk, .ref lp, .ref lr, .ref le, .ref lm, .ref lo, .int (nI 0), .int (dZz D), .int (nI (dBn D)), .int (nI (dCm D))]))], v0, v1, v2, v3, v4, v6, v7, v5] (10 * (490 + 32 * (dMs D).length)) (10 * (6020 + 80 * (dMs D).length)) from ?_)
    refine g_iconst (v := nI 1) (q := 40) B dX3_checksum_39 rfl (by decide) ?_
    refine g_isub (v := nI (dEs D).length - nI 1) (q := 41) B dX3_checksum_40 rfl rfl ?_
    refine g_i2l (v := (nI (dEs D).length - nI 1).toInt64) (q := 42) B dX3_checksum_41 rfl rfl ?_
    refine g_ladd (v := ckZM D) (q := 43) B dX3_checksum_42 rfl rfl ?_
    refine g_lstore_n (q := 44) (lv2 := [some (.ref m), some (.long (ckZM D)), none, none, none]) B dX3_checksum_43 rfl (Nat.le_of_ble_eq_true rfl) rfl ?_
    exact ct44  
  · skip
    have c25 := Classical.not_not.mp c25
    refine g_iconst (v := -1) (q := 29) B dX3_checksum_28 rfl (by decide) ?_
    refine g_goto (tgt := 41) B dX3_checksum_29 (by decide) ?_
    refine g_i2l (v := (nI (dEs D).length - nI 1).toInt64) (q := 42) B dX3_checksum_41 rfl (by rw [c25]; decide) ?_
    refine g_ladd (v := ckZM D) (q := 43) B dX3_checksum_42 rfl rfl ?_
    refine g_lstore_n (q := 44) (lv2 := [some (.ref m), some (.long (ckZM D)), none, none, none]) B dX3_checksum_43 rfl (Nat.le_of_ble_eq_true rfl) rfl ?_
    exact ct44  
theorem ct_X3_blankShare_x (g : Gv) (J : Jd g) {m : Nat} {D : MdS} {Ep : MeS} {w0 : va_W} (hw0 : KdP g m D w0) (hD : MdB D) (hes : dEs D = []) : Ct g yX3_blankShare (ws_ yX3_blankShare cX3_blankShare 3 (some .float)) 10 0 0 [.ref m] [w0] (fun (rv_ : Option Value) (rL_ : List va_W) => ∃ (x : UInt32) (u0 : va_W), rv_ = some (.float x) ∧ rL_ = [u0] ∧ KdP g m (dT D 1) u0) noX := by
  refine Ct.of "KeygroveModel" [some (.ref m), none, none] rfl (by decide) rfl (Nat.le_of_ble_eq_true rfl) rfl ?_
  intro κ B E tb
  have hD0 := hD
  obtain ⟨hd1, hd2, hd3, hd4, hd5, hd6, hd7, hd8, hd9⟩ := hD0
  obtain ⟨ls, lb, lk, lp, lr, le, lm, lo, kcap, pcap, rcap, ecap, mcap, mks, mps, v0, v1, v2, v3, v4, v5, v6, v7, hcap, hv0, hv1, hv2, hv3, hv4, hv5, hv6, hv7, rfl⟩ := hw0
  refine g_open 0 rfl rfl rfl ?_
  refine (show Go g κ 0 [some (.ref m), none, none] [] [[(m, .inr (12, [.ref ls, .ref lb, .ref lk, .ref lp, .ref lr, .ref le, .ref lm, .ref lo, .int (nI (dTh D)), .int (dZz D), .int (nI (dBn D)), .int (nI (dCm D))]))], v0, v1, v2, v3, v4, v5, v6, v7] 0 0 from ?_)
  obtain ⟨kc1, kc2, kc3, kc4, kc5⟩ := (show capM kcap pcap rcap ecap mcap from hcap)
  refine g_aload_n (q := 1) B dX3_blankShare_0 rfl rfl (rv_r _) ?_
  refine g_aload_n (q := 2) B dX3_blankShare_1 rfl rfl (rv_r _) ?_
  refine g_get (q := 5) B (ci := 12) (k := 0) (j := 5) in_X3 rfl dX3_blankShare_2 rfl rfl (Nat.le_of_ble_eq_true rfl) q3062 rfl rfl ?_
  obtain ⟨ps_1, md_1, hli_1, hln_1, hel_1⟩ := LhP.at (Sub.self hv5)
  refine g_callV (q := 8) (is := [6]) (kc2 := 0) (ks2 := 0) B [] (ct_J2_isEmpty_s g J (p := le) (xs := ps_1) (md := md_1) (cap := ecap) (W0 := v5)  (hli_1)) dX3_blankShare_5 rfl (rc_in B (ci := 21) rfl (k := 6) rfl (LhP.hm hv5)) rfl q3248 q1130 q3669 q81 q1132 rfl rfl moJ2_isEmpty rfl rfl (by decide) (by decide) (Nat.le_of_ble_eq_true rfl) (Nat.le_of_ble_eq_true rfl) (Nat.le_of_ble_eq_true rfl) (fun _ _ hx => noX_x hx) (fun v5 L1 hp5 => ?_)
  obtain ⟨rfl, rfl⟩ := hp5
  refine (show Go g κ 8 [some (.ref m), none, none] [.int (nI (if ps_1.length = 0 then 1 else 0)), .ref m] [[(m, .inr (12, [.ref ls, .ref lb, .ref lk, .ref lp, .ref lr, .ref le, .ref lm, .ref lo, .int (nI (dTh D)), .int (dZz D), .int (nI (dBn D)), .int (nI (dCm D))]))], v0, v1, v2, v3, v4, v6, v7, v5] 0 0 from ?_)
  rw [hln_1.1]
  refine (show Go g κ 8 [some (.ref m), none, none] [.int (nI (if (dEs D).length = 0 then 1 else 0)), .ref m] [[(m, .inr (12, [.ref ls, .ref lb, .ref lk, .ref lp, .ref lr, .ref le, .ref lm, .ref lo, .int (nI (dTh D)), .int (dZz D), .int (nI (dBn D)), .int (nI (dCm D))]))], v0, v1, v2, v3, v4, v6, v7, v5] 0 0 from ?_)
  refine g_if_eq (tgt := 15) (q := 11) B dX3_blankShare_8 rfl (by decide) (bo_eq) (fun c8 => ?_) (fun c8 => ?_)
  · skip
    refine g_iconst (v := nI 0) (q := 16) B dX3_blankShare_15 rfl (by decide) ?_
    refine g_callV (q := 19) (is := [0]) (kc2 := 0) (ks2 := 0) B [.int (nI 0)] (ct_X3_isWrong g J (m := m) (ls := ls) (lb := lb) (lk := lk) (lp := lp) (lr := lr) (le := le) (lm := lm) (lo := lo) (th := dTh D) (z := dZz D) (bo := dBn D) (cm := dCm D) (k := 0)  (by decide)) dX3_blankShare_16 rfl (rc_at B (ci := 12) rfl (k := 0) rfl) rfl q3103 q3105 qs49 q85 q3106 rfl rfl moX3_isWrong rfl rfl (by decide) (by decide) (Nat.le_of_ble_eq_true rfl) (Nat.le_of_ble_eq_true rfl) (Nat.le_of_ble_eq_true rfl) (fun _ _ hx => noX_x hx) (fun v16 L1 hp16 => ?_)
    obtain ⟨rfl, rfl⟩ := hp16
    refine (show Go g κ 19 [some (.ref m), none, none] [.int (nI (if ¬ 0 = 0 then 1 else 0))] [v0, v1, v2, v3, v4, v6, v7, v5, [(m, .inr (12, [.ref ls, .ref lb, .ref lk, .ref lp, .ref lr, .ref le, .ref lm, .ref lo, .int (nI 0), .int (dZz D), .int (nI (dBn D)), .int (nI (dCm D))]))]] 0 0 from ?_)
    refine g_if_eq (tgt := 24) (q := 22) B dX3_blankShare_19 rfl (by decide) (iff_true_intro (by decide)) (fun _ => ?_) (fun z => absurd trivial z)
    exact absurd hes (fun z => c8 (by rw [z]; rfl))
  · skip
    have c8 := Classical.not_not.mp c8
    refine g_iconst (v := nI 1) (q := 12) B dX3_blankShare_11 rfl (by decide) ?_
    refine g_goto (tgt := 16) B dX3_blankShare_12 (by decide) ?_
    refine g_callV (q := 19) (is := [0]) (kc2 := 0) (ks2 := 0) B [.int (nI 1)] (ct_X3_isWrong g J (m := m) (ls := ls) (lb := lb) (lk := lk) (lp := lp) (lr := lr) (le := le) (lm := lm) (lo := lo) (th := dTh D) (z := dZz D) (bo := dBn D) (cm := dCm D) (k := 1)  (by decide)) dX3_blankShare_16 rfl (rc_at B (ci := 12) rfl (k := 0) rfl) rfl q3103 q3105 qs49 q85 q3106 rfl rfl moX3_isWrong rfl rfl (by decide) (by decide) (Nat.le_of_ble_eq_true rfl) (Nat.le_of_ble_eq_true rfl) (Nat.le_of_ble_eq_true rfl) (fun _ _ hx => noX_x hx) (fun v16 L1 hp16 => ?_)
    obtain ⟨rfl, rfl⟩ := hp16
    refine (show Go g κ 19 [some (.ref m), none, none] [.int (nI (if ¬ 1 = 0 then 1 else 0))] [v0, v1, v2, v3, v4, v6, v7, v5, [(m, .inr (12, [.ref ls, .ref lb, .ref lk, .ref lp, .ref lr, .ref le, .ref lm, .ref lo, .int (nI 1), .int (dZz D), .int (nI (dBn D)), .int (nI (dCm D))]))]] 0 0 from ?_)
    refine g_if_eq (tgt := 24) (q := 22) B dX3_blankShare_19 rfl (by decide) (iff_false_intro (by decide)) (fun z => z.elim) (fun _ => ?_)
    refine g_fconst0 (q := 23) B dX3_blankShare_22 rfl ?_
    obtain ⟨wc_2, ewc_2⟩ : ∃ w : va_W, w = ([[(m, .inr (12, [.ref ls, .ref lb, .ref lk, .ref lp, .ref lr, .ref le, .ref lm, .ref lo, .int (nI 1), .int (dZz D), .int (nI (dBn D)), .int (nI (dCm D))]))], v0, v1, v2, v3, v4, v5, v6, v7] : List va_W).flatten := ⟨_, rfl⟩
    have hwc_2 : KdP g m (dT D 1) wc_2 := by
      rw [ewc_2]
      exact ⟨ls, lb, lk, lp, lr, le, lm, lo, kcap, pcap, rcap, ecap, mcap, mks, mps, _, _, _, _, _, _, _, _, hcap, hv0, hv1, hv2, hv3, hv4, hv5, hv6, hv7, rfl⟩
    refine g_close (w := wc_2) [8, 0, 0, 0, 0, 0, 2, 0, 0] rfl ewc_2 rfl ?_
    refine (show Go g κ 23 [some (.ref m), none, none] [.float FP.fconst0] [wc_2] 0 0 from ?_)
    exact g_fret B E dX3_blankShare_23 (⟨_, _, rfl, rfl, hwc_2⟩)
theorem ct_X3_blankShare_y (g : Gv) (J : Jd g) {m : Nat} {D : MdS} {Ep : MeS} {w0 : va_W} (hw0 : KdP g m D w0) (hD : MdB D) (hT : dEs D ≠ [] → (dEs D)[(dEs D).length - 1]? = some Ep) (hne : dEs D ≠ []) : Ct g yX3_blankShare (ws_ yX3_blankShare cX3_blankShare 3 (some .float)) 10 10 60 [.ref m] [w0] (fun (rv_ : Option Value) (rL_ : List va_W) => ∃ (u0 : va_W), rv_ = some (.float (FP.fdiv (FP.i2f (nI (blk (eTr Ep) (2 * 2 ^ (eTr Ep).1 - 1)))) (FP.i2f (nI (2 * 2 ^ (eTr Ep).1 - 1))))) ∧ rL_ = [u0] ∧ KdP g m (dT D 0) u0) noX := by
  refine Ct.of "KeygroveModel" [some (.ref m), none, none] rfl (by decide) rfl (Nat.le_of_ble_eq_true rfl) rfl ?_
  intro κ B E tb
  have hD0 := hD
  obtain ⟨hd1, hd2, hd3, hd4, hd5, hd6, hd7, hd8, hd9⟩ := hD0
  obtain ⟨ls, lb, lk, lp, lr, le, lm, lo, kcap, pcap, rcap, ecap, mcap, mks, mps, v0, v1, v2, v3, v4, v5, v6, v7, hcap, hv0, hv1, hv2, hv3, hv4, hv5, hv6, hv7, rfl⟩ := hw0
  refine g_open 0 rfl rfl rfl ?_
  refine (show Go g κ 0 [some (.ref m), none, none] [] [[(m, .inr (12, [.ref ls, .ref lb, .ref lk, .ref lp, .ref lr, .ref le, .ref lm, .ref lo, .int (nI (dTh D)), .int (dZz D), .int (nI (dBn D)), .int (nI (dCm D))]))], v0, v1, v2, v3, v4, v5, v6, v7] 10 60 from ?_)
  obtain ⟨kc1, kc2, kc3, kc4, kc5⟩ := (show capM kcap pcap rcap ecap mcap from hcap)
  refine g_aload_n (q := 1) B dX3_blankShare_0 rfl rfl (rv_r _) ?_
  refine g_aload_n (q := 2) B dX3_blankShare_1 rfl rfl (rv_r _) ?_
  refine g_get (q := 5) B (ci := 12) (k := 0) (j := 5) in_X3 rfl dX3_blankShare_2 rfl rfl (Nat.le_of_ble_eq_true rfl) q3062 rfl rfl ?_
  obtain ⟨ps_1, md_1, hli_1, hln_1, hel_1⟩ := LhP.at (Sub.self hv5)
  refine g_callV (q := 8) (is := [6]) (kc2 := 10) (ks2 := 60) B [] (ct_J2_isEmpty_s g J (p := le) (xs := ps_1) (md := md_1) (cap := ecap) (W0 := v5)  (hli_1)) dX3_blankShare_5 rfl (rc_in B (ci := 21) rfl (k := 6) rfl (LhP.hm hv5)) rfl q3248 q1130 q3669 q81 q1132 rfl rfl moJ2_isEmpty rfl rfl (by decide) (by decide) (Nat.le_of_ble_eq_true rfl) (Nat.le_of_ble_eq_true rfl) (Nat.le_of_ble_eq_true rfl) (fun _ _ hx => noX_x hx) (fun v5 L1 hp5 => ?_)
  obtain ⟨rfl, rfl⟩ := hp5
  refine (show Go g κ 8 [some (.ref m), none, none] [.int (nI (if ps_1.length = 0 then 1 else 0)), .ref m] [[(m, .inr (12, [.ref ls, .ref lb, .ref lk, .ref lp, .ref lr, .ref le, .ref lm, .ref lo, .int (nI (dTh D)), .int (dZz D), .int (nI (dBn D)), .int (nI (dCm D))]))], v0, v1, v2, v3, v4, v6, v7, v5] 10 60 from ?_)
  rw [hln_1.1]
  refine (show Go g κ 8 [some (.ref m), none, none] [.int (nI (if (dEs D).length = 0 then 1 else 0)), .ref m] [[(m, .inr (12, [.ref ls, .ref lb, .ref lk, .ref lp, .ref lr, .ref le, .ref lm, .ref lo, .int (nI (dTh D)), .int (dZz D), .int (nI (dBn D)), .int (nI (dCm D))]))], v0, v1, v2, v3, v4, v6, v7, v5] 10 60 from ?_)
  refine g_if_eq (tgt := 15) (q := 11) B dX3_blankShare_8 rfl (by decide) (bo_eq) (fun c8 => ?_) (fun c8 => ?_)
  · skip
    refine g_iconst (v := nI 0) (q := 16) B dX3_blankShare_15 rfl (by decide) ?_
    refine g_callV (q := 19) (is := [0]) (kc2 := 10) (ks2 := 60) B [.int (nI 0)] (ct_X3_isWrong g J (m := m) (ls := ls) (lb := lb) (lk := lk) (lp := lp) (lr := lr) (le := le) (lm := lm) (lo := lo) (th := dTh D) (z := dZz D) (bo := dBn D) (cm := dCm D) (k := 0)  (by decide)) dX3_blankShare_16 rfl (rc_at B (ci := 12) rfl (k := 0) rfl) rfl q3103 q3105 qs49 q85 q3106 rfl rfl moX3_isWrong rfl rfl (by decide) (by decide) (Nat.le_of_ble_eq_true rfl) (Nat.le_of_ble_eq_true rfl) (Nat.le_of_ble_eq_true rfl) (fun _ _ hx => noX_x hx) (fun v16 L1 hp16 => ?_)
    obtain ⟨rfl, rfl⟩ := hp16
    refine (show Go g κ 19 [some (.ref m), none, none] [.int (nI (if ¬ 0 = 0 then 1 else 0))] [v0, v1, v2, v3, v4, v6, v7, v5, [(m, .inr (12, [.ref ls, .ref lb, .ref lk, .ref lp, .ref lr, .ref le, .ref lm, .ref lo, .int (nI 0), .int (dZz D), .int (nI (dBn D)), .int (nI (dCm D))]))]] 10 60 from ?_)
    refine g_if_eq (tgt := 24) (q := 22) B dX3_blankShare_19 rfl (by decide) (iff_true_intro (by decide)) (fun _ => ?_) (fun z => absurd trivial z)
    refine g_iconst (v := nI 0) (q := 25) B dX3_blankShare_24 rfl (by decide) ?_
    refine g_istore_n (q := 26) (lv2 := [some (.ref m), some (.int (nI 0)), none]) B dX3_blankShare_25 rfl (Nat.le_of_ble_eq_true rfl) rfl ?_
    refine g_iconst (v := nI 0) (q := 27) B dX3_blankShare_26 rfl (by decide) ?_
    refine g_istore_n (q := 28) (lv2 := [some (.ref m), some (.int (nI 0)), some (.int (nI 0))]) B dX3_blankShare_27 rfl (Nat.le_of_ble_eq_true rfl) rfl ?_
    have lp28 : ∀ (n28 : Nat) (k : Nat) , (k ≤ (2 * 2 ^ (eTr Ep).1 - 1)) → (2 * 2 ^ (eTr Ep).1 - 1) - k = n28 → Go g κ 28 [some (.ref m), some (.int (nI (blk (eTr Ep) k))), some (.int (nI k))] [] [v0, v1, v2, v3, v4, v6, v7, v5, [(m, .inr (12, [.ref ls, .ref lb, .ref lk, .ref lp, .ref lr, .ref le, .ref lm, .ref lo, .int (nI 0), .int (dZz D), .int (nI (dBn D)), .int (nI (dCm D))]))]] 10 60 := by
      intro n28
      induction n28 using Nat.strongRecOn with
      | _ n28 ih28 =>
      intro k  hk hmu28
      refine g_iload_n (q := 29) B dX3_blankShare_28 rfl rfl ?_
      refine g_aload_n (q := 30) B dX3_blankShare_29 rfl rfl (rv_r _) ?_
      refine g_callV (q := 33) (is := [8, 7]) (kc2 := 10) (ks2 := 60) B [] (ct_X3_newest g J (m := m) (ls := ls) (lb := lb) (lk := lk) (lp := lp) (lr := lr) (le := le) (lm := lm) (lo := lo) (th := 0) (z := (dZz D)) (bo := (dBn D)) (cm := (dCm D)) (Es := (dEs D)) (ecap := ecap) (Ep := Ep) hv5 (hT hne) (by omega)) dX3_blankShare_30 rfl (rc_at B (ci := 12) rfl (k := 8) rfl) rfl q3374 q3376 qs63 q85 q3377 rfl rfl moX3_newest rfl rfl (by decide) (by decide) (Nat.le_of_ble_eq_true rfl) (Nat.le_of_ble_eq_true rfl) (Nat.le_of_ble_eq_true rfl) (fun _ _ hx => noX_x hx) (fun v30 L1 hp30 => ?_)
      obtain ⟨e30, rfl, rfl, hE_30⟩ := hp30
      refine (show Go g κ 33 [some (.ref m), some (.int (nI (blk (eTr Ep) k))), some (.int (nI k))] [.ref e30, .int (nI k)] [v0, v1, v2, v3, v4, v6, v7, [(m, .inr (12, [.ref ls, .ref lb, .ref lk, .ref lp, .ref lr, .ref le, .ref lm, .ref lo, .int (nI 0), .int (dZz D), .int (nI (dBn D)), .int (nI (dCm D))]))], v5] 10 60 from ?_)
      have hEB30 := EpP.b2 hE_30
      have hTB30 := hEB30.2.1
      have hp230 := p2_4 hTB30.1
      refine g_callV (q := 36) (is := [8]) (kc2 := 10) (ks2 := 60) B [] (ct_X13_nodes_s g J (e := e30) (r := Ep) (W0 := v5)  (hE_30)) dX3_blankShare_33 rfl (rc_in B (ci := 16) rfl (k := 8) rfl (Sub.hm (hE_30) fun _ z => EpP.hm z)) rfl q3434 q3435 q3436 q137 q3437 rfl rfl moX13_nodes rfl rfl (by decide) (by decide) (Nat.le_of_ble_eq_true rfl) (Nat.le_of_ble_eq_true rfl) (Nat.le_of_ble_eq_true rfl) (fun _ _ hx => noX_x hx) (fun v33 L1 hp33 => ?_)
      obtain ⟨rfl, rfl⟩ := hp33
      refine (show Go g κ 36 [some (.ref m), some (.int (nI (blk (eTr Ep) k))), some (.int (nI k))] [.int (nI (2 * 2 ^ (eTr Ep).1 - 1)), .int (nI k)] [v0, v1, v2, v3, v4, v6, v7, [(m, .inr (12, [.ref ls, .ref lb, .ref lk, .ref lp, .ref lr, .ref le, .ref lm, .ref lo, .int (nI 0), .int (dZz D), .int (nI (dBn D)), .int (nI (dCm D))]))], v5] 10 60 from ?_)
      refine g_icmp_ge (tgt := 66) (q := 39) B dX3_blankShare_36 rfl (by decide) (nI_leI (by omega) (by omega)) (fun c36 => ?_) (fun c36 => ?_)
      · skip
        refine g_iload_n (q := 67) B dX3_blankShare_66 rfl rfl ?_
        refine g_i2f (v := FP.i2f (nI (blk (eTr Ep) k))) (q := 68) B dX3_blankShare_67 rfl rfl ?_
        refine g_aload_n (q := 69) B dX3_blankShare_68 rfl rfl (rv_r _) ?_
        refine g_callV (q := 72) (is := [7, 7]) (kc2 := 10) (ks2 := 60) B [] (ct_X3_newest g J (m := m) (ls := ls) (lb := lb) (lk := lk) (lp := lp) (lr := lr) (le := le) (lm := lm) (lo := lo) (th := 0) (z := (dZz D)) (bo := (dBn D)) (cm := (dCm D)) (Es := (dEs D)) (ecap := ecap) (Ep := Ep) hv5 (hT hne) (by omega)) dX3_blankShare_69 rfl (rc_at B (ci := 12) rfl (k := 7) rfl) rfl q3374 q3376 qs63 q85 q3377 rfl rfl moX3_newest rfl rfl (by decide) (by decide) (Nat.le_of_ble_eq_true rfl) (Nat.le_of_ble_eq_true rfl) (Nat.le_of_ble_eq_true rfl) (fun _ _ hx => noX_x hx) (fun v69 L1 hp69 => ?_)
        obtain ⟨e69, rfl, rfl, hE_69⟩ := hp69
        refine (show Go g κ 72 [some (.ref m), some (.int (nI (blk (eTr Ep) k))), some (.int (nI k))] [.ref e69, .float (FP.i2f (nI (blk (eTr Ep) k)))] [v0, v1, v2, v3, v4, v6, v7, [(m, .inr (12, [.ref ls, .ref lb, .ref lk, .ref lp, .ref lr, .ref le, .ref lm, .ref lo, .int (nI 0), .int (dZz D), .int (nI (dBn D)), .int (nI (dCm D))]))], v5] 10 60 from ?_)
        have hEB69 := EpP.b2 hE_69
        have hTB69 := hEB69.2.1
        have hp269 := p2_4 hTB69.1
        refine g_callV (q := 75) (is := [8]) (kc2 := 10) (ks2 := 60) B [] (ct_X13_nodes_s g J (e := e69) (r := Ep) (W0 := v5)  (hE_69)) dX3_blankShare_72 rfl (rc_in B (ci := 16) rfl (k := 8) rfl (Sub.hm (hE_69) fun _ z => EpP.hm z)) rfl q3434 q3435 q3436 q137 q3437 rfl rfl moX13_nodes rfl rfl (by decide) (by decide) (Nat.le_of_ble_eq_true rfl) (Nat.le_of_ble_eq_true rfl) (Nat.le_of_ble_eq_true rfl) (fun _ _ hx => noX_x hx) (fun v72 L1 hp72 => ?_)
        obtain ⟨rfl, rfl⟩ := hp72
        refine (show Go g κ 75 [some (.ref m), some (.int (nI (blk (eTr Ep) k))), some (.int (nI k))] [.int (nI (2 * 2 ^ (eTr Ep).1 - 1)), .float (FP.i2f (nI (blk (eTr Ep) k)))] [v0, v1, v2, v3, v4, v6, v7, [(m, .inr (12, [.ref ls, .ref lb, .ref lk, .ref lp, .ref lr, .ref le, .ref lm, .ref lo, .int (nI 0), .int (dZz D), .int (nI (dBn D)), .int (nI (dCm D))]))], v5] 10 60 from ?_)
        refine g_i2f (v := FP.i2f (nI (2 * 2 ^ (eTr Ep).1 - 1))) (q := 76) B dX3_blankShare_75 rfl rfl ?_
        refine g_fdiv (v := FP.fdiv (FP.i2f (nI (blk (eTr Ep) k))) (FP.i2f (nI (2 * 2 ^ (eTr Ep).1 - 1)))) (q := 77) B dX3_blankShare_76 rfl (by rw [show k = (2 * 2 ^ (eTr Ep).1 - 1) by omega]; exact fd_ok _ (Nat.lt_succ_of_le hTB69.1) _ (by have := blk_l (eTr Ep) (2 * 2 ^ (eTr Ep).1 - 1); omega)) rfl ?_
        obtain ⟨wc_2, ewc_2⟩ : ∃ w : va_W, w = ([[(m, .inr (12, [.ref ls, .ref lb, .ref lk, .ref lp, .ref lr, .ref le, .ref lm, .ref lo, .int (nI 0), .int (dZz D), .int (nI (dBn D)), .int (nI (dCm D))]))], v0, v1, v2, v3, v4, v5, v6, v7] : List va_W).flatten := ⟨_, rfl⟩
        have hwc_2 : KdP g m (dT D 0) wc_2 := by
          rw [ewc_2]
          exact ⟨ls, lb, lk, lp, lr, le, lm, lo, kcap, pcap, rcap, ecap, mcap, mks, mps, _, _, _, _, _, _, _, _, hcap, hv0, hv1, hv2, hv3, hv4, hv5, hv6, hv7, rfl⟩
        refine g_close (w := wc_2) [7, 0, 0, 0, 0, 0, 2, 0, 0] rfl ewc_2 rfl ?_
        refine (show Go g κ 77 [some (.ref m), some (.int (nI (blk (eTr Ep) k))), some (.int (nI k))] [.float (FP.fdiv (FP.i2f (nI (blk (eTr Ep) k))) (FP.i2f (nI (2 * 2 ^ (eTr Ep).1 - 1))))] [wc_2] 10 60 from ?_)
        exact g_fret B E dX3_blankShare_77 (⟨_, by rw [show k = (2 * 2 ^ (eTr Ep).1 - 1) by omega], rfl, hwc_2⟩)
      · skip
        refine g_iload_n (q := 40) B dX3_blankShare_39 rfl rfl ?_
        refine g_aload_n (q := 41) B dX3_blankShare_40 rfl rfl (rv_r _) ?_
        refine g_callV (q := 44) (is := [7, 7]) (kc2 := 10) (ks2 := 60) B [] (ct_X3_newest g J (m := m) (ls := ls) (lb := lb) (lk := lk) (lp := lp) (lr := lr) (le := le) (lm := lm) (lo := lo) (th := 0) (z := (dZz D)) (bo := (dBn D)) (cm := (dCm D)) (Es := (dEs D)) (ecap := ecap) (Ep := Ep) hv5 (hT hne) (by omega)) dX3_blankShare_41 rfl (rc_at B (ci := 12) rfl (k := 7) rfl) rfl q3374 q3376 qs63 q85 q3377 rfl rfl moX3_newest rfl rfl (by decide) (by decide) (Nat.le_of_ble_eq_true rfl) (Nat.le_of_ble_eq_true rfl) (Nat.le_of_ble_eq_true rfl) (fun _ _ hx => noX_x hx) (fun v41 L1 hp41 => ?_)
        obtain ⟨e41, rfl, rfl, hE_41⟩ := hp41
        refine (show Go g κ 44 [some (.ref m), some (.int (nI (blk (eTr Ep) k))), some (.int (nI k))] [.ref e41, .int (nI (blk (eTr Ep) k))] [v0, v1, v2, v3, v4, v6, v7, [(m, .inr (12, [.ref ls, .ref lb, .ref lk, .ref lp, .ref lr, .ref le, .ref lm, .ref lo, .int (nI 0), .int (dZz D), .int (nI (dBn D)), .int (nI (dCm D))]))], v5] 10 60 from ?_)
        have hEB41 := EpP.b2 hE_41
        have hTB41 := hEB41.2.1
        have hp241 := p2_4 hTB41.1
        obtain ⟨ap_3, an_3, al_3, ac_3, aw_3, am_3, ak_3, fp_3, fn_3, fl_3, fc_3, fw_3, fm_3, fk_3, hE_3, hfp_3, hfn_3, hfl_3, hfc_3, hfw_3, hfm_3, hfk_3, hc_3_0, hc_3_1, hc_3_2, hc_3_3, hc_3_4, hc_3_5, hc_3_6, hc_3_7⟩ := EpP.at (hE_41)
        refine g_getNM (q := 47) B (ci := 16) (k := 8) (j := 5) in_X13 rfl dX3_blankShare_44 rfl rfl (hc_3_0) (Nat.le_of_ble_eq_true rfl) q3263 rfl rfl ?_
        refine g_iload_n (q := 48) B dX3_blankShare_47 rfl rfl ?_
        refine g_ialdM (v := oI (((eTr Ep).2.1) k)) (q := 49) B (k := 8) dX3_blankShare_48 rfl rfl (hc_3_2) (vp_in_nI (by omega) (by omega)) (by rw [nI_clamp (by omega)]; exact hfn_3 _ (by omega)) ?_
        refine g_iconst (v := -1) (q := 50) B dX3_blankShare_49 rfl (by decide) ?_
        refine g_icmp_ne (tgt := 57) (q := 53) B dX3_blankShare_50 rfl (by decide) (oI_nn ((fun n h => by have := hE_3.2.1.2.1 _ _ h; omega))) (fun c50 => ?_) (fun c50 => ?_)
        · skip
          obtain ⟨v50, ev50⟩ := Option.ne_none_iff_exists'.mp c50
          refine g_iconst (v := nI 0) (q := 58) B dX3_blankShare_57 rfl (by decide) ?_
          refine g_iadd (v := nI (blk (eTr Ep) (k + 1))) (q := 59) B dX3_blankShare_58 rfl (by first | exact blk_t (by simpa using c50) | exact blk_f (by simpa using c50)) ?_
          refine g_istore_n (q := 60) (lv2 := [some (.ref m), some (.int (nI (blk (eTr Ep) (k + 1)))), some (.int (nI k))]) B dX3_blankShare_59 rfl (Nat.le_of_ble_eq_true rfl) rfl ?_
          refine g_iinc (v := nI (k + 1)) (q := 63) (lv2 := [some (.ref m), some (.int (nI (blk (eTr Ep) (k + 1)))), some (.int (nI (k + 1)))]) B dX3_blankShare_60 rfl rfl (nI_add _ 1) (Nat.le_of_ble_eq_true rfl) rfl ?_
          refine g_goto (tgt := 28) B dX3_blankShare_63 (by decide) ?_
          refine g_pk [0, 0, 0, 0, 0, 0, 0, 1, 0] rfl rfl ?_
          refine (show Go g κ 28 [some (.ref m), some (.int (nI (blk (eTr Ep) (k + 1)))), some (.int (nI (k + 1)))] [] [v0, v1, v2, v3, v4, v6, v7, v5, [(m, .inr (12, [.ref ls, .ref lb, .ref lk, .ref lp, .ref lr, .ref le, .ref lm, .ref lo, .int (nI 0), .int (dZz D), .int (nI (dBn D)), .int (nI (dCm D))]))]] 10 60 from ?_)
          exact ih28 _ (by omega) (k + 1) (by omega) rfl
        · skip
          have c50 := Classical.not_not.mp c50
          refine g_iconst (v := nI 1) (q := 54) B dX3_blankShare_53 rfl (by decide) ?_
          refine g_goto (tgt := 58) B dX3_blankShare_54 (by decide) ?_
          refine g_iadd (v := nI (blk (eTr Ep) (k + 1))) (q := 59) B dX3_blankShare_58 rfl (by first | exact blk_t (by simpa using c50) | exact blk_f (by simpa using c50)) ?_
          refine g_istore_n (q := 60) (lv2 := [some (.ref m), some (.int (nI (blk (eTr Ep) (k + 1)))), some (.int (nI k))]) B dX3_blankShare_59 rfl (Nat.le_of_ble_eq_true rfl) rfl ?_
          refine g_iinc (v := nI (k + 1)) (q := 63) (lv2 := [some (.ref m), some (.int (nI (blk (eTr Ep) (k + 1)))), some (.int (nI (k + 1)))]) B dX3_blankShare_60 rfl rfl (nI_add _ 1) (Nat.le_of_ble_eq_true rfl) rfl ?_
          refine g_goto (tgt := 28) B dX3_blankShare_63 (by decide) ?_
          refine g_pk [0, 0, 0, 0, 0, 0, 0, 1, 0] rfl rfl ?_
          refine (show Go g κ 28 [some (.ref m), some (.int (nI (blk (eTr Ep) (k + 1)))), some (.int (nI (k + 1)))] [] [v0, v1, v2, v3, v4, v6, v7, v5, [(m, .inr (12, [.ref ls, .ref lb, .ref lk, .ref lp, .ref lr, .ref le, .ref lm, .ref lo, .int (nI 0), .int (dZz D), .int (nI (dBn D)), .int (nI (dCm D))]))]] 10 60 from ?_)
          exact ih28 _ (by omega) (k + 1) (by omega) rfl
    exact lp28 _ 0 (Nat.zero_le _) rfl
  · skip
    have c8 := Classical.not_not.mp c8
    refine g_iconst (v := nI 1) (q := 12) B dX3_blankShare_11 rfl (by decide) ?_
    refine g_goto (tgt := 16) B dX3_blankShare_12 (by decide) ?_
    refine g_callV (q := 19) (is := [0]) (kc2 := 10) (ks2 := 60) B [.int (nI 1)] (ct_X3_isWrong g J (m := m) (ls := ls) (lb := lb) (lk := lk) (lp := lp) (lr := lr) (le := le) (lm := lm) (lo := lo) (th := dTh D) (z := dZz D) (bo := dBn D) (cm := dCm D) (k := 1)  (by decide)) dX3_blankShare_16 rfl (rc_at B (ci := 12) rfl (k := 0) rfl) rfl q3103 q3105 qs49 q85 q3106 rfl rfl moX3_isWrong rfl rfl (by decide) (by decide) (Nat.le_of_ble_eq_true rfl) (Nat.le_of_ble_eq_true rfl) (Nat.le_of_ble_eq_true rfl) (fun _ _ hx => noX_x hx) (fun v16 L1 hp16 => ?_)
    obtain ⟨rfl, rfl⟩ := hp16
    refine (show Go g κ 19 [some (.ref m), none, none] [.int (nI (if ¬ 1 = 0 then 1 else 0))] [v0, v1, v2, v3, v4, v6, v7, v5, [(m, .inr (12, [.ref ls, .ref lb, .ref lk, .ref lp, .ref lr, .ref le, .ref lm, .ref lo, .int (nI 1), .int (dZz D), .int (nI (dBn D)), .int (nI (dCm D))]))]] 10 60 from ?_)
    refine g_if_eq (tgt := 24) (q := 22) B dX3_blankShare_19 rfl (by decide) (iff_false_intro (by decide)) (fun z => z.elim) (fun _ => ?_)
    exact absurd (List.length_eq_zero_iff.mp c8) hne
theorem ct_X3_meanBoxes_x (g : Gv) (J : Jd g) {m : Nat} {D : MdS} {w0 : va_W} (hw0 : KdP g m D w0) (hD : MdB D) (hc0 : dCm D = 0) : Ct g yX3_meanBoxes (ws_ yX3_meanBoxes cX3_meanBoxes 1 (some .double)) 10 0 0 [.ref m] [w0] (fun (rv_ : Option Value) (rL_ : List va_W) => ∃ (x : UInt64) (u0 : va_W), rv_ = some (.double x) ∧ rL_ = [u0] ∧ KdP g m (dT D 1) u0) noX := by
  refine Ct.of "KeygroveModel" [some (.ref m)] rfl (by decide) rfl (Nat.le_of_ble_eq_true rfl) rfl ?_
  intro κ B E tb
  have hD0 := hD
  obtain ⟨hd1, hd2, hd3, hd4, hd5, hd6, hd7, hd8, hd9⟩ := hD0
  obtain ⟨ls, lb, lk, lp, lr, le, lm, lo, kcap, pcap, rcap, ecap, mcap, mks, mps, v0, v1, v2, v3, v4, v5, v6, v7, hcap, hv0, hv1, hv2, hv3, hv4, hv5, hv6, hv7, rfl⟩ := hw0
  refine g_open 0 rfl rfl rfl ?_
  refine (show Go g κ 0 [some (.ref m)] [] [[(m, .inr (12, [.ref ls, .ref lb, .ref lk, .ref lp, .ref lr, .ref le, .ref lm, .ref lo, .int (nI (dTh D)), .int (dZz D), .int (nI (dBn D)), .int (nI (dCm D))]))], v0, v1, v2, v3, v4, v5, v6, v7] 0 0 from ?_)
  obtain ⟨kc1, kc2, kc3, kc4, kc5⟩ := (show capM kcap pcap rcap ecap mcap from hcap)
  refine g_aload_n (q := 1) B dX3_meanBoxes_0 rfl rfl (rv_r _) ?_
  refine g_aload_n (q := 2) B dX3_meanBoxes_1 rfl rfl (rv_r _) ?_
  refine g_get (q := 5) B (ci := 12) (k := 0) (j := 11) in_X3 rfl dX3_meanBoxes_2 rfl rfl (Nat.le_of_ble_eq_true rfl) q3068 rfl rfl ?_
  refine g_if_ne (tgt := 12) (q := 8) B dX3_meanBoxes_5 rfl (by decide) (nI_ne00 (by omega)) (fun c5 => ?_) (fun c5 => ?_)
  · skip
    refine g_iconst (v := nI 0) (q := 13) B dX3_meanBoxes_12 rfl (by decide) ?_
    refine g_callV (q := 16) (is := [0]) (kc2 := 0) (ks2 := 0) B [.int (nI 0)] (ct_X3_isWrong g J (m := m) (ls := ls) (lb := lb) (lk := lk) (lp := lp) (lr := lr) (le := le) (lm := lm) (lo := lo) (th := dTh D) (z := dZz D) (bo := dBn D) (cm := dCm D) (k := 0)  (by decide)) dX3_meanBoxes_13 rfl (rc_at B (ci := 12) rfl (k := 0) rfl) rfl q3103 q3105 qs49 q85 q3106 rfl rfl moX3_isWrong rfl rfl (by decide) (by decide) (Nat.le_of_ble_eq_true rfl) (Nat.le_of_ble_eq_true rfl) (Nat.le_of_ble_eq_true rfl) (fun _ _ hx => noX_x hx) (fun v13 L1 hp13 => ?_)
    obtain ⟨rfl, rfl⟩ := hp13
    refine (show Go g κ 16 [some (.ref m)] [.int (nI (if ¬ 0 = 0 then 1 else 0))] [v0, v1, v2, v3, v4, v5, v6, v7, [(m, .inr (12, [.ref ls, .ref lb, .ref lk, .ref lp, .ref lr, .ref le, .ref lm, .ref lo, .int (nI 0), .int (dZz D), .int (nI (dBn D)), .int (nI (dCm D))]))]] 0 0 from ?_)
    refine g_if_eq (tgt := 23) (q := 19) B dX3_meanBoxes_16 rfl (by decide) (iff_true_intro (by decide)) (fun _ => ?_) (fun z => absurd trivial z)
    exact absurd hc0 c5
  · skip
    refine g_iconst (v := nI 1) (q := 9) B dX3_meanBoxes_8 rfl (by decide) ?_
    refine g_goto (tgt := 13) B dX3_meanBoxes_9 (by decide) ?_
    refine g_callV (q := 16) (is := [0]) (kc2 := 0) (ks2 := 0) B [.int (nI 1)] (ct_X3_isWrong g J (m := m) (ls := ls) (lb := lb) (lk := lk) (lp := lp) (lr := lr) (le := le) (lm := lm) (lo := lo) (th := dTh D) (z := dZz D) (bo := dBn D) (cm := dCm D) (k := 1)  (by decide)) dX3_meanBoxes_13 rfl (rc_at B (ci := 12) rfl (k := 0) rfl) rfl q3103 q3105 qs49 q85 q3106 rfl rfl moX3_isWrong rfl rfl (by decide) (by decide) (Nat.le_of_ble_eq_true rfl) (Nat.le_of_ble_eq_true rfl) (Nat.le_of_ble_eq_true rfl) (fun _ _ hx => noX_x hx) (fun v13 L1 hp13 => ?_)
    obtain ⟨rfl, rfl⟩ := hp13
    refine (show Go g κ 16 [some (.ref m)] [.int (nI (if ¬ 1 = 0 then 1 else 0))] [v0, v1, v2, v3, v4, v5, v6, v7, [(m, .inr (12, [.ref ls, .ref lb, .ref lk, .ref lp, .ref lr, .ref le, .ref lm, .ref lo, .int (nI 1), .int (dZz D), .int (nI (dBn D)), .int (nI (dCm D))]))]] 0 0 from ?_)
    refine g_if_eq (tgt := 23) (q := 19) B dX3_meanBoxes_16 rfl (by decide) (iff_false_intro (by decide)) (fun z => z.elim) (fun _ => ?_)
    refine g_dconst0 (q := 20) B dX3_meanBoxes_19 rfl ?_
    refine g_goto (tgt := 34) B dX3_meanBoxes_20 (by decide) ?_
    obtain ⟨wc_1, ewc_1⟩ : ∃ w : va_W, w = ([[(m, .inr (12, [.ref ls, .ref lb, .ref lk, .ref lp, .ref lr, .ref le, .ref lm, .ref lo, .int (nI 1), .int (dZz D), .int (nI (dBn D)), .int (nI (dCm D))]))], v0, v1, v2, v3, v4, v5, v6, v7] : List va_W).flatten := ⟨_, rfl⟩
    have hwc_1 : KdP g m (dT D 1) wc_1 := by
      rw [ewc_1]
      exact ⟨ls, lb, lk, lp, lr, le, lm, lo, kcap, pcap, rcap, ecap, mcap, mks, mps, _, _, _, _, _, _, _, _, hcap, hv0, hv1, hv2, hv3, hv4, hv5, hv6, hv7, rfl⟩
    refine g_close (w := wc_1) [8, 0, 0, 0, 0, 0, 0, 0, 0] rfl ewc_1 rfl ?_
    refine (show Go g κ 34 [some (.ref m)] [.double FP.dconst0] [wc_1] 0 0 from ?_)
    exact g_dret B E dX3_meanBoxes_34 (⟨_, _, rfl, rfl, hwc_1⟩)
theorem ct_X3_meanBoxes_y (g : Gv) (J : Jd g) {m : Nat} {D : MdS} {w0 : va_W} (hw0 : KdP g m D w0) (hD : MdB D) (hc0 : ¬ dCm D = 0) : Ct g yX3_meanBoxes (ws_ yX3_meanBoxes cX3_meanBoxes 1 (some .double)) 10 10 60 [.ref m] [w0] (fun (rv_ : Option Value) (rL_ : List va_W) => ∃ (u0 : va_W), rv_ = some (.double (FP.ddiv (FP.i2d (nI (dBn D))) (FP.i2d (nI (dCm D))))) ∧ rL_ = [u0] ∧ KdP g m (dT D 0) u0) noX := by
  refine Ct.of "KeygroveModel" [some (.ref m)] rfl (by decide) rfl (Nat.le_of_ble_eq_true rfl) rfl ?_
  intro κ B E tb
  have hD0 := hD
  obtain ⟨hd1, hd2, hd3, hd4, hd5, hd6, hd7, hd8, hd9⟩ := hD0
  obtain ⟨ls, lb, lk, lp, lr, le, lm, lo, kcap, pcap, rcap, ecap, mcap, mks, mps, v0, v1, v2, v3, v4, v5, v6, v7, hcap, hv0, hv1, hv2, hv3, hv4, hv5, hv6, hv7, rfl⟩ := hw0
  refine g_open 0 rfl rfl rfl ?_
  refine (show Go g κ 0 [some (.ref m)] [] [[(m, .inr (12, [.ref ls, .ref lb, .ref lk, .ref lp, .ref lr, .ref le, .ref lm, .ref lo, .int (nI (dTh D)), .int (dZz D), .int (nI (dBn D)), .int (nI (dCm D))]))], v0, v1, v2, v3, v4, v5, v6, v7] 10 60 from ?_)
  obtain ⟨kc1, kc2, kc3, kc4, kc5⟩ := (show capM kcap pcap rcap ecap mcap from hcap)
  refine g_aload_n (q := 1) B dX3_meanBoxes_0 rfl rfl (rv_r _) ?_
  refine g_aload_n (q := 2) B dX3_meanBoxes_1 rfl rfl (rv_r _) ?_
  refine g_get (q := 5) B (ci := 12) (k := 0) (j := 11) in_X3 rfl dX3_meanBoxes_2 rfl rfl (Nat.le_of_ble_eq_true rfl) q3068 rfl rfl ?_
  refine g_if_ne (tgt := 12) (q := 8) B dX3_meanBoxes_5 rfl (by decide) (nI_ne00 (by omega)) (fun c5 => ?_) (fun c5 => ?_)
  · skip
    refine g_iconst (v := nI 0) (q := 13) B dX3_meanBoxes_12 rfl (by decide) ?_
    refine g_callV (q := 16) (is := [0]) (kc2 := 10) (ks2 := 60) B [.int (nI 0)] (ct_X3_isWrong g J (m := m) (ls := ls) (lb := lb) (lk := lk) (lp := lp) (lr := lr) (le := le) (lm := lm) (lo := lo) (th := dTh D) (z := dZz D) (bo := dBn D) (cm := dCm D) (k := 0)  (by decide)) dX3_meanBoxes_13 rfl (rc_at B (ci := 12) rfl (k := 0) rfl) rfl q3103 q3105 qs49 q85 q3106 rfl rfl moX3_isWrong rfl rfl (by decide) (by decide) (Nat.le_of_ble_eq_true rfl) (Nat.le_of_ble_eq_true rfl) (Nat.le_of_ble_eq_true rfl) (fun _ _ hx => noX_x hx) (fun v13 L1 hp13 => ?_)
    obtain ⟨rfl, rfl⟩ := hp13
    refine (show Go g κ 16 [some (.ref m)] [.int (nI (if ¬ 0 = 0 then 1 else 0))] [v0, v1, v2, v3, v4, v5, v6, v7, [(m, .inr (12, [.ref ls, .ref lb, .ref lk, .ref lp, .ref lr, .ref le, .ref lm, .ref lo, .int (nI 0), .int (dZz D), .int (nI (dBn D)), .int (nI (dCm D))]))]] 10 60 from ?_)
    refine g_if_eq (tgt := 23) (q := 19) B dX3_meanBoxes_16 rfl (by decide) (iff_true_intro (by decide)) (fun _ => ?_) (fun z => absurd trivial z)
    refine g_aload_n (q := 24) B dX3_meanBoxes_23 rfl rfl (rv_r _) ?_
    refine g_get (q := 27) B (ci := 12) (k := 8) (j := 10) in_X3 rfl dX3_meanBoxes_24 rfl rfl (Nat.le_of_ble_eq_true rfl) q3067 rfl rfl ?_
    refine g_i2d (v := FP.i2d (nI (dBn D))) (q := 28) B dX3_meanBoxes_27 rfl rfl ?_
    refine g_aload_n (q := 29) B dX3_meanBoxes_28 rfl rfl (rv_r _) ?_
    refine g_get (q := 32) B (ci := 12) (k := 8) (j := 11) in_X3 rfl dX3_meanBoxes_29 rfl rfl (Nat.le_of_ble_eq_true rfl) q3068 rfl rfl ?_
    refine g_i2d (v := FP.i2d (nI (dCm D))) (q := 33) B dX3_meanBoxes_32 rfl rfl ?_
    refine g_ddiv (v := FP.ddiv (FP.i2d (nI (dBn D))) (FP.i2d (nI (dCm D)))) (q := 34) B dX3_meanBoxes_33 rfl (dd_ok (by omega) (by omega) (by omega)) rfl ?_
    obtain ⟨wc_1, ewc_1⟩ : ∃ w : va_W, w = ([[(m, .inr (12, [.ref ls, .ref lb, .ref lk, .ref lp, .ref lr, .ref le, .ref lm, .ref lo, .int (nI 0), .int (dZz D), .int (nI (dBn D)), .int (nI (dCm D))]))], v0, v1, v2, v3, v4, v5, v6, v7] : List va_W).flatten := ⟨_, rfl⟩
    have hwc_1 : KdP g m (dT D 0) wc_1 := by
      rw [ewc_1]
      exact ⟨ls, lb, lk, lp, lr, le, lm, lo, kcap, pcap, rcap, ecap, mcap, mks, mps, _, _, _, _, _, _, _, _, hcap, hv0, hv1, hv2, hv3, hv4, hv5, hv6, hv7, rfl⟩
    refine g_close (w := wc_1) [8, 0, 0, 0, 0, 0, 0, 0, 0] rfl ewc_1 rfl ?_
    refine (show Go g κ 34 [some (.ref m)] [.double (FP.ddiv (FP.i2d (nI (dBn D))) (FP.i2d (nI (dCm D))))] [wc_1] 10 60 from ?_)
    exact g_dret B E dX3_meanBoxes_34 (⟨_, rfl, rfl, hwc_1⟩)
  · skip
    refine g_iconst (v := nI 1) (q := 9) B dX3_meanBoxes_8 rfl (by decide) ?_
    refine g_goto (tgt := 13) B dX3_meanBoxes_9 (by decide) ?_
    refine g_callV (q := 16) (is := [0]) (kc2 := 10) (ks2 := 60) B [.int (nI 1)] (ct_X3_isWrong g J (m := m) (ls := ls) (lb := lb) (lk := lk) (lp := lp) (lr := lr) (le := le) (lm := lm) (lo := lo) (th := dTh D) (z := dZz D) (bo := dBn D) (cm := dCm D) (k := 1)  (by decide)) dX3_meanBoxes_13 rfl (rc_at B (ci := 12) rfl (k := 0) rfl) rfl q3103 q3105 qs49 q85 q3106 rfl rfl moX3_isWrong rfl rfl (by decide) (by decide) (Nat.le_of_ble_eq_true rfl) (Nat.le_of_ble_eq_true rfl) (Nat.le_of_ble_eq_true rfl) (fun _ _ hx => noX_x hx) (fun v13 L1 hp13 => ?_)
    obtain ⟨rfl, rfl⟩ := hp13
    refine (show Go g κ 16 [some (.ref m)] [.int (nI (if ¬ 1 = 0 then 1 else 0))] [v0, v1, v2, v3, v4, v5, v6, v7, [(m, .inr (12, [.ref ls, .ref lb, .ref lk, .ref lp, .ref lr, .ref le, .ref lm, .ref lo, .int (nI 1), .int (dZz D), .int (nI (dBn D)), .int (nI (dCm D))]))]] 10 60 from ?_)
    refine g_if_eq (tgt := 23) (q := 19) B dX3_meanBoxes_16 rfl (by decide) (iff_false_intro (by decide)) (fun z => z.elim) (fun _ => ?_)
    exact absurd (Classical.not_not.mp c5) hc0
