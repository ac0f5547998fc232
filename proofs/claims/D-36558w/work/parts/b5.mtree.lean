set_option maxRecDepth 100000
/-- all late leaves are leaves of the tree -/
def LtB (T : TrS) : Prop := ∀ n, ltL (T.2.2.1 n) 16 = ltL (T.2.2.1 n) (2 ^ T.1)
def abq (l k n : Nat) : Bool := decide (n < k) && (decide (0 < lev n) && cvr n l)
theorem abq_0 (l n : Nat) : abq l 0 n = false := by unfold abq; simp
theorem abq_y {l k : Nat} (h1 : 0 < lev k) (h2 : cvr k l = true) (n : Nat) : abq l (k + 1) n = true ↔ abq l k n = true ∨ n = k := by
  unfold abq
  simp only [Bool.and_eq_true, decide_eq_true_iff]
  constructor
  · rintro ⟨a, b⟩
    rcases Nat.lt_or_ge n k with z | z
    · exact Or.inl ⟨z, b⟩
    · exact Or.inr (by omega)
  · rintro (⟨a, b⟩ | rfl)
    · exact ⟨by omega, b⟩
    · exact ⟨by omega, h1, h2⟩
theorem abq_n {l k : Nat} (h : ¬ (0 < lev k ∧ cvr k l = true)) : abq l (k + 1) = abq l k := by
  funext n
  unfold abq
  rw [Bool.eq_iff_iff]
  simp only [Bool.and_eq_true, decide_eq_true_iff]
  constructor
  · rintro ⟨a, b⟩
    rcases Nat.lt_or_ge n k with z | z
    · exact ⟨z, b⟩
    · rw [show n = k by omega] at b; exact absurd b h
  · rintro ⟨a, b⟩
    exact ⟨by omega, b⟩
theorem abq_e0 : ∀ d, d < 5 → ∀ l, l < 16 → ∀ n, n < 31 → (!(decide (l < 2 ^ d)) || (abq l (2 * 2 ^ d - 1) n == inW d l n)) = true := by decide +kernel
theorem abq_e {d l : Nat} (hd : d ≤ 4) (hl : l < 2 ^ d) : abq l (2 * 2 ^ d - 1) = inW d l := by
  funext n
  have hp := p2_4 hd
  rcases Nat.lt_or_ge n 31 with z | z
  · have h := abq_e0 d (by omega) l (by omega) n z
    simpa [hl] using h
  · have h1 : abq l (2 * 2 ^ d - 1) n = false := by unfold abq; simp; omega
    have h2 : inW d l n = false := by
      cases e : inW d l n with
      | false => rfl
      | true => have := inW_lt hd (by omega) e; omega
    rw [h1, h2]
theorem EpP.b {g : Gv} {e : Nat} {r : MeS} {w : va_W} (h : EpP g e r w) : MeB r := by
  obtain ⟨_, _, _, _, _, _, _, _, _, _, _, _, _, _, h, -⟩ := h
  exact h
theorem EpP.b2 {g : Gv} {e : Nat} {r : MeS} {w : va_W} (h : Sub (EpP g e r) w) : MeB r := by
  obtain ⟨u, R, -, h⟩ := h
  exact h.b
theorem MeB.tr {r : MeS} (h : MeB r) {T : TrS} (hT : TrB T) : MeB ((eNo r, T, eGo r, eKy r, eCh r, eWy r, eRm r, ePk r) : MeS) := ⟨h.1, hT, h.2.2⟩
theorem ct_X13_init (g : Gv) (J : Jd g) {e : Nat} {no : Nat} : Ct g yX13_init (ws_ yX13_init cX13_init 3 none) 1 7 157 [.ref e, .int (nI no)] [[(e, .inr (16, [.int (nI 0), .int (nI 0), .int (nI 0), .int (nI 0), .null, .null, .null, .null, .null, .null, .null]))]] (fun (rv_ : Option Value) (rL_ : List va_W) => ∃ (ap : Nat) (an : Nat) (al : Nat) (ac : Nat) (aw : Nat) (am : Nat) (ak : Nat) (fp : Nat → Int32) (fn : Nat → Int32) (fl : Nat → Int32) (fc : Nat → Int32) (fw : Nat → Int32) (fm : Nat → Int32) (fk : Nat → Int32), rv_ = none ∧ rL_ = [[(e, .inr (16, [.int (nI no), .int (nI 0), .int (nI 0), .int (nI 0), .ref ap, .ref an, .ref al, .ref ac, .ref aw, .ref am, .ref ak]))], [(ap, .inl (g.2.1 0, 16, .inl fp))], [(an, .inl (g.2.1 0, 31, .inl fn))], [(al, .inl (g.2.1 0, 31, .inl fl))], [(ac, .inl (g.2.1 0, 16, .inl fc))], [(aw, .inl (g.2.1 4, 31, .inl fw))], [(am, .inl (g.2.1 4, 16, .inl fm))], [(ak, .inl (g.2.1 0, 16, .inl fk))]] ∧ (∀ i, i < 16 → fp i = -1) ∧ (∀ i, i < 31 → fn i = -1) ∧ (∀ i, i < 31 → fl i = 0) ∧ (∀ i, i < 16 → fc i = -1) ∧ (∀ i, i < 31 → fw i = 0) ∧ (∀ i, i < 16 → fm i = 0) ∧ (∀ i, i < 16 → fk i = -1)) noX := by
  refine Ct.ofI "KeygroveModel$Epoch" [some (.ref e), some (.int (nI no)), none] rfl (by decide) rfl (Nat.le_of_ble_eq_true rfl) rfl rfl ?_
  intro κ B E tb ini
  refine g_aload_n (q := 1) B dX13_init_0 rfl rfl (rv_r _) ?_
  refine g_objInit (q := 4) B q3253 q157 q158 dX13_init_1 rfl rfl (Nat.le_of_ble_eq_true rfl) ?_
  refine g_aload_n (q := 5) B dX13_init_4 rfl rfl (rv_r _) ?_
  refine g_bipush (v := nI 16) (q := 7) B dX13_init_5 rfl (by decide) ?_
  refine g_newa (atype := .int) (q := 9) (kc2 := 6) (ks2 := 141) (t := 0) (a0 := (16, .inl (fun _ => 0))) B q2055 rfl rfl dX13_init_7 rfl na_int (by decide) rfl (by decide) (Nat.le_of_ble_eq_true rfl) (Nat.le_of_ble_eq_true rfl) (fun n7 => ?_)
  refine (show Go g κ 9 [some (.ref e), some (.int (nI no)), none] [.ref n7, .ref e] [[(e, .inr (16, [.int (nI 0), .int (nI 0), .int (nI 0), .int (nI 0), .null, .null, .null, .null, .null, .null, .null]))], [(n7, .inl (g.2.1 0, 16, .inl (fun _ => 0)))]] 6 141 from ?_)
  refine g_putF (q := 12) (L2 := [[(e, .inr (16, [.int (nI 0), .int (nI 0), .int (nI 0), .int (nI 0), .ref n7, .null, .null, .null, .null, .null, .null]))], [(n7, .inl (g.2.1 0, 16, .inl (fun _ => 0)))]]) B (ci := 16) (k := 0) (j := 4) in_X13 tyX13 tyX13_ok nmX13 rfl dX13_init_9 rfl rfl (Nat.le_of_ble_eq_true rfl) q3260 rfl rfl (ini) rfl rfl rfl (Nat.le_of_ble_eq_true rfl) rfl ?_
  refine g_aload_n (q := 13) B dX13_init_12 rfl rfl (rv_r _) ?_
  refine g_bipush (v := nI 31) (q := 15) B dX13_init_13 rfl (by decide) ?_
  refine g_newa (atype := .int) (q := 17) (kc2 := 5) (ks2 := 110) (t := 0) (a0 := (31, .inl (fun _ => 0))) B q2055 rfl rfl dX13_init_15 rfl na_int (by decide) rfl (by decide) (Nat.le_of_ble_eq_true rfl) (Nat.le_of_ble_eq_true rfl) (fun n15 => ?_)
  refine (show Go g κ 17 [some (.ref e), some (.int (nI no)), none] [.ref n15, .ref e] [[(e, .inr (16, [.int (nI 0), .int (nI 0), .int (nI 0), .int (nI 0), .ref n7, .null, .null, .null, .null, .null, .null]))], [(n7, .inl (g.2.1 0, 16, .inl (fun _ => 0)))], [(n15, .inl (g.2.1 0, 31, .inl (fun _ => 0)))]] 5 110 from ?_)
  refine g_putF (q := 20) (L2 := [[(e, .inr (16, [.int (nI 0), .int (nI 0), .int (nI 0), .int (nI 0), .ref n7, .ref n15, .null, .null, .null, .null, .null]))], [(n7, .inl (g.2.1 0, 16, .inl (fun _ => 0)))], [(n15, .inl (g.2.1 0, 31, .inl (fun _ => 0)))]]) B (ci := 16) (k := 0) (j := 5) in_X13 tyX13 tyX13_ok nmX13 rfl dX13_init_17 rfl rfl (Nat.le_of_ble_eq_true rfl) q3262 rfl rfl (ini) rfl rfl rfl (Nat.le_of_ble_eq_true rfl) rfl ?_
  refine g_aload_n (q := 21) B dX13_init_20 rfl rfl (rv_r _) ?_
  refine g_bipush (v := nI 31) (q := 23) B dX13_init_21 rfl (by decide) ?_
  refine g_newa (atype := .int) (q := 25) (kc2 := 4) (ks2 := 79) (t := 0) (a0 := (31, .inl (fun _ => 0))) B q2055 rfl rfl dX13_init_23 rfl na_int (by decide) rfl (by decide) (Nat.le_of_ble_eq_true rfl) (Nat.le_of_ble_eq_true rfl) (fun n23 => ?_)
  refine (show Go g κ 25 [some (.ref e), some (.int (nI no)), none] [.ref n23, .ref e] [[(e, .inr (16, [.int (nI 0), .int (nI 0), .int (nI 0), .int (nI 0), .ref n7, .ref n15, .null, .null, .null, .null, .null]))], [(n7, .inl (g.2.1 0, 16, .inl (fun _ => 0)))], [(n15, .inl (g.2.1 0, 31, .inl (fun _ => 0)))], [(n23, .inl (g.2.1 0, 31, .inl (fun _ => 0)))]] 4 79 from ?_)
  refine g_putF (q := 28) (L2 := [[(e, .inr (16, [.int (nI 0), .int (nI 0), .int (nI 0), .int (nI 0), .ref n7, .ref n15, .ref n23, .null, .null, .null, .null]))], [(n7, .inl (g.2.1 0, 16, .inl (fun _ => 0)))], [(n15, .inl (g.2.1 0, 31, .inl (fun _ => 0)))], [(n23, .inl (g.2.1 0, 31, .inl (fun _ => 0)))]]) B (ci := 16) (k := 0) (j := 6) in_X13 tyX13 tyX13_ok nmX13 rfl dX13_init_25 rfl rfl (Nat.le_of_ble_eq_true rfl) q3264 rfl rfl (ini) rfl rfl rfl (Nat.le_of_ble_eq_true rfl) rfl ?_
  refine g_aload_n (q := 29) B dX13_init_28 rfl rfl (rv_r _) ?_
  refine g_bipush (v := nI 16) (q := 31) B dX13_init_29 rfl (by decide) ?_
  refine g_newa (atype := .int) (q := 33) (kc2 := 3) (ks2 := 63) (t := 0) (a0 := (16, .inl (fun _ => 0))) B q2055 rfl rfl dX13_init_31 rfl na_int (by decide) rfl (by decide) (Nat.le_of_ble_eq_true rfl) (Nat.le_of_ble_eq_true rfl) (fun n31 => ?_)
  refine (show Go g κ 33 [some (.ref e), some (.int (nI no)), none] [.ref n31, .ref e] [[(e, .inr (16, [.int (nI 0), .int (nI 0), .int (nI 0), .int (nI 0), .ref n7, .ref n15, .ref n23, .null, .null, .null, .null]))], [(n7, .inl (g.2.1 0, 16, .inl (fun _ => 0)))], [(n15, .inl (g.2.1 0, 31, .inl (fun _ => 0)))], [(n23, .inl (g.2.1 0, 31, .inl (fun _ => 0)))], [(n31, .inl (g.2.1 0, 16, .inl (fun _ => 0)))]] 3 63 from ?_)
  refine g_putF (q := 36) (L2 := [[(e, .inr (16, [.int (nI 0), .int (nI 0), .int (nI 0), .int (nI 0), .ref n7, .ref n15, .ref n23, .ref n31, .null, .null, .null]))], [(n7, .inl (g.2.1 0, 16, .inl (fun _ => 0)))], [(n15, .inl (g.2.1 0, 31, .inl (fun _ => 0)))], [(n23, .inl (g.2.1 0, 31, .inl (fun _ => 0)))], [(n31, .inl (g.2.1 0, 16, .inl (fun _ => 0)))]]) B (ci := 16) (k := 0) (j := 7) in_X13 tyX13 tyX13_ok nmX13 rfl dX13_init_33 rfl rfl (Nat.le_of_ble_eq_true rfl) q3266 rfl rfl (ini) rfl rfl rfl (Nat.le_of_ble_eq_true rfl) rfl ?_
  refine g_aload_n (q := 37) B dX13_init_36 rfl rfl (rv_r _) ?_
  refine g_bipush (v := nI 31) (q := 39) B dX13_init_37 rfl (by decide) ?_
  refine g_newa (atype := .boolean) (q := 41) (kc2 := 2) (ks2 := 32) (t := 4) (a0 := (31, .inl (fun _ => 0))) B q3297 rfl rfl dX13_init_39 rfl na_boolean (by decide) rfl (by decide) (Nat.le_of_ble_eq_true rfl) (Nat.le_of_ble_eq_true rfl) (fun n39 => ?_)
  refine (show Go g κ 41 [some (.ref e), some (.int (nI no)), none] [.ref n39, .ref e] [[(e, .inr (16, [.int (nI 0), .int (nI 0), .int (nI 0), .int (nI 0), .ref n7, .ref n15, .ref n23, .ref n31, .null, .null, .null]))], [(n7, .inl (g.2.1 0, 16, .inl (fun _ => 0)))], [(n15, .inl (g.2.1 0, 31, .inl (fun _ => 0)))], [(n23, .inl (g.2.1 0, 31, .inl (fun _ => 0)))], [(n31, .inl (g.2.1 0, 16, .inl (fun _ => 0)))], [(n39, .inl (g.2.1 4, 31, .inl (fun _ => 0)))]] 2 32 from ?_)
  refine g_putF (q := 44) (L2 := [[(e, .inr (16, [.int (nI 0), .int (nI 0), .int (nI 0), .int (nI 0), .ref n7, .ref n15, .ref n23, .ref n31, .ref n39, .null, .null]))], [(n7, .inl (g.2.1 0, 16, .inl (fun _ => 0)))], [(n15, .inl (g.2.1 0, 31, .inl (fun _ => 0)))], [(n23, .inl (g.2.1 0, 31, .inl (fun _ => 0)))], [(n31, .inl (g.2.1 0, 16, .inl (fun _ => 0)))], [(n39, .inl (g.2.1 4, 31, .inl (fun _ => 0)))]]) B (ci := 16) (k := 0) (j := 8) in_X13 tyX13 tyX13_ok nmX13 rfl dX13_init_41 rfl rfl (Nat.le_of_ble_eq_true rfl) q3268 rfl rfl (ini) rfl rfl rfl (Nat.le_of_ble_eq_true rfl) rfl ?_
  refine g_aload_n (q := 45) B dX13_init_44 rfl rfl (rv_r _) ?_
  refine g_bipush (v := nI 16) (q := 47) B dX13_init_45 rfl (by decide) ?_
  refine g_newa (atype := .boolean) (q := 49) (kc2 := 1) (ks2 := 16) (t := 4) (a0 := (16, .inl (fun _ => 0))) B q3297 rfl rfl dX13_init_47 rfl na_boolean (by decide) rfl (by decide) (Nat.le_of_ble_eq_true rfl) (Nat.le_of_ble_eq_true rfl) (fun n47 => ?_)
  refine (show Go g κ 49 [some (.ref e), some (.int (nI no)), none] [.ref n47, .ref e] [[(e, .inr (16, [.int (nI 0), .int (nI 0), .int (nI 0), .int (nI 0), .ref n7, .ref n15, .ref n23, .ref n31, .ref n39, .null, .null]))], [(n7, .inl (g.2.1 0, 16, .inl (fun _ => 0)))], [(n15, .inl (g.2.1 0, 31, .inl (fun _ => 0)))], [(n23, .inl (g.2.1 0, 31, .inl (fun _ => 0)))], [(n31, .inl (g.2.1 0, 16, .inl (fun _ => 0)))], [(n39, .inl (g.2.1 4, 31, .inl (fun _ => 0)))], [(n47, .inl (g.2.1 4, 16, .inl (fun _ => 0)))]] 1 16 from ?_)
  refine g_putF (q := 52) (L2 := [[(e, .inr (16, [.int (nI 0), .int (nI 0), .int (nI 0), .int (nI 0), .ref n7, .ref n15, .ref n23, .ref n31, .ref n39, .ref n47, .null]))], [(n7, .inl (g.2.1 0, 16, .inl (fun _ => 0)))], [(n15, .inl (g.2.1 0, 31, .inl (fun _ => 0)))], [(n23, .inl (g.2.1 0, 31, .inl (fun _ => 0)))], [(n31, .inl (g.2.1 0, 16, .inl (fun _ => 0)))], [(n39, .inl (g.2.1 4, 31, .inl (fun _ => 0)))], [(n47, .inl (g.2.1 4, 16, .inl (fun _ => 0)))]]) B (ci := 16) (k := 0) (j := 9) in_X13 tyX13 tyX13_ok nmX13 rfl dX13_init_49 rfl rfl (Nat.le_of_ble_eq_true rfl) q3270 rfl rfl (ini) rfl rfl rfl (Nat.le_of_ble_eq_true rfl) rfl ?_
  refine g_aload_n (q := 53) B dX13_init_52 rfl rfl (rv_r _) ?_
  refine g_bipush (v := nI 16) (q := 55) B dX13_init_53 rfl (by decide) ?_
  refine g_newa (atype := .int) (q := 57) (kc2 := 0) (ks2 := 0) (t := 0) (a0 := (16, .inl (fun _ => 0))) B q2055 rfl rfl dX13_init_55 rfl na_int (by decide) rfl (by decide) (Nat.le_of_ble_eq_true rfl) (Nat.le_of_ble_eq_true rfl) (fun n55 => ?_)
  refine (show Go g κ 57 [some (.ref e), some (.int (nI no)), none] [.ref n55, .ref e] [[(e, .inr (16, [.int (nI 0), .int (nI 0), .int (nI 0), .int (nI 0), .ref n7, .ref n15, .ref n23, .ref n31, .ref n39, .ref n47, .null]))], [(n7, .inl (g.2.1 0, 16, .inl (fun _ => 0)))], [(n15, .inl (g.2.1 0, 31, .inl (fun _ => 0)))], [(n23, .inl (g.2.1 0, 31, .inl (fun _ => 0)))], [(n31, .inl (g.2.1 0, 16, .inl (fun _ => 0)))], [(n39, .inl (g.2.1 4, 31, .inl (fun _ => 0)))], [(n47, .inl (g.2.1 4, 16, .inl (fun _ => 0)))], [(n55, .inl (g.2.1 0, 16, .inl (fun _ => 0)))]] 0 0 from ?_)
  refine g_putF (q := 60) (L2 := [[(e, .inr (16, [.int (nI 0), .int (nI 0), .int (nI 0), .int (nI 0), .ref n7, .ref n15, .ref n23, .ref n31, .ref n39, .ref n47, .ref n55]))], [(n7, .inl (g.2.1 0, 16, .inl (fun _ => 0)))], [(n15, .inl (g.2.1 0, 31, .inl (fun _ => 0)))], [(n23, .inl (g.2.1 0, 31, .inl (fun _ => 0)))], [(n31, .inl (g.2.1 0, 16, .inl (fun _ => 0)))], [(n39, .inl (g.2.1 4, 31, .inl (fun _ => 0)))], [(n47, .inl (g.2.1 4, 16, .inl (fun _ => 0)))], [(n55, .inl (g.2.1 0, 16, .inl (fun _ => 0)))]]) B (ci := 16) (k := 0) (j := 10) in_X13 tyX13 tyX13_ok nmX13 rfl dX13_init_57 rfl rfl (Nat.le_of_ble_eq_true rfl) q3272 rfl rfl (ini) rfl rfl rfl (Nat.le_of_ble_eq_true rfl) rfl ?_
  refine g_aload_n (q := 61) B dX13_init_60 rfl rfl (rv_r _) ?_
  refine g_iload_n (q := 62) B dX13_init_61 rfl rfl ?_
  refine g_putF (q := 65) (L2 := [[(e, .inr (16, [.int (nI no), .int (nI 0), .int (nI 0), .int (nI 0), .ref n7, .ref n15, .ref n23, .ref n31, .ref n39, .ref n47, .ref n55]))], [(n7, .inl (g.2.1 0, 16, .inl (fun _ => 0)))], [(n15, .inl (g.2.1 0, 31, .inl (fun _ => 0)))], [(n23, .inl (g.2.1 0, 31, .inl (fun _ => 0)))], [(n31, .inl (g.2.1 0, 16, .inl (fun _ => 0)))], [(n39, .inl (g.2.1 4, 31, .inl (fun _ => 0)))], [(n47, .inl (g.2.1 4, 16, .inl (fun _ => 0)))], [(n55, .inl (g.2.1 0, 16, .inl (fun _ => 0)))]]) B (ci := 16) (k := 0) (j := 0) in_X13 tyX13 tyX13_ok nmX13 rfl dX13_init_62 rfl rfl (Nat.le_of_ble_eq_true rfl) q3254 rfl rfl (ini) rfl rfl rfl (Nat.le_of_ble_eq_true rfl) rfl ?_
  refine g_iconst (v := nI 0) (q := 66) B dX13_init_65 rfl (by decide) ?_
  refine g_istore_n (q := 67) (lv2 := [some (.ref e), some (.int (nI no)), some (.int (nI 0))]) B dX13_init_66 rfl (Nat.le_of_ble_eq_true rfl) rfl ?_
  have lp67 : ∀ (n67 : Nat) (k : Nat) (f1 : Nat → Int32) (f2 : Nat → Int32) (f3 : Nat → Int32) , (k ≤ 16) → (∀ i, i < k → f1 i = -1) → (∀ i, i < k → f2 i = -1) → (∀ i, i < k → f3 i = -1) → 16 - k = n67 → Go g κ 67 [some (.ref e), some (.int (nI no)), some (.int (nI k))] [] [[(e, .inr (16, [.int (nI no), .int (nI 0), .int (nI 0), .int (nI 0), .ref n7, .ref n15, .ref n23, .ref n31, .ref n39, .ref n47, .ref n55]))], [(n7, .inl (g.2.1 0, 16, .inl f1))], [(n15, .inl (g.2.1 0, 31, .inl (fun _ => 0)))], [(n23, .inl (g.2.1 0, 31, .inl (fun _ => 0)))], [(n31, .inl (g.2.1 0, 16, .inl f2))], [(n39, .inl (g.2.1 4, 31, .inl (fun _ => 0)))], [(n47, .inl (g.2.1 4, 16, .inl (fun _ => 0)))], [(n55, .inl (g.2.1 0, 16, .inl f3))]] 0 0 := by
    intro n67
    induction n67 using Nat.strongRecOn with
    | _ n67 ih67 =>
    intro k f1 f2 f3  hk h1 h2 h3 hmu67
    refine g_iload_n (q := 68) B dX13_init_67 rfl rfl ?_
    refine g_bipush (v := nI 16) (q := 70) B dX13_init_68 rfl (by decide) ?_
    refine g_icmp_ge (tgt := 100) (q := 73) B dX13_init_70 rfl (by decide) (nI_leI (by omega) (by omega)) (fun c70 => ?_) (fun c70 => ?_)
    · skip
      have g1 : ∀ i, i < 16 → f1 i = -1 := fun i hi => h1 i (by omega)
      have g2 : ∀ i, i < 16 → f2 i = -1 := fun i hi => h2 i (by omega)
      have g3 : ∀ i, i < 16 → f3 i = -1 := fun i hi => h3 i (by omega)
      refine g_iconst (v := nI 0) (q := 101) B dX13_init_100 rfl (by decide) ?_
      refine g_istore_n (q := 102) (lv2 := [some (.ref e), some (.int (nI no)), some (.int (nI 0))]) B dX13_init_101 rfl (Nat.le_of_ble_eq_true rfl) rfl ?_
      have lp102 : ∀ (n102 : Nat) (k : Nat) (f4 : Nat → Int32) , (k ≤ 31) → (∀ i, i < k → f4 i = -1) → 31 - k = n102 → Go g κ 102 [some (.ref e), some (.int (nI no)), some (.int (nI k))] [] [[(e, .inr (16, [.int (nI no), .int (nI 0), .int (nI 0), .int (nI 0), .ref n7, .ref n15, .ref n23, .ref n31, .ref n39, .ref n47, .ref n55]))], [(n7, .inl (g.2.1 0, 16, .inl f1))], [(n15, .inl (g.2.1 0, 31, .inl f4))], [(n23, .inl (g.2.1 0, 31, .inl (fun _ => 0)))], [(n31, .inl (g.2.1 0, 16, .inl f2))], [(n39, .inl (g.2.1 4, 31, .inl (fun _ => 0)))], [(n47, .inl (g.2.1 4, 16, .inl (fun _ => 0)))], [(n55, .inl (g.2.1 0, 16, .inl f3))]] 0 0 := by
        intro n102
        induction n102 using Nat.strongRecOn with
        | _ n102 ih102 =>
        intro k f4  hk h4 hmu102
        refine g_iload_n (q := 103) B dX13_init_102 rfl rfl ?_
        refine g_bipush (v := nI 31) (q := 105) B dX13_init_103 rfl (by decide) ?_
        refine g_icmp_ge (tgt := 121) (q := 108) B dX13_init_105 rfl (by decide) (nI_leI (by omega) (by omega)) (fun c105 => ?_) (fun c105 => ?_)
        · skip
          exact g_vret B E dX13_init_121 (⟨n7, n15, n23, n31, n39, n47, n55, f1, f4, fun _ => 0, f2, fun _ => 0, fun _ => 0, f3, rfl, rfl, (g1), (fun i hi => h4 i (by omega)), (fun _ _ => rfl), (g2), (fun _ _ => rfl), (fun _ _ => rfl), (g3)⟩)
        · skip
          refine g_aload_n (q := 109) B dX13_init_108 rfl rfl (rv_r _) ?_
          refine g_get (q := 112) B (ci := 16) (k := 0) (j := 5) in_X13 rfl dX13_init_109 rfl rfl (Nat.le_of_ble_eq_true rfl) q3262 rfl rfl ?_
          refine g_iload_n (q := 113) B dX13_init_112 rfl rfl ?_
          refine g_iconst (v := -1) (q := 114) B dX13_init_113 rfl (by decide) ?_
          refine g_iast (q := 115) (L2 := [[(e, .inr (16, [.int (nI no), .int (nI 0), .int (nI 0), .int (nI 0), .ref n7, .ref n15, .ref n23, .ref n31, .ref n39, .ref n47, .ref n55]))], [(n7, .inl (g.2.1 0, 16, .inl f1))], [(n15, .inl (g.2.1 0, 31, .inl (upd f4 k (-1))))], [(n23, .inl (g.2.1 0, 31, .inl (fun _ => 0)))], [(n31, .inl (g.2.1 0, 16, .inl f2))], [(n39, .inl (g.2.1 4, 31, .inl (fun _ => 0)))], [(n47, .inl (g.2.1 4, 16, .inl (fun _ => 0)))], [(n55, .inl (g.2.1 0, 16, .inl f3))]]) B (k := 2) dX13_init_114 rfl rfl (vp_in_nI (by omega) (by omega)) (by rw [nI_clamp (by omega)] <;> rfl) ?_
          have hn114 : ∀ i, i < k + 1 → (upd f4 k (-1)) i = -1 := by
            intro i hi
            unfold upd
            split
            · rfl
            · exact h4 i (by omega)
          generalize upd f4 k (-1) = f114 at hn114 ⊢
          refine (show Go g κ 115 [some (.ref e), some (.int (nI no)), some (.int (nI k))] [] [[(e, .inr (16, [.int (nI no), .int (nI 0), .int (nI 0), .int (nI 0), .ref n7, .ref n15, .ref n23, .ref n31, .ref n39, .ref n47, .ref n55]))], [(n7, .inl (g.2.1 0, 16, .inl f1))], [(n15, .inl (g.2.1 0, 31, .inl f114))], [(n23, .inl (g.2.1 0, 31, .inl (fun _ => 0)))], [(n31, .inl (g.2.1 0, 16, .inl f2))], [(n39, .inl (g.2.1 4, 31, .inl (fun _ => 0)))], [(n47, .inl (g.2.1 4, 16, .inl (fun _ => 0)))], [(n55, .inl (g.2.1 0, 16, .inl f3))]] 0 0 from ?_)
          refine g_iinc (v := nI (k + 1)) (q := 118) (lv2 := [some (.ref e), some (.int (nI no)), some (.int (nI (k + 1)))]) B dX13_init_115 rfl rfl (nI_add _ 1) (Nat.le_of_ble_eq_true rfl) rfl ?_
          refine g_goto (tgt := 102) B dX13_init_118 (by decide) ?_
          exact ih102 _ (by omega) (k + 1) f114 (by omega) (hn114) rfl
      exact lp102 _ 0 (fun _ => 0) (Nat.zero_le _) (fun i h => absurd h (Nat.not_lt_zero i)) rfl
    · skip
      refine g_aload_n (q := 74) B dX13_init_73 rfl rfl (rv_r _) ?_
      refine g_get (q := 77) B (ci := 16) (k := 0) (j := 4) in_X13 rfl dX13_init_74 rfl rfl (Nat.le_of_ble_eq_true rfl) q3260 rfl rfl ?_
      refine g_iload_n (q := 78) B dX13_init_77 rfl rfl ?_
      refine g_iconst (v := -1) (q := 79) B dX13_init_78 rfl (by decide) ?_
      refine g_iast (q := 80) (L2 := [[(e, .inr (16, [.int (nI no), .int (nI 0), .int (nI 0), .int (nI 0), .ref n7, .ref n15, .ref n23, .ref n31, .ref n39, .ref n47, .ref n55]))], [(n7, .inl (g.2.1 0, 16, .inl (upd f1 k (-1))))], [(n15, .inl (g.2.1 0, 31, .inl (fun _ => 0)))], [(n23, .inl (g.2.1 0, 31, .inl (fun _ => 0)))], [(n31, .inl (g.2.1 0, 16, .inl f2))], [(n39, .inl (g.2.1 4, 31, .inl (fun _ => 0)))], [(n47, .inl (g.2.1 4, 16, .inl (fun _ => 0)))], [(n55, .inl (g.2.1 0, 16, .inl f3))]]) B (k := 1) dX13_init_79 rfl rfl (vp_in_nI (by omega) (by omega)) (by rw [nI_clamp (by omega)] <;> rfl) ?_
      have hn79 : ∀ i, i < k + 1 → (upd f1 k (-1)) i = -1 := by
        intro i hi
        unfold upd
        split
        · rfl
        · exact h1 i (by omega)
      generalize upd f1 k (-1) = f79 at hn79 ⊢
      refine (show Go g κ 80 [some (.ref e), some (.int (nI no)), some (.int (nI k))] [] [[(e, .inr (16, [.int (nI no), .int (nI 0), .int (nI 0), .int (nI 0), .ref n7, .ref n15, .ref n23, .ref n31, .ref n39, .ref n47, .ref n55]))], [(n7, .inl (g.2.1 0, 16, .inl f79))], [(n15, .inl (g.2.1 0, 31, .inl (fun _ => 0)))], [(n23, .inl (g.2.1 0, 31, .inl (fun _ => 0)))], [(n31, .inl (g.2.1 0, 16, .inl f2))], [(n39, .inl (g.2.1 4, 31, .inl (fun _ => 0)))], [(n47, .inl (g.2.1 4, 16, .inl (fun _ => 0)))], [(n55, .inl (g.2.1 0, 16, .inl f3))]] 0 0 from ?_)
      refine g_aload_n (q := 81) B dX13_init_80 rfl rfl (rv_r _) ?_
      refine g_get (q := 84) B (ci := 16) (k := 0) (j := 7) in_X13 rfl dX13_init_81 rfl rfl (Nat.le_of_ble_eq_true rfl) q3266 rfl rfl ?_
      refine g_iload_n (q := 85) B dX13_init_84 rfl rfl ?_
      refine g_iconst (v := -1) (q := 86) B dX13_init_85 rfl (by decide) ?_
      refine g_iast (q := 87) (L2 := [[(e, .inr (16, [.int (nI no), .int (nI 0), .int (nI 0), .int (nI 0), .ref n7, .ref n15, .ref n23, .ref n31, .ref n39, .ref n47, .ref n55]))], [(n7, .inl (g.2.1 0, 16, .inl f79))], [(n15, .inl (g.2.1 0, 31, .inl (fun _ => 0)))], [(n23, .inl (g.2.1 0, 31, .inl (fun _ => 0)))], [(n31, .inl (g.2.1 0, 16, .inl (upd f2 k (-1))))], [(n39, .inl (g.2.1 4, 31, .inl (fun _ => 0)))], [(n47, .inl (g.2.1 4, 16, .inl (fun _ => 0)))], [(n55, .inl (g.2.1 0, 16, .inl f3))]]) B (k := 4) dX13_init_86 rfl rfl (vp_in_nI (by omega) (by omega)) (by rw [nI_clamp (by omega)] <;> rfl) ?_
      have hn86 : ∀ i, i < k + 1 → (upd f2 k (-1)) i = -1 := by
        intro i hi
        unfold upd
        split
        · rfl
        · exact h2 i (by omega)
      generalize upd f2 k (-1) = f86 at hn86 ⊢
      refine (show Go g κ 87 [some (.ref e), some (.int (nI no)), some (.int (nI k))] [] [[(e, .inr (16, [.int (nI no), .int (nI 0), .int (nI 0), .int (nI 0), .ref n7, .ref n15, .ref n23, .ref n31, .ref n39, .ref n47, .ref n55]))], [(n7, .inl (g.2.1 0, 16, .inl f79))], [(n15, .inl (g.2.1 0, 31, .inl (fun _ => 0)))], [(n23, .inl (g.2.1 0, 31, .inl (fun _ => 0)))], [(n31, .inl (g.2.1 0, 16, .inl f86))], [(n39, .inl (g.2.1 4, 31, .inl (fun _ => 0)))], [(n47, .inl (g.2.1 4, 16, .inl (fun _ => 0)))], [(n55, .inl (g.2.1 0, 16, .inl f3))]] 0 0 from ?_)
      refine g_aload_n (q := 88) B dX13_init_87 rfl rfl (rv_r _) ?_
      refine g_get (q := 91) B (ci := 16) (k := 0) (j := 10) in_X13 rfl dX13_init_88 rfl rfl (Nat.le_of_ble_eq_true rfl) q3272 rfl rfl ?_
      refine g_iload_n (q := 92) B dX13_init_91 rfl rfl ?_
      refine g_iconst (v := -1) (q := 93) B dX13_init_92 rfl (by decide) ?_
      refine g_iast (q := 94) (L2 := [[(e, .inr (16, [.int (nI no), .int (nI 0), .int (nI 0), .int (nI 0), .ref n7, .ref n15, .ref n23, .ref n31, .ref n39, .ref n47, .ref n55]))], [(n7, .inl (g.2.1 0, 16, .inl f79))], [(n15, .inl (g.2.1 0, 31, .inl (fun _ => 0)))], [(n23, .inl (g.2.1 0, 31, .inl (fun _ => 0)))], [(n31, .inl (g.2.1 0, 16, .inl f86))], [(n39, .inl (g.2.1 4, 31, .inl (fun _ => 0)))], [(n47, .inl (g.2.1 4, 16, .inl (fun _ => 0)))], [(n55, .inl (g.2.1 0, 16, .inl (upd f3 k (-1))))]]) B (k := 7) dX13_init_93 rfl rfl (vp_in_nI (by omega) (by omega)) (by rw [nI_clamp (by omega)] <;> rfl) ?_
      have hn93 : ∀ i, i < k + 1 → (upd f3 k (-1)) i = -1 := by
        intro i hi
        unfold upd
        split
        · rfl
        · exact h3 i (by omega)
      generalize upd f3 k (-1) = f93 at hn93 ⊢
      refine (show Go g κ 94 [some (.ref e), some (.int (nI no)), some (.int (nI k))] [] [[(e, .inr (16, [.int (nI no), .int (nI 0), .int (nI 0), .int (nI 0), .ref n7, .ref n15, .ref n23, .ref n31, .ref n39, .ref n47, .ref n55]))], [(n7, .inl (g.2.1 0, 16, .inl f79))], [(n15, .inl (g.2.1 0, 31, .inl (fun _ => 0)))], [(n23, .inl (g.2.1 0, 31, .inl (fun _ => 0)))], [(n31, .inl (g.2.1 0, 16, .inl f86))], [(n39, .inl (g.2.1 4, 31, .inl (fun _ => 0)))], [(n47, .inl (g.2.1 4, 16, .inl (fun _ => 0)))], [(n55, .inl (g.2.1 0, 16, .inl f93))]] 0 0 from ?_)
      refine g_iinc (v := nI (k + 1)) (q := 97) (lv2 := [some (.ref e), some (.int (nI no)), some (.int (nI (k + 1)))]) B dX13_init_94 rfl rfl (nI_add _ 1) (Nat.le_of_ble_eq_true rfl) rfl ?_
      refine g_goto (tgt := 67) B dX13_init_97 (by decide) ?_
      exact ih67 _ (by omega) (k + 1) f79 f86 f93 (by omega) (hn79) (hn86) (hn93) rfl
  exact lp67 _ 0 (fun _ => 0) (fun _ => 0) (fun _ => 0) (Nat.zero_le _) (fun i h => absurd h (Nat.not_lt_zero i)) (fun i h => absurd h (Nat.not_lt_zero i)) (fun i h => absurd h (Nat.not_lt_zero i)) rfl
theorem nwX13 : ∀ j, j < 11 → defaultValue (tyX13 j) = vp_V [.int (nI 0), .int (nI 0), .int (nI 0), .int (nI 0), .null, .null, .null, .null, .null, .null, .null] j := by
  intro j hj
  match j, hj with
  | 0, _ => rfl
  | 1, _ => rfl
  | 2, _ => rfl
  | 3, _ => rfl
  | 4, _ => rfl
  | 5, _ => rfl
  | 6, _ => rfl
  | 7, _ => rfl
  | 8, _ => rfl
  | 9, _ => rfl
  | 10, _ => rfl
  | n + 11, hj => exact absurd hj (by omega)
theorem moX13_init : Mo yX13_init 1 := by
  refine ⟨by decide, by decide, by decide +kernel⟩
theorem ct_X13_next (g : Gv) (J : Jd g) {e : Nat} {r : MeS} {w0 : va_W} (hw0 : EpP g e r w0) (hno : eNo r < 90) : Ct g yX13_next (ws_ yX13_next cX13_next 3 (some (.object "KeygroveModel$Epoch"))) 2 8 170 [.ref e] [w0] (fun (rv_ : Option Value) (rL_ : List va_W) => ∃ (n : Nat) (u1 : va_W), rv_ = some (.ref n) ∧ rL_ = [w0, u1] ∧ EpP g n ((eNo r + 1, eTr r, 0, 0, fun _ => none, fun _ => false, fun _ => false, fun _ => none) : MeS) u1) noX := by
  refine Ct.of "KeygroveModel$Epoch" [some (.ref e), none, none] rfl (by decide) rfl (Nat.le_of_ble_eq_true rfl) rfl ?_
  intro κ B E tb
  have hE0 := EpP.b hw0
  have hB := hE0.2.1
  have hp2 := p2_4 hB.1
  have hd4 := hB.1
  obtain ⟨ap_1, an_1, al_1, ac_1, aw_1, am_1, ak_1, fp_1, fn_1, fl_1, fc_1, fw_1, fm_1, fk_1, hE_1, hfp_1, hfn_1, hfl_1, hfc_1, hfw_1, hfm_1, hfk_1, hc_1_0, hc_1_1, hc_1_2, hc_1_3, hc_1_4, hc_1_5, hc_1_6, hc_1_7⟩ := EpP.at (Sub.self hw0)
  refine g_new (q := 3) (kc2 := 7) (ks2 := 159) (fs := [.int (nI 0), .int (nI 0), .int (nI 0), .int (nI 0), .null, .null, .null, .null, .null, .null, .null]) B (ci := 16) in_X13 tyX13_ok rfl dX13_next_0 rfl q3429 q3249 q137 (nwX13) (Nat.le_of_ble_eq_true rfl) (Nat.le_of_ble_eq_true rfl) (fun n0 => ?_)
  refine (show Go g κ 3 [some (.ref e), none, none] [.ref n0] [w0, [(n0, .inr (16, [.int (nI 0), .int (nI 0), .int (nI 0), .int (nI 0), .null, .null, .null, .null, .null, .null, .null]))]] 7 159 from ?_)
  refine g_dup (q := 4) B dX13_next_3 rfl rfl ?_
  refine g_aload_n (q := 5) B dX13_next_4 rfl rfl (rv_r _) ?_
  refine g_getM (q := 8) B (ci := 16) (k := 0) (j := 0) in_X13 rfl dX13_next_5 rfl rfl (hc_1_0) (Nat.le_of_ble_eq_true rfl) q3254 rfl rfl ?_
  refine g_iconst (v := nI 1) (q := 9) B dX13_next_8 rfl (by decide) ?_
  refine g_iadd (v := nI ((eNo r) + 1)) (q := 10) B dX13_next_9 rfl (nI_add _ _) ?_
  refine g_callI (q := 13) (is := [1]) (kc2 := 0) (ks2 := 2) B [.int (nI ((eNo r) + 1))] (ct_X13_init g J (e := n0) (no := (eNo r) + 1)  ) dX13_next_10 rfl rfl q3430 q3251 q137 q3252 rfl rfl moX13_init rfl rfl (by decide) (by decide) (Nat.le_of_ble_eq_true rfl) (Nat.le_of_ble_eq_true rfl) (Nat.le_of_ble_eq_true rfl) (fun _ _ hx => noX_x hx) (fun v10 L1 hp10 => ?_)
  obtain ⟨ap10, an10, al10, ac10, aw10, am10, ak10, fp10, fn10, fl10, fc10, fw10, fm10, fk10, rfl, rfl, hfp_10, hfn_10, hfl_10, hfc_10, hfw_10, hfm_10, hfk_10⟩ := hp10
  refine (show Go g κ 13 [some (.ref e), none, none] [.ref n0] [w0, [(n0, .inr (16, [.int (nI ((eNo r) + 1)), .int (nI 0), .int (nI 0), .int (nI 0), .ref ap10, .ref an10, .ref al10, .ref ac10, .ref aw10, .ref am10, .ref ak10]))], [(ap10, .inl (g.2.1 0, 16, .inl fp10))], [(an10, .inl (g.2.1 0, 31, .inl fn10))], [(al10, .inl (g.2.1 0, 31, .inl fl10))], [(ac10, .inl (g.2.1 0, 16, .inl fc10))], [(aw10, .inl (g.2.1 4, 31, .inl fw10))], [(am10, .inl (g.2.1 4, 16, .inl fm10))], [(ak10, .inl (g.2.1 0, 16, .inl fk10))]] 0 2 from ?_)
  refine g_astore_n (q := 14) (lv2 := [some (.ref e), some (.ref n0), none]) B dX13_next_13 rfl (Nat.le_of_ble_eq_true rfl) (rv_r _) rfl ?_
  refine g_aload_n (q := 15) B dX13_next_14 rfl rfl (rv_r _) ?_
  refine g_aload_n (q := 16) B dX13_next_15 rfl rfl (rv_r _) ?_
  refine g_getM (q := 19) B (ci := 16) (k := 0) (j := 1) in_X13 rfl dX13_next_16 rfl rfl (hc_1_0) (Nat.le_of_ble_eq_true rfl) q3256 rfl rfl ?_
  refine g_put (q := 22) (L2 := [w0, [(n0, .inr (16, [.int (nI ((eNo r) + 1)), .int (nI (2 ^ (eTr r).1)), .int (nI 0), .int (nI 0), .ref ap10, .ref an10, .ref al10, .ref ac10, .ref aw10, .ref am10, .ref ak10]))], [(ap10, .inl (g.2.1 0, 16, .inl fp10))], [(an10, .inl (g.2.1 0, 31, .inl fn10))], [(al10, .inl (g.2.1 0, 31, .inl fl10))], [(ac10, .inl (g.2.1 0, 16, .inl fc10))], [(aw10, .inl (g.2.1 4, 31, .inl fw10))], [(am10, .inl (g.2.1 4, 16, .inl fm10))], [(ak10, .inl (g.2.1 0, 16, .inl fk10))]]) B (ci := 16) (k := 1) (j := 1) in_X13 tyX13 tyX13_ok nmX13 rfl dX13_next_19 rfl rfl (Nat.le_of_ble_eq_true rfl) q3256 rfl rfl rfl rfl (Nat.le_of_ble_eq_true rfl) rfl ?_
  refine g_iconst (v := nI 0) (q := 23) B dX13_next_22 rfl (by decide) ?_
  refine g_istore_n (q := 24) (lv2 := [some (.ref e), some (.ref n0), some (.int (nI 0))]) B dX13_next_23 rfl (Nat.le_of_ble_eq_true rfl) rfl ?_
  have lp24 : ∀ (n24 : Nat) (k : Nat) (f1 : Nat → Int32) , (k ≤ 16) → (∀ i, i < k → f1 i = oI ((eTr r).2.2.2 i)) → 16 - k = n24 → Go g κ 24 [some (.ref e), some (.ref n0), some (.int (nI k))] [] [w0, [(n0, .inr (16, [.int (nI ((eNo r) + 1)), .int (nI (2 ^ (eTr r).1)), .int (nI 0), .int (nI 0), .ref ap10, .ref an10, .ref al10, .ref ac10, .ref aw10, .ref am10, .ref ak10]))], [(ap10, .inl (g.2.1 0, 16, .inl f1))], [(an10, .inl (g.2.1 0, 31, .inl fn10))], [(al10, .inl (g.2.1 0, 31, .inl fl10))], [(ac10, .inl (g.2.1 0, 16, .inl fc10))], [(aw10, .inl (g.2.1 4, 31, .inl fw10))], [(am10, .inl (g.2.1 4, 16, .inl fm10))], [(ak10, .inl (g.2.1 0, 16, .inl fk10))]] 0 2 := by
    intro n24
    induction n24 using Nat.strongRecOn with
    | _ n24 ih24 =>
    intro k f1  hk h1 hmu24
    refine g_iload_n (q := 25) B dX13_next_24 rfl rfl ?_
    refine g_bipush (v := nI 16) (q := 27) B dX13_next_25 rfl (by decide) ?_
    refine g_icmp_ge (tgt := 48) (q := 30) B dX13_next_27 rfl (by decide) (nI_leI (by omega) (by omega)) (fun c27 => ?_) (fun c27 => ?_)
    · skip
      have g1 : ∀ i, i < 16 → f1 i = oI ((eTr r).2.2.2 i) := fun i hi => h1 i (by omega)
      refine g_iconst (v := nI 0) (q := 49) B dX13_next_48 rfl (by decide) ?_
      refine g_istore_n (q := 50) (lv2 := [some (.ref e), some (.ref n0), some (.int (nI 0))]) B dX13_next_49 rfl (Nat.le_of_ble_eq_true rfl) rfl ?_
      have lp50 : ∀ (n50 : Nat) (k : Nat) (f2 : Nat → Int32) (f3 : Nat → Int32) , (k ≤ 31) → (∀ i, i < k → f2 i = oI ((eTr r).2.1 i)) → (∀ i, i < k → f3 i = nI ((eTr r).2.2.1 i)) → 31 - k = n50 → Go g κ 50 [some (.ref e), some (.ref n0), some (.int (nI k))] [] [w0, [(n0, .inr (16, [.int (nI ((eNo r) + 1)), .int (nI (2 ^ (eTr r).1)), .int (nI 0), .int (nI 0), .ref ap10, .ref an10, .ref al10, .ref ac10, .ref aw10, .ref am10, .ref ak10]))], [(ap10, .inl (g.2.1 0, 16, .inl f1))], [(an10, .inl (g.2.1 0, 31, .inl f2))], [(al10, .inl (g.2.1 0, 31, .inl f3))], [(ac10, .inl (g.2.1 0, 16, .inl fc10))], [(aw10, .inl (g.2.1 4, 31, .inl fw10))], [(am10, .inl (g.2.1 4, 16, .inl fm10))], [(ak10, .inl (g.2.1 0, 16, .inl fk10))]] 0 2 := by
        intro n50
        induction n50 using Nat.strongRecOn with
        | _ n50 ih50 =>
        intro k f2 f3  hk h2 h3 hmu50
        refine g_iload_n (q := 51) B dX13_next_50 rfl rfl ?_
        refine g_bipush (v := nI 31) (q := 53) B dX13_next_51 rfl (by decide) ?_
        refine g_icmp_ge (tgt := 86) (q := 56) B dX13_next_53 rfl (by decide) (nI_leI (by omega) (by omega)) (fun c53 => ?_) (fun c53 => ?_)
        · skip
          refine g_aload_n (q := 87) B dX13_next_86 rfl rfl (rv_r _) ?_
          obtain ⟨wc_2, ewc_2⟩ : ∃ w : va_W, w = ([[(n0, .inr (16, [.int (nI ((eNo r) + 1)), .int (nI (2 ^ (eTr r).1)), .int (nI 0), .int (nI 0), .ref ap10, .ref an10, .ref al10, .ref ac10, .ref aw10, .ref am10, .ref ak10]))], [(ap10, .inl (g.2.1 0, 16, .inl f1))], [(an10, .inl (g.2.1 0, 31, .inl f2))], [(al10, .inl (g.2.1 0, 31, .inl f3))], [(ac10, .inl (g.2.1 0, 16, .inl fc10))], [(aw10, .inl (g.2.1 4, 31, .inl fw10))], [(am10, .inl (g.2.1 4, 16, .inl fm10))], [(ak10, .inl (g.2.1 0, 16, .inl fk10))]] : List va_W).flatten := ⟨_, rfl⟩
          have hwc_2 : EpP g n0 ((eNo r + 1, eTr r, 0, 0, fun _ => none, fun _ => false, fun _ => false, fun _ => none) : MeS) wc_2 := by
            rw [ewc_2]
            exact ⟨ap10, an10, al10, ac10, aw10, am10, ak10, f1, f2, f3, fc10, fw10, fm10, fk10, ⟨(show eNo r + 1 < 100 by omega), hB, (show 0 < 1000 by decide), (show 0 < 1000 by decide), (fun i n h => by cases h), (fun i n h => by cases h)⟩, g1, (fun i hi => h2 i (by omega)), (fun i hi => h3 i (by omega)), (fun i hi => hfc_10 i hi), (fun i hi => hfw_10 i hi), (fun i hi => hfm_10 i hi), (fun i hi => hfk_10 i hi), rfl⟩
          refine g_close (w := wc_2) [1, 1, 1, 1, 1, 1, 1, 1] rfl ewc_2 rfl ?_
          refine (show Go g κ 87 [some (.ref e), some (.ref n0), some (.int (nI k))] [.ref n0] [w0, wc_2] 0 2 from ?_)
          exact g_aret B E dX13_next_87 (by first | exact Or.inl ⟨_, rfl⟩ | exact Or.inr ⟨_, rfl⟩) (rv_r _) (⟨n0, wc_2, rfl, rfl, hwc_2⟩)
        · skip
          refine g_aload_n (q := 57) B dX13_next_56 rfl rfl (rv_r _) ?_
          refine g_get (q := 60) B (ci := 16) (k := 1) (j := 5) in_X13 rfl dX13_next_57 rfl rfl (Nat.le_of_ble_eq_true rfl) q3262 rfl rfl ?_
          refine g_iload_n (q := 61) B dX13_next_60 rfl rfl ?_
          refine g_aload_n (q := 62) B dX13_next_61 rfl rfl (rv_r _) ?_
          refine g_getM (q := 65) B (ci := 16) (k := 0) (j := 5) in_X13 rfl dX13_next_62 rfl rfl (hc_1_0) (Nat.le_of_ble_eq_true rfl) q3262 rfl rfl ?_
          refine g_iload_n (q := 66) B dX13_next_65 rfl rfl ?_
          refine g_ialdM (v := oI (((eTr r).2.1) k)) (q := 67) B (k := 0) dX13_next_66 rfl rfl (hc_1_2) (vp_in_nI (by omega) (by omega)) (by rw [nI_clamp (by omega)]; exact hfn_1 _ (by omega)) ?_
          refine g_iast (q := 68) (L2 := [w0, [(n0, .inr (16, [.int (nI ((eNo r) + 1)), .int (nI (2 ^ (eTr r).1)), .int (nI 0), .int (nI 0), .ref ap10, .ref an10, .ref al10, .ref ac10, .ref aw10, .ref am10, .ref ak10]))], [(ap10, .inl (g.2.1 0, 16, .inl f1))], [(an10, .inl (g.2.1 0, 31, .inl (upd f2 k (oI (((eTr r).2.1) k)))))], [(al10, .inl (g.2.1 0, 31, .inl f3))], [(ac10, .inl (g.2.1 0, 16, .inl fc10))], [(aw10, .inl (g.2.1 4, 31, .inl fw10))], [(am10, .inl (g.2.1 4, 16, .inl fm10))], [(ak10, .inl (g.2.1 0, 16, .inl fk10))]]) B (k := 3) dX13_next_67 rfl rfl (vp_in_nI (by omega) (by omega)) (by rw [nI_clamp (by omega)] <;> rfl) ?_
          have hn67 : ∀ i, i < k + 1 → (upd f2 k (oI (((eTr r).2.1) k))) i = oI ((eTr r).2.1 i) := by
            intro i hi
            unfold upd
            split
            · rename_i e; rw [e]
            · exact h2 i (by omega)
          generalize upd f2 k (oI (((eTr r).2.1) k)) = f67 at hn67 ⊢
          refine (show Go g κ 68 [some (.ref e), some (.ref n0), some (.int (nI k))] [] [w0, [(n0, .inr (16, [.int (nI ((eNo r) + 1)), .int (nI (2 ^ (eTr r).1)), .int (nI 0), .int (nI 0), .ref ap10, .ref an10, .ref al10, .ref ac10, .ref aw10, .ref am10, .ref ak10]))], [(ap10, .inl (g.2.1 0, 16, .inl f1))], [(an10, .inl (g.2.1 0, 31, .inl f67))], [(al10, .inl (g.2.1 0, 31, .inl f3))], [(ac10, .inl (g.2.1 0, 16, .inl fc10))], [(aw10, .inl (g.2.1 4, 31, .inl fw10))], [(am10, .inl (g.2.1 4, 16, .inl fm10))], [(ak10, .inl (g.2.1 0, 16, .inl fk10))]] 0 2 from ?_)
          refine g_aload_n (q := 69) B dX13_next_68 rfl rfl (rv_r _) ?_
          refine g_get (q := 72) B (ci := 16) (k := 1) (j := 6) in_X13 rfl dX13_next_69 rfl rfl (Nat.le_of_ble_eq_true rfl) q3264 rfl rfl ?_
          refine g_iload_n (q := 73) B dX13_next_72 rfl rfl ?_
          refine g_aload_n (q := 74) B dX13_next_73 rfl rfl (rv_r _) ?_
          refine g_getM (q := 77) B (ci := 16) (k := 0) (j := 6) in_X13 rfl dX13_next_74 rfl rfl (hc_1_0) (Nat.le_of_ble_eq_true rfl) q3264 rfl rfl ?_
          refine g_iload_n (q := 78) B dX13_next_77 rfl rfl ?_
          refine g_ialdM (v := nI (((eTr r).2.2.1) k)) (q := 79) B (k := 0) dX13_next_78 rfl rfl (hc_1_3) (vp_in_nI (by omega) (by omega)) (by rw [nI_clamp (by omega)]; exact hfl_1 _ (by omega)) ?_
          refine g_iast (q := 80) (L2 := [w0, [(n0, .inr (16, [.int (nI ((eNo r) + 1)), .int (nI (2 ^ (eTr r).1)), .int (nI 0), .int (nI 0), .ref ap10, .ref an10, .ref al10, .ref ac10, .ref aw10, .ref am10, .ref ak10]))], [(ap10, .inl (g.2.1 0, 16, .inl f1))], [(an10, .inl (g.2.1 0, 31, .inl f67))], [(al10, .inl (g.2.1 0, 31, .inl (upd f3 k (nI (((eTr r).2.2.1) k)))))], [(ac10, .inl (g.2.1 0, 16, .inl fc10))], [(aw10, .inl (g.2.1 4, 31, .inl fw10))], [(am10, .inl (g.2.1 4, 16, .inl fm10))], [(ak10, .inl (g.2.1 0, 16, .inl fk10))]]) B (k := 4) dX13_next_79 rfl rfl (vp_in_nI (by omega) (by omega)) (by rw [nI_clamp (by omega)] <;> rfl) ?_
          have hn79 : ∀ i, i < k + 1 → (upd f3 k (nI (((eTr r).2.2.1) k))) i = nI ((eTr r).2.2.1 i) := by
            intro i hi
            unfold upd
            split
            · rename_i e; rw [e]
            · exact h3 i (by omega)
          generalize upd f3 k (nI (((eTr r).2.2.1) k)) = f79 at hn79 ⊢
          refine (show Go g κ 80 [some (.ref e), some (.ref n0), some (.int (nI k))] [] [w0, [(n0, .inr (16, [.int (nI ((eNo r) + 1)), .int (nI (2 ^ (eTr r).1)), .int (nI 0), .int (nI 0), .ref ap10, .ref an10, .ref al10, .ref ac10, .ref aw10, .ref am10, .ref ak10]))], [(ap10, .inl (g.2.1 0, 16, .inl f1))], [(an10, .inl (g.2.1 0, 31, .inl f67))], [(al10, .inl (g.2.1 0, 31, .inl f79))], [(ac10, .inl (g.2.1 0, 16, .inl fc10))], [(aw10, .inl (g.2.1 4, 31, .inl fw10))], [(am10, .inl (g.2.1 4, 16, .inl fm10))], [(ak10, .inl (g.2.1 0, 16, .inl fk10))]] 0 2 from ?_)
          refine g_iinc (v := nI (k + 1)) (q := 83) (lv2 := [some (.ref e), some (.ref n0), some (.int (nI (k + 1)))]) B dX13_next_80 rfl rfl (nI_add _ 1) (Nat.le_of_ble_eq_true rfl) rfl ?_
          refine g_goto (tgt := 50) B dX13_next_83 (by decide) ?_
          exact ih50 _ (by omega) (k + 1) f67 f79 (by omega) (hn67) (hn79) rfl
      exact lp50 _ 0 fn10 fl10 (Nat.zero_le _) (fun i h => absurd h (Nat.not_lt_zero i)) (fun i h => absurd h (Nat.not_lt_zero i)) rfl
    · skip
      refine g_aload_n (q := 31) B dX13_next_30 rfl rfl (rv_r _) ?_
      refine g_get (q := 34) B (ci := 16) (k := 1) (j := 4) in_X13 rfl dX13_next_31 rfl rfl (Nat.le_of_ble_eq_true rfl) q3260 rfl rfl ?_
      refine g_iload_n (q := 35) B dX13_next_34 rfl rfl ?_
      refine g_aload_n (q := 36) B dX13_next_35 rfl rfl (rv_r _) ?_
      refine g_getM (q := 39) B (ci := 16) (k := 0) (j := 4) in_X13 rfl dX13_next_36 rfl rfl (hc_1_0) (Nat.le_of_ble_eq_true rfl) q3260 rfl rfl ?_
      refine g_iload_n (q := 40) B dX13_next_39 rfl rfl ?_
      refine g_ialdM (v := oI (((eTr r).2.2.2) k)) (q := 41) B (k := 0) dX13_next_40 rfl rfl (hc_1_1) (vp_in_nI (by omega) (by omega)) (by rw [nI_clamp (by omega)]; exact hfp_1 _ (by omega)) ?_
      refine g_iast (q := 42) (L2 := [w0, [(n0, .inr (16, [.int (nI ((eNo r) + 1)), .int (nI (2 ^ (eTr r).1)), .int (nI 0), .int (nI 0), .ref ap10, .ref an10, .ref al10, .ref ac10, .ref aw10, .ref am10, .ref ak10]))], [(ap10, .inl (g.2.1 0, 16, .inl (upd f1 k (oI (((eTr r).2.2.2) k)))))], [(an10, .inl (g.2.1 0, 31, .inl fn10))], [(al10, .inl (g.2.1 0, 31, .inl fl10))], [(ac10, .inl (g.2.1 0, 16, .inl fc10))], [(aw10, .inl (g.2.1 4, 31, .inl fw10))], [(am10, .inl (g.2.1 4, 16, .inl fm10))], [(ak10, .inl (g.2.1 0, 16, .inl fk10))]]) B (k := 2) dX13_next_41 rfl rfl (vp_in_nI (by omega) (by omega)) (by rw [nI_clamp (by omega)] <;> rfl) ?_
      have hn41 : ∀ i, i < k + 1 → (upd f1 k (oI (((eTr r).2.2.2) k))) i = oI ((eTr r).2.2.2 i) := by
        intro i hi
        unfold upd
        split
        · rename_i e; rw [e]
        · exact h1 i (by omega)
      generalize upd f1 k (oI (((eTr r).2.2.2) k)) = f41 at hn41 ⊢
      refine (show Go g κ 42 [some (.ref e), some (.ref n0), some (.int (nI k))] [] [w0, [(n0, .inr (16, [.int (nI ((eNo r) + 1)), .int (nI (2 ^ (eTr r).1)), .int (nI 0), .int (nI 0), .ref ap10, .ref an10, .ref al10, .ref ac10, .ref aw10, .ref am10, .ref ak10]))], [(ap10, .inl (g.2.1 0, 16, .inl f41))], [(an10, .inl (g.2.1 0, 31, .inl fn10))], [(al10, .inl (g.2.1 0, 31, .inl fl10))], [(ac10, .inl (g.2.1 0, 16, .inl fc10))], [(aw10, .inl (g.2.1 4, 31, .inl fw10))], [(am10, .inl (g.2.1 4, 16, .inl fm10))], [(ak10, .inl (g.2.1 0, 16, .inl fk10))]] 0 2 from ?_)
      refine g_iinc (v := nI (k + 1)) (q := 45) (lv2 := [some (.ref e), some (.ref n0), some (.int (nI (k + 1)))]) B dX13_next_42 rfl rfl (nI_add _ 1) (Nat.le_of_ble_eq_true rfl) rfl ?_
      refine g_goto (tgt := 24) B dX13_next_45 (by decide) ?_
      exact ih24 _ (by omega) (k + 1) f41 (by omega) (hn41) rfl
  exact lp24 _ 0 fp10 (Nat.zero_le _) (fun i h => absurd h (Nat.not_lt_zero i)) rfl
theorem ct_X13_nodes (g : Gv) (J : Jd g) {e : Nat} {r : MeS} {w0 : va_W} (hw0 : EpP g e r w0) : Ct g yX13_nodes (ws_ yX13_nodes cX13_nodes 1 (some .int)) 0 0 0 [.ref e] [w0] (fun (rv_ : Option Value) (rL_ : List va_W) => rv_ = some (.int (nI (2 * 2 ^ (eTr r).1 - 1))) ∧ rL_ = [w0]) noX := by
  refine Ct.of "KeygroveModel$Epoch" [some (.ref e)] rfl (by decide) rfl (Nat.le_of_ble_eq_true rfl) rfl ?_
  intro κ B E tb
  have hE0 := EpP.b hw0
  have hB := hE0.2.1
  have hp2 := p2_4 hB.1
  have hd4 := hB.1
  refine g_iconst (v := nI 2) (q := 1) B dX13_nodes_0 rfl (by decide) ?_
  refine g_aload_n (q := 2) B dX13_nodes_1 rfl rfl (rv_r _) ?_
  obtain ⟨ap_1, an_1, al_1, ac_1, aw_1, am_1, ak_1, fp_1, fn_1, fl_1, fc_1, fw_1, fm_1, fk_1, hE_1, hfp_1, hfn_1, hfl_1, hfc_1, hfw_1, hfm_1, hfk_1, hc_1_0, hc_1_1, hc_1_2, hc_1_3, hc_1_4, hc_1_5, hc_1_6, hc_1_7⟩ := EpP.at (Sub.self hw0)
  refine g_getM (q := 5) B (ci := 16) (k := 0) (j := 1) in_X13 rfl dX13_nodes_2 rfl rfl (hc_1_0) (Nat.le_of_ble_eq_true rfl) q3256 rfl rfl ?_
  refine g_imul (v := nI (2 * (2 ^ (eTr r).1))) (q := 6) B dX13_nodes_5 rfl (pk_mul _ _) ?_
  refine g_iconst (v := nI 1) (q := 7) B dX13_nodes_6 rfl (by decide) ?_
  refine g_isub (v := nI ((2 * (2 ^ (eTr r).1)) - 1)) (q := 8) B dX13_nodes_7 rfl (pk_sub (by omega)) ?_
  exact g_iret B E dX13_nodes_8 (⟨rfl, rfl⟩)
theorem moX3_level : Mo yX3_level 1 := by
  refine ⟨by decide, by decide, by decide +kernel⟩
theorem ct_X3_isAbove (g : Gv) (J : Jd g) {n : Nat} {l : Nat} (hn : n < 31) (hl : l < 16) : Ct g yX3_isAbove (ws_ yX3_isAbove cX3_isAbove 3 (some .boolean)) 2 0 0 [.int (nI n), .int (nI l)] [] (fun (rv_ : Option Value) (rL_ : List va_W) => rv_ = some (.int (nI (if 0 < lev n ∧ cvr n l = true then 1 else 0))) ∧ rL_ = []) noX := by
  refine Ct.of "KeygroveModel" [some (.int (nI n)), some (.int (nI l)), none] rfl (by decide) rfl (Nat.le_of_ble_eq_true rfl) rfl ?_
  intro κ B E tb
  have h4 := lev_4 n hn
  refine g_iload_n (q := 1) B dX3_isAbove_0 rfl rfl ?_
  refine g_callS (q := 4) (is := []) (kc2 := 0) (ks2 := 0) B [.int (nI n)] (ct_X3_level g J (n := n)  (by first | assumption | omega | rfl)) dX3_isAbove_1 rfl q3441 q3442 q85 q3443 rfl rfl moX3_level rfl rfl (by decide) (by decide) (Nat.le_of_ble_eq_true rfl) (Nat.le_of_ble_eq_true rfl) (Nat.le_of_ble_eq_true rfl) (fun _ _ hx => noX_x hx) (fun v1 L1 hp1 => ?_)
  obtain ⟨rfl, rfl⟩ := hp1
  refine (show Go g κ 4 [some (.int (nI n)), some (.int (nI l)), none] [.int (nI (lev n))] [] 0 0 from ?_)
  refine g_istore_n (q := 5) (lv2 := [some (.int (nI n)), some (.int (nI l)), some (.int (nI (lev n)))]) B dX3_isAbove_4 rfl (Nat.le_of_ble_eq_true rfl) rfl ?_
  refine g_iload_n (q := 6) B dX3_isAbove_5 rfl rfl ?_
  refine g_if_le (tgt := 26) (q := 9) B dX3_isAbove_6 rfl (by decide) (nI_le0 (by omega)) (fun c6 => ?_) (fun c6 => ?_)
  · skip
    refine g_iconst (v := nI 0) (q := 27) B dX3_isAbove_26 rfl (by decide) ?_
    exact g_zret B E dX3_isAbove_27 (by decide) (⟨bo0 (by first | exact ⟨by omega, c19⟩ | exact fun z => c19 z.2 | exact fun z => absurd z.1 (by omega)), rfl⟩)
  · skip
    refine g_iload_n (q := 10) B dX3_isAbove_9 rfl rfl ?_
    refine g_iload_n (q := 11) B dX3_isAbove_10 rfl rfl ?_
    refine g_ishr (v := nI (l / 2 ^ lev n)) (q := 12) B dX3_isAbove_11 rfl (shr_I _ (by omega) _ (by omega)) ?_
    refine g_iload_n (q := 13) B dX3_isAbove_12 rfl rfl ?_
    refine g_iconst (v := nI 1) (q := 14) B dX3_isAbove_13 rfl (by decide) ?_
    refine g_iadd (v := nI (n + 1)) (q := 15) B dX3_isAbove_14 rfl (nI_add _ _) ?_
    refine g_iload_n (q := 16) B dX3_isAbove_15 rfl rfl ?_
    refine g_iconst (v := nI 1) (q := 17) B dX3_isAbove_16 rfl (by decide) ?_
    refine g_iadd (v := nI ((lev n) + 1)) (q := 18) B dX3_isAbove_17 rfl (nI_add _ _) ?_
    refine g_ishr (v := nI ((n + 1) / 2 ^ (lev n + 1))) (q := 19) B dX3_isAbove_18 rfl (shr_I _ (by omega) _ (by omega)) ?_
    refine g_icmp_ne (tgt := 26) (q := 22) B dX3_isAbove_19 rfl (by decide) (cvr_n hn hl) (fun c19 => ?_) (fun c19 => ?_)
    · skip
      refine g_iconst (v := nI 0) (q := 27) B dX3_isAbove_26 rfl (by decide) ?_
      exact g_zret B E dX3_isAbove_27 (by decide) (⟨bo0 (by first | exact ⟨by omega, c19⟩ | exact fun z => c19 z.2 | exact fun z => absurd z.1 (by omega)), rfl⟩)
    · skip
      have c19 := Classical.not_not.mp c19
      refine g_iconst (v := nI 1) (q := 23) B dX3_isAbove_22 rfl (by decide) ?_
      refine g_goto (tgt := 27) B dX3_isAbove_23 (by decide) ?_
      exact g_zret B E dX3_isAbove_27 (by decide) (⟨bo1 (by first | exact ⟨by omega, c19⟩ | exact fun z => c19 z.2 | exact fun z => absurd z.1 (by omega)), rfl⟩)
theorem nab_shl : ∀ l, l < 16 → ∀ k, k < 6 → nI (2 * (l / 2 ^ k) + 1) <<< (nI k &&& 31) = nI ((2 * (l / 2 ^ k) + 1) * 2 ^ k) := by decide +kernel
theorem ct_X3_nodeAbove (g : Gv) (J : Jd g) {l : Nat} {k : Nat} (hl : l < 16) (hk : k < 6) : Ct g yX3_nodeAbove (ws_ yX3_nodeAbove cX3_nodeAbove 2 (some .int)) 0 0 0 [.int (nI l), .int (nI k)] [] (fun (rv_ : Option Value) (rL_ : List va_W) => rv_ = some (.int (nI (nab l k))) ∧ rL_ = []) noX := by
  refine Ct.of "KeygroveModel" [some (.int (nI l)), some (.int (nI k))] rfl (by decide) rfl (Nat.le_of_ble_eq_true rfl) rfl ?_
  intro κ B E tb
  refine g_iconst (v := nI 2) (q := 1) B dX3_nodeAbove_0 rfl (by decide) ?_
  refine g_iload_n (q := 2) B dX3_nodeAbove_1 rfl rfl ?_
  refine g_iload_n (q := 3) B dX3_nodeAbove_2 rfl rfl ?_
  refine g_ishr (v := nI (l / 2 ^ k)) (q := 4) B dX3_nodeAbove_3 rfl (shr_J (by omega) (by omega)) ?_
  refine g_imul (v := nI (2 * (l / 2 ^ k))) (q := 5) B dX3_nodeAbove_4 rfl (pk_mul _ _) ?_
  refine g_iconst (v := nI 1) (q := 6) B dX3_nodeAbove_5 rfl (by decide) ?_
  refine g_iadd (v := nI ((2 * (l / 2 ^ k)) + 1)) (q := 7) B dX3_nodeAbove_6 rfl (nI_add _ _) ?_
  refine g_iload_n (q := 8) B dX3_nodeAbove_7 rfl rfl ?_
  refine g_ishl (v := nI ((2 * (l / 2 ^ k) + 1) * 2 ^ k)) (q := 9) B dX3_nodeAbove_8 rfl (nab_shl l hl k hk) ?_
  refine g_iconst (v := nI 1) (q := 10) B dX3_nodeAbove_9 rfl (by decide) ?_
  refine g_isub (v := nI (nab l k)) (q := 11) B dX3_nodeAbove_10 rfl (pk_sub (Nat.succ_le_of_lt (Nat.mul_pos (by omega) (Nat.two_pow_pos k)))) ?_
  exact g_iret B E dX3_nodeAbove_11 (⟨rfl, rfl⟩)
theorem ct_X3_child_1 (g : Gv) (J : Jd g) {n : Nat} (hn : n < 31) (hl : 0 < lev n) : Ct g yX3_child (ws_ yX3_child cX3_child 3 (some .int)) 2 0 0 [.int (nI n), .int (nI 1)] [] (fun (rv_ : Option Value) (rL_ : List va_W) => rv_ = some (.int (nI (lft n))) ∧ rL_ = []) noX := by
  refine Ct.of "KeygroveModel" [some (.int (nI n)), some (.int (nI 1)), none] rfl (by decide) rfl (Nat.le_of_ble_eq_true rfl) rfl ?_
  intro κ B E tb
  have h4 := lev_4 n hn
  refine g_iconst (v := nI 1) (q := 1) B dX3_child_0 rfl (by decide) ?_
  refine g_iload_n (q := 2) B dX3_child_1 rfl rfl ?_
  refine g_callS (q := 5) (is := []) (kc2 := 0) (ks2 := 0) B [.int (nI n)] (ct_X3_level g J (n := n)  (by first | assumption | omega | rfl)) dX3_child_2 rfl q3441 q3442 q85 q3443 rfl rfl moX3_level rfl rfl (by decide) (by decide) (Nat.le_of_ble_eq_true rfl) (Nat.le_of_ble_eq_true rfl) (Nat.le_of_ble_eq_true rfl) (fun _ _ hx => noX_x hx) (fun v2 L1 hp2 => ?_)
  obtain ⟨rfl, rfl⟩ := hp2
  refine (show Go g κ 5 [some (.int (nI n)), some (.int (nI 1)), none] [.int (nI (lev n)), .int (nI 1)] [] 0 0 from ?_)
  refine g_iconst (v := nI 1) (q := 6) B dX3_child_5 rfl (by decide) ?_
  refine g_isub (v := nI ((lev n) - 1)) (q := 7) B dX3_child_6 rfl (pk_sub (by omega)) ?_
  refine g_ishl (v := nI (2 ^ (lev n - 1))) (q := 8) B dX3_child_7 rfl (shl_I _ (by omega)) ?_
  refine g_istore_n (q := 9) (lv2 := [some (.int (nI n)), some (.int (nI 1)), some (.int (nI (2 ^ (lev n - 1))))]) B dX3_child_8 rfl (Nat.le_of_ble_eq_true rfl) rfl ?_
  refine g_iload_n (q := 10) B dX3_child_9 rfl rfl ?_
  refine g_if_eq (tgt := 19) (q := 13) B dX3_child_10 rfl (by decide) (iff_false_intro (by decide)) (fun z => z.elim) (fun _ => ?_)
  refine g_iload_n (q := 14) B dX3_child_13 rfl rfl ?_
  refine g_iload_n (q := 15) B dX3_child_14 rfl rfl ?_
  refine g_isub (v := nI (lft n)) (q := 16) B dX3_child_15 rfl (pk_sub (lft_le n hn hl)) ?_
  refine g_goto (tgt := 22) B dX3_child_16 (by decide) ?_
  exact g_iret B E dX3_child_22 (⟨rfl, rfl⟩)
theorem ct_X3_child_0 (g : Gv) (J : Jd g) {n : Nat} (hn : n < 31) (hl : 0 < lev n) : Ct g yX3_child (ws_ yX3_child cX3_child 3 (some .int)) 2 0 0 [.int (nI n), .int (nI 0)] [] (fun (rv_ : Option Value) (rL_ : List va_W) => rv_ = some (.int (nI (rgt n))) ∧ rL_ = []) noX := by
  refine Ct.of "KeygroveModel" [some (.int (nI n)), some (.int (nI 0)), none] rfl (by decide) rfl (Nat.le_of_ble_eq_true rfl) rfl ?_
  intro κ B E tb
  have h4 := lev_4 n hn
  refine g_iconst (v := nI 1) (q := 1) B dX3_child_0 rfl (by decide) ?_
  refine g_iload_n (q := 2) B dX3_child_1 rfl rfl ?_
  refine g_callS (q := 5) (is := []) (kc2 := 0) (ks2 := 0) B [.int (nI n)] (ct_X3_level g J (n := n)  (by first | assumption | omega | rfl)) dX3_child_2 rfl q3441 q3442 q85 q3443 rfl rfl moX3_level rfl rfl (by decide) (by decide) (Nat.le_of_ble_eq_true rfl) (Nat.le_of_ble_eq_true rfl) (Nat.le_of_ble_eq_true rfl) (fun _ _ hx => noX_x hx) (fun v2 L1 hp2 => ?_)
  obtain ⟨rfl, rfl⟩ := hp2
  refine (show Go g κ 5 [some (.int (nI n)), some (.int (nI 0)), none] [.int (nI (lev n)), .int (nI 1)] [] 0 0 from ?_)
  refine g_iconst (v := nI 1) (q := 6) B dX3_child_5 rfl (by decide) ?_
  refine g_isub (v := nI ((lev n) - 1)) (q := 7) B dX3_child_6 rfl (pk_sub (by omega)) ?_
  refine g_ishl (v := nI (2 ^ (lev n - 1))) (q := 8) B dX3_child_7 rfl (shl_I _ (by omega)) ?_
  refine g_istore_n (q := 9) (lv2 := [some (.int (nI n)), some (.int (nI 0)), some (.int (nI (2 ^ (lev n - 1))))]) B dX3_child_8 rfl (Nat.le_of_ble_eq_true rfl) rfl ?_
  refine g_iload_n (q := 10) B dX3_child_9 rfl rfl ?_
  refine g_if_eq (tgt := 19) (q := 13) B dX3_child_10 rfl (by decide) (iff_true_intro (by decide)) (fun _ => ?_) (fun z => absurd trivial z)
  refine g_iload_n (q := 20) B dX3_child_19 rfl rfl ?_
  refine g_iload_n (q := 21) B dX3_child_20 rfl rfl ?_
  refine g_iadd (v := nI (rgt n)) (q := 22) B dX3_child_21 rfl (nI_add _ _) ?_
  exact g_iret B E dX3_child_22 (⟨rfl, rfl⟩)
theorem ct_X3_covers_0 (g : Gv) (J : Jd g) {e : Nat} {r : MeS} {n : Nat} {p : Nat} {vs : List Nat} {w0 : va_W} {w1 : va_W} (hw0 : EpP g e r w0) (hw1 : LhP g (BxE g) p vs (capF vs.length) w1) (hLt : LtB (eTr r)) (hn : n < 31) (hlv : lev n = 0) (hvl : vs.length + 17 < 100000) : Ct g yX3_covers (ws_ yX3_covers cX3_covers 4 none) 8 ((cov (eTr r) n).length) (4 * (capF (vs ++ cov (eTr r) n).length - capF vs.length)) [.ref e, .int (nI n), .ref p] [w0, w1] (fun (rv_ : Option Value) (rL_ : List va_W) => ∃ (u1 : va_W), rv_ = none ∧ rL_ = [w0, u1] ∧ LhP g (BxE g) p (vs ++ cov (eTr r) n) (capF (vs ++ cov (eTr r) n).length) u1) noX := by
  refine Ct.of "KeygroveModel" [some (.ref e), some (.int (nI n)), some (.ref p), none] rfl (by decide) rfl (Nat.le_of_ble_eq_true rfl) rfl ?_
  intro κ B E tb
  have hE0 := EpP.b hw0
  have hB := hE0.2.1
  have hp2 := p2_4 hB.1
  have hd4 := hB.1
  refine g_aload_n (q := 1) B dX3_covers_0 rfl rfl (rv_r _) ?_
  obtain ⟨ap_1, an_1, al_1, ac_1, aw_1, am_1, ak_1, fp_1, fn_1, fl_1, fc_1, fw_1, fm_1, fk_1, hE_1, hfp_1, hfn_1, hfl_1, hfc_1, hfw_1, hfm_1, hfk_1, hc_1_0, hc_1_1, hc_1_2, hc_1_3, hc_1_4, hc_1_5, hc_1_6, hc_1_7⟩ := EpP.at (Sub.self hw0)
  refine g_getNM (q := 4) B (ci := 16) (k := 0) (j := 5) in_X13 rfl dX3_covers_1 rfl rfl (hc_1_0) (Nat.le_of_ble_eq_true rfl) q3263 rfl rfl ?_
  refine g_iload_n (q := 5) B dX3_covers_4 rfl rfl ?_
  refine g_ialdM (v := oI (((eTr r).2.1) n)) (q := 6) B (k := 0) dX3_covers_5 rfl rfl (hc_1_2) (vp_in_nI (by omega) (by omega)) (by rw [nI_clamp (by omega)]; exact hfn_1 _ (by omega)) ?_
  refine g_iconst (v := -1) (q := 7) B dX3_covers_6 rfl (by decide) ?_
  refine g_icmp_eq (tgt := 61) (q := 10) B dX3_covers_7 rfl (by decide) (oI_n ((fun n h => by have := hE_1.2.1.2.1 _ _ h; omega))) (fun c7 => ?_) (fun c7 => ?_)
  · skip
    refine g_iload_n (q := 62) B dX3_covers_61 rfl rfl ?_
    refine g_callS (q := 65) (is := []) (kc2 := (cov (eTr r) n).length) (ks2 := 4 * (capF (vs ++ cov (eTr r) n).length - capF vs.length)) B [.int (nI n)] (ct_X3_level g J (n := n)  (by first | assumption | omega | rfl)) dX3_covers_62 rfl q3441 q3442 q85 q3443 rfl rfl moX3_level rfl rfl (by decide) (by decide) (Nat.le_of_ble_eq_true rfl) (by omega) (by omega) (fun _ _ hx => noX_x hx) (fun v62 L1 hp62 => ?_)
    obtain ⟨rfl, rfl⟩ := hp62
    refine (show Go g κ 65 [some (.ref e), some (.int (nI n)), some (.ref p), none] [.int (nI (lev n))] [w0, w1] ((cov (eTr r) n).length) (4 * (capF (vs ++ cov (eTr r) n).length - capF vs.length)) from ?_)
    refine g_if_le (tgt := 88) (q := 68) B dX3_covers_65 rfl (by decide) (iff_true_intro (by rw [show lev n = 0 by omega]; decide)) (fun _ => ?_) (fun z => absurd trivial z)
    have hr_2 : LhP g (BxE g) p (vs ++ cov (eTr r) n) (capF (vs ++ cov (eTr r) n).length) w1 := by rw [cov_0 c7 (by omega), List.append_nil]; exact hw1
    exact g_vret B E dX3_covers_88 (⟨w1, rfl, rfl, hr_2⟩)
  · skip
    obtain ⟨v7, ev7⟩ := Option.ne_none_iff_exists'.mp c7
    have hcs : cov (eTr r) n = n :: ltL ((eTr r).2.2.1 n) 16 := by rw [hLt n]; exact cov_s c7
    have hsl := hB.2.2.1 n
    have hlE : (vs ++ cov (eTr r) n).length = vs.length + 1 + (ltL ((eTr r).2.2.1 n) 16).length := by rw [hcs]; simp; omega
    have hlc : (cov (eTr r) n).length = (ltL ((eTr r).2.2.1 n) 16).length + 1 := by rw [hcs]; simp
    have hm1 := capF_m (show vs.length + 1 ≤ (vs ++ cov (eTr r) n).length by omega)
    have hm2 := capF_mo vs.length
    have hcv := cov_len hB hlv
    have hlE2 : (vs ++ cov (eTr r) n).length = vs.length + (cov (eTr r) n).length := by simp
    refine g_aload_n (q := 11) B dX3_covers_10 rfl rfl (rv_r _) ?_
    refine g_iload_n (q := 12) B dX3_covers_11 rfl rfl ?_
    refine g_callS (q := 15) (is := []) (kc2 := (cov (eTr r) n).length) (ks2 := 4 * (capF (vs ++ cov (eTr r) n).length - capF vs.length)) B [.int (nI n)] (ct_J26_valueOf_k g J (k := n)  (by omega)) dX3_covers_12 rfl q3242 q686 q111 q687 rfl rfl moJ26_valueOf rfl rfl (by decide) (by decide) (Nat.le_of_ble_eq_true rfl) (by omega) (by omega) (fun _ _ hx => noX_x hx) (fun v12 L1 hp12 => ?_)
    obtain ⟨rfl, rfl⟩ := hp12
    refine (show Go g κ 15 [some (.ref e), some (.int (nI n)), some (.ref p), none] [.ref (kI g n), .ref p] [w0, w1] ((cov (eTr r) n).length) (4 * (capF (vs ++ cov (eTr r) n).length - capF vs.length)) from ?_)
    obtain ⟨wc_3, ewc_3⟩ : ∃ w : va_W, w = ([] : List va_W).flatten := ⟨_, rfl⟩
    have hwc_3 : BxE g (kI g n) n wc_3 := by
      rw [ewc_3]
      exact kI_box g (by omega)
    refine g_close (w := wc_3) [] rfl ewc_3 rfl ?_
    refine (show Go g κ 15 [some (.ref e), some (.int (nI n)), some (.ref p), none] [.ref (kI g n), .ref p] [w0, w1, wc_3] ((cov (eTr r) n).length) (4 * (capF (vs ++ cov (eTr r) n).length - capF vs.length)) from ?_)
    obtain ⟨ps_4, md_4, hli_4, hln_4, hel_4⟩ := LhP.at (Sub.self hw1)
    refine g_callV (q := 18) (is := [1, 1]) (kc2 := ((cov (eTr r) n).length) - 1) (ks2 := (4 * (capF (vs ++ cov (eTr r) n).length - capF vs.length)) - (4 * (capF (vs.length + 1) - capF vs.length))) B [.ref (kI g n)] (ct_add_IlP g J (p := p) (rs := vs) (cap := (capF vs.length)) (a := (kI g n)) (r := n) (mc := 1) (ms := (4 * (capF (vs.length + 1) - capF vs.length))) hw1 hwc_3 (by have := capF_le vs.length; omega) (fun h => ⟨Nat.le_refl _, capF_ms _ h⟩)) dX3_covers_15 rfl (rc_in B (ci := 21) rfl (k := 1) rfl (LhP.hm hw1)) rfl q3144 q711 q3666 q81 q713 rfl rfl moJ2_add rfl rfl (by decide) (by decide) (Nat.le_of_ble_eq_true rfl) (by omega) (by omega) (fun _ _ hx => noX_x hx) (fun v15 L1 hp15 => ?_)
    obtain ⟨u0_15, rfl, rfl, hu0_15⟩ := hp15
    refine (show Go g κ 18 [some (.ref e), some (.int (nI n)), some (.ref p), none] [.int (nI 1)] [w0, u0_15] (((cov (eTr r) n).length) - 1) ((4 * (capF (vs ++ cov (eTr r) n).length - capF vs.length)) - (4 * (capF (vs.length + 1) - capF vs.length))) from ?_)
    have hX0 : (vs ++ (n :: ltL ((eTr r).2.2.1 n) 0)).length = vs.length + 1 := by simp [ltL]
    have hc0 : capF (vs ++ (n :: ltL ((eTr r).2.2.1 n) 0)).length = capF (vs.length + 1) := by rw [hX0]
    have hr_5 : LhP g (BxE g) p (vs ++ (n :: ltL ((eTr r).2.2.1 n) 0)) (capF (vs ++ (n :: ltL ((eTr r).2.2.1 n) 0)).length) u0_15 := by rw [hc0, ← capF_s]; exact hu0_15
    refine g_pop (q := 19) B dX3_covers_18 rfl rfl ?_
    refine g_iconst (v := nI 0) (q := 20) B dX3_covers_19 rfl (by decide) ?_
    refine g_istore_n (q := 21) (lv2 := [some (.ref e), some (.int (nI n)), some (.ref p), some (.int (nI 0))]) B dX3_covers_20 rfl (Nat.le_of_ble_eq_true rfl) rfl ?_
    have lp21 : ∀ (n21 : Nat) (k : Nat) (l21_1 : va_W), LhP g (BxE g) p (vs ++ (n :: ltL ((eTr r).2.2.1 n) k)) (capF (vs ++ (n :: ltL ((eTr r).2.2.1 n) k)).length) l21_1 → (k ≤ 16) → 16 - k = n21 → Go g κ 21 [some (.ref e), some (.int (nI n)), some (.ref p), some (.int (nI k))] [] [w0, l21_1] ((ltL ((eTr r).2.2.1 n) 16).length - (ltL ((eTr r).2.2.1 n) k).length) (4 * (capF (vs ++ cov (eTr r) n).length - capF (vs ++ (n :: ltL ((eTr r).2.2.1 n) k)).length)) := by
      intro n21
      induction n21 using Nat.strongRecOn with
      | _ n21 ih21 =>
      intro k l21_1 hl21_1 hk hmu21
      refine g_iload_n (q := 22) B dX3_covers_21 rfl rfl ?_
      refine g_bipush (v := nI 16) (q := 24) B dX3_covers_22 rfl (by decide) ?_
      refine g_icmp_ge (tgt := 58) (q := 27) B dX3_covers_24 rfl (by decide) (nI_leI (by omega) (by omega)) (fun c24 => ?_) (fun c24 => ?_)
      · skip
        have hr_6 : LhP g (BxE g) p (vs ++ cov (eTr r) n) (capF (vs ++ cov (eTr r) n).length) l21_1 := by rw [hcs]; have z := hl21_1; rw [show k = 16 by omega] at z; exact z
        refine g_goto (tgt := 88) B dX3_covers_58 (by decide) ?_
        exact g_vret B E dX3_covers_88 (⟨l21_1, rfl, rfl, hr_6⟩)
      · skip
        refine g_aload_n (q := 28) B dX3_covers_27 rfl rfl (rv_r _) ?_
        refine g_getNM (q := 31) B (ci := 16) (k := 0) (j := 6) in_X13 rfl dX3_covers_28 rfl rfl (hc_1_0) (Nat.le_of_ble_eq_true rfl) q3265 rfl rfl ?_
        refine g_iload_n (q := 32) B dX3_covers_31 rfl rfl ?_
        refine g_ialdM (v := nI (((eTr r).2.2.1) n)) (q := 33) B (k := 0) dX3_covers_32 rfl rfl (hc_1_3) (vp_in_nI (by omega) (by omega)) (by rw [nI_clamp (by omega)]; exact hfl_1 _ (by omega)) ?_
        refine g_iload_n (q := 34) B dX3_covers_33 rfl rfl ?_
        refine g_ishr (v := nI ((eTr r).2.2.1 n / 2 ^ k)) (q := 35) B dX3_covers_34 rfl (shr_J (by omega) (by omega)) ?_
        refine g_iconst (v := nI 1) (q := 36) B dX3_covers_35 rfl (by decide) ?_
        refine g_iand (v := nI ((eTr r).2.2.1 n / 2 ^ k % 2)) (q := 37) B dX3_covers_36 rfl (nI_an1 _) ?_
        refine g_iconst (v := nI 1) (q := 38) B dX3_covers_37 rfl (by decide) ?_
        refine g_icmp_ne (tgt := 52) (q := 41) B dX3_covers_38 rfl (by decide) (hsB_I hsl) (fun c38 => ?_) (fun c38 => ?_)
        · skip
          have hls : ltL ((eTr r).2.2.1 n) (k + 1) = ltL ((eTr r).2.2.1 n) k := by rw [ltL_s, if_neg c38]
          have hc9 : capF (vs ++ (n :: ltL ((eTr r).2.2.1 n) (k + 1))).length = capF (vs ++ (n :: ltL ((eTr r).2.2.1 n) k)).length := by rw [hls]
          have hl9 : (ltL ((eTr r).2.2.1 n) (k + 1)).length = (ltL ((eTr r).2.2.1 n) k).length := by rw [hls]
          have hr_7 : LhP g (BxE g) p (vs ++ (n :: ltL ((eTr r).2.2.1 n) (k + 1))) (capF (vs ++ (n :: ltL ((eTr r).2.2.1 n) (k + 1))).length) l21_1 := by rw [hls]; exact hl21_1
          refine g_iinc (v := nI (k + 1)) (q := 55) (lv2 := [some (.ref e), some (.int (nI n)), some (.ref p), some (.int (nI (k + 1)))]) B dX3_covers_52 rfl rfl (nI_add _ 1) (Nat.le_of_ble_eq_true rfl) rfl ?_
          refine g_goto (tgt := 21) B dX3_covers_55 (by decide) ?_
          refine g_room (kc2 := (ltL ((eTr r).2.2.1 n) 16).length - (ltL ((eTr r).2.2.1 n) (k + 1)).length) (ks2 := 4 * (capF (vs ++ cov (eTr r) n).length - capF (vs ++ (n :: ltL ((eTr r).2.2.1 n) (k + 1))).length)) (by omega) (by omega) ?_
          exact ih21 _ (by omega) (k + 1) l21_1 hr_7 (by first | assumption | omega | rfl) rfl
        · skip
          have c38 := Classical.not_not.mp c38
          have hls : ltL ((eTr r).2.2.1 n) (k + 1) = ltL ((eTr r).2.2.1 n) k ++ [2 * k] := by rw [ltL_s, if_pos c38]
          have hl1 : (ltL ((eTr r).2.2.1 n) (k + 1)).length = (ltL ((eTr r).2.2.1 n) k).length + 1 := by rw [hls]; simp
          have hl2 := ltL_mo ((eTr r).2.2.1 n) (show k + 1 ≤ 16 by omega)
          have hX : (vs ++ (n :: ltL ((eTr r).2.2.1 n) (k + 1))).length = (vs ++ (n :: ltL ((eTr r).2.2.1 n) k)).length + 1 := by rw [hls]; simp only [List.length_append, List.length_cons, List.length_nil]; omega
          have hXk : (vs ++ (n :: ltL ((eTr r).2.2.1 n) k)).length = vs.length + 1 + (ltL ((eTr r).2.2.1 n) k).length := by simp only [List.length_append, List.length_cons]; omega
          have hc1 : capF (vs ++ (n :: ltL ((eTr r).2.2.1 n) (k + 1))).length = capF ((vs ++ (n :: ltL ((eTr r).2.2.1 n) k)).length + 1) := by rw [hX]
          have hc2 := capF_m (show (vs ++ (n :: ltL ((eTr r).2.2.1 n) k)).length + 1 ≤ (vs ++ cov (eTr r) n).length by omega)
          have hc3 := capF_mo (vs ++ (n :: ltL ((eTr r).2.2.1 n) k)).length
          refine g_aload_n (q := 42) B dX3_covers_41 rfl rfl (rv_r _) ?_
          refine g_iconst (v := nI 2) (q := 43) B dX3_covers_42 rfl (by decide) ?_
          refine g_iload_n (q := 44) B dX3_covers_43 rfl rfl ?_
          refine g_imul (v := nI (2 * k)) (q := 45) B dX3_covers_44 rfl (pk_mul _ _) ?_
          refine g_callS (q := 48) (is := []) (kc2 := (ltL ((eTr r).2.2.1 n) 16).length - (ltL ((eTr r).2.2.1 n) k).length) (ks2 := 4 * (capF (vs ++ cov (eTr r) n).length - capF (vs ++ (n :: ltL ((eTr r).2.2.1 n) k)).length)) B [.int (nI (2 * k))] (ct_J26_valueOf_k g J (k := 2 * k)  (by omega)) dX3_covers_45 rfl q3242 q686 q111 q687 rfl rfl moJ26_valueOf rfl rfl (by decide) (by decide) (Nat.le_of_ble_eq_true rfl) (by omega) (by omega) (fun _ _ hx => noX_x hx) (fun v45 L1 hp45 => ?_)
          obtain ⟨rfl, rfl⟩ := hp45
          refine (show Go g κ 48 [some (.ref e), some (.int (nI n)), some (.ref p), some (.int (nI k))] [.ref (kI g (2 * k)), .ref p] [w0, l21_1] ((ltL ((eTr r).2.2.1 n) 16).length - (ltL ((eTr r).2.2.1 n) k).length) (4 * (capF (vs ++ cov (eTr r) n).length - capF (vs ++ (n :: ltL ((eTr r).2.2.1 n) k)).length)) from ?_)
          obtain ⟨wc_8, ewc_8⟩ : ∃ w : va_W, w = ([] : List va_W).flatten := ⟨_, rfl⟩
          have hwc_8 : BxE g (kI g (2 * k)) (2 * k) wc_8 := by
            rw [ewc_8]
            exact kI_box g (by omega)
          refine g_close (w := wc_8) [] rfl ewc_8 rfl ?_
          refine (show Go g κ 48 [some (.ref e), some (.int (nI n)), some (.ref p), some (.int (nI k))] [.ref (kI g (2 * k)), .ref p] [w0, l21_1, wc_8] ((ltL ((eTr r).2.2.1 n) 16).length - (ltL ((eTr r).2.2.1 n) k).length) (4 * (capF (vs ++ cov (eTr r) n).length - capF (vs ++ (n :: ltL ((eTr r).2.2.1 n) k)).length)) from ?_)
          obtain ⟨ps_9, md_9, hli_9, hln_9, hel_9⟩ := LhP.at (Sub.self hl21_1)
          refine g_callV (q := 51) (is := [1, 1]) (kc2 := ((ltL ((eTr r).2.2.1 n) 16).length - (ltL ((eTr r).2.2.1 n) k).length) - 1) (ks2 := (4 * (capF (vs ++ cov (eTr r) n).length - capF (vs ++ (n :: ltL ((eTr r).2.2.1 n) k)).length)) - (4 * (capF ((vs ++ (n :: ltL ((eTr r).2.2.1 n) k)).length + 1) - capF (vs ++ (n :: ltL ((eTr r).2.2.1 n) k)).length))) B [.ref (kI g (2 * k))] (ct_add_IlP g J (p := p) (rs := (vs ++ (n :: ltL ((eTr r).2.2.1 n) k))) (cap := (capF (vs ++ (n :: ltL ((eTr r).2.2.1 n) k)).length)) (a := (kI g (2 * k))) (r := (2 * k)) (mc := 1) (ms := (4 * (capF ((vs ++ (n :: ltL ((eTr r).2.2.1 n) k)).length + 1) - capF (vs ++ (n :: ltL ((eTr r).2.2.1 n) k)).length))) hl21_1 hwc_8 (by have := capF_le (vs ++ (n :: ltL ((eTr r).2.2.1 n) k)).length; omega) (fun h => ⟨Nat.le_refl _, capF_ms _ h⟩)) dX3_covers_48 rfl (rc_in B (ci := 21) rfl (k := 1) rfl (LhP.hm hl21_1)) rfl q3144 q711 q3666 q81 q713 rfl rfl moJ2_add rfl rfl (by decide) (by decide) (Nat.le_of_ble_eq_true rfl) (by omega) (by omega) (fun _ _ hx => noX_x hx) (fun v48 L1 hp48 => ?_)
          obtain ⟨u0_48, rfl, rfl, hu0_48⟩ := hp48
          refine (show Go g κ 51 [some (.ref e), some (.int (nI n)), some (.ref p), some (.int (nI k))] [.int (nI 1)] [w0, u0_48] (((ltL ((eTr r).2.2.1 n) 16).length - (ltL ((eTr r).2.2.1 n) k).length) - 1) ((4 * (capF (vs ++ cov (eTr r) n).length - capF (vs ++ (n :: ltL ((eTr r).2.2.1 n) k)).length)) - (4 * (capF ((vs ++ (n :: ltL ((eTr r).2.2.1 n) k)).length + 1) - capF (vs ++ (n :: ltL ((eTr r).2.2.1 n) k)).length))) from ?_)
          have hr_10 : LhP g (BxE g) p (vs ++ (n :: ltL ((eTr r).2.2.1 n) (k + 1))) (capF (vs ++ (n :: ltL ((eTr r).2.2.1 n) (k + 1))).length) u0_48 := by rw [hc1, hls, ← capF_s]; have z := hu0_48; rw [List.append_assoc, List.cons_append] at z; exact z
          refine g_pop (q := 52) B dX3_covers_51 rfl rfl ?_
          refine g_iinc (v := nI (k + 1)) (q := 55) (lv2 := [some (.ref e), some (.int (nI n)), some (.ref p), some (.int (nI (k + 1)))]) B dX3_covers_52 rfl rfl (nI_add _ 1) (Nat.le_of_ble_eq_true rfl) rfl ?_
          refine g_goto (tgt := 21) B dX3_covers_55 (by decide) ?_
          refine g_room (kc2 := (ltL ((eTr r).2.2.1 n) 16).length - (ltL ((eTr r).2.2.1 n) (k + 1)).length) (ks2 := 4 * (capF (vs ++ cov (eTr r) n).length - capF (vs ++ (n :: ltL ((eTr r).2.2.1 n) (k + 1))).length)) (by omega) (by omega) ?_
          exact ih21 _ (by omega) (k + 1) u0_48 hr_10 (by first | assumption | omega | rfl) rfl
    have hl00 : (ltL ((eTr r).2.2.1 n) 0).length = 0 := rfl
    refine g_room (kc2 := (ltL ((eTr r).2.2.1 n) 16).length - (ltL ((eTr r).2.2.1 n) 0).length) (ks2 := 4 * (capF (vs ++ cov (eTr r) n).length - capF (vs ++ (n :: ltL ((eTr r).2.2.1 n) 0)).length)) (by omega) (by omega) ?_
    exact lp21 _ 0 u0_15 hr_5 (Nat.zero_le _) rfl
theorem moX3_child : Mo yX3_child 2 := by
  refine ⟨by decide, by decide, by decide +kernel⟩
theorem moX3_covers : Mo yX3_covers 3 := by
  refine ⟨by decide, by decide, by decide +kernel⟩
theorem ct_X3_covers_1 (g : Gv) (J : Jd g) {e : Nat} {r : MeS} {n : Nat} {p : Nat} {vs : List Nat} {w0 : va_W} {w1 : va_W} (hw0 : EpP g e r w0) (hw1 : LhP g (BxE g) p vs (capF vs.length) w1) (hLt : LtB (eTr r)) (hn : n < 31) (hlv : lev n = 1) (hvl : vs.length + 34 < 100000) : Ct g yX3_covers (ws_ yX3_covers cX3_covers 4 none) 9 ((cov (eTr r) n).length) (4 * (capF (vs ++ cov (eTr r) n).length - capF vs.length)) [.ref e, .int (nI n), .ref p] [w0, w1] (fun (rv_ : Option Value) (rL_ : List va_W) => ∃ (u1 : va_W), rv_ = none ∧ rL_ = [w0, u1] ∧ LhP g (BxE g) p (vs ++ cov (eTr r) n) (capF (vs ++ cov (eTr r) n).length) u1) noX := by
  refine Ct.of "KeygroveModel" [some (.ref e), some (.int (nI n)), some (.ref p), none] rfl (by decide) rfl (Nat.le_of_ble_eq_true rfl) rfl ?_
  intro κ B E tb
  have hE0 := EpP.b hw0
  have hB := hE0.2.1
  have hp2 := p2_4 hB.1
  have hd4 := hB.1
  refine g_aload_n (q := 1) B dX3_covers_0 rfl rfl (rv_r _) ?_
  obtain ⟨ap_1, an_1, al_1, ac_1, aw_1, am_1, ak_1, fp_1, fn_1, fl_1, fc_1, fw_1, fm_1, fk_1, hE_1, hfp_1, hfn_1, hfl_1, hfc_1, hfw_1, hfm_1, hfk_1, hc_1_0, hc_1_1, hc_1_2, hc_1_3, hc_1_4, hc_1_5, hc_1_6, hc_1_7⟩ := EpP.at (Sub.self hw0)
  refine g_getNM (q := 4) B (ci := 16) (k := 0) (j := 5) in_X13 rfl dX3_covers_1 rfl rfl (hc_1_0) (Nat.le_of_ble_eq_true rfl) q3263 rfl rfl ?_
  refine g_iload_n (q := 5) B dX3_covers_4 rfl rfl ?_
  refine g_ialdM (v := oI (((eTr r).2.1) n)) (q := 6) B (k := 0) dX3_covers_5 rfl rfl (hc_1_2) (vp_in_nI (by omega) (by omega)) (by rw [nI_clamp (by omega)]; exact hfn_1 _ (by omega)) ?_
  refine g_iconst (v := -1) (q := 7) B dX3_covers_6 rfl (by decide) ?_
  refine g_icmp_eq (tgt := 61) (q := 10) B dX3_covers_7 rfl (by decide) (oI_n ((fun n h => by have := hE_1.2.1.2.1 _ _ h; omega))) (fun c7 => ?_) (fun c7 => ?_)
  · skip
    refine g_iload_n (q := 62) B dX3_covers_61 rfl rfl ?_
    refine g_callS (q := 65) (is := []) (kc2 := (cov (eTr r) n).length) (ks2 := 4 * (capF (vs ++ cov (eTr r) n).length - capF vs.length)) B [.int (nI n)] (ct_X3_level g J (n := n)  (by first | assumption | omega | rfl)) dX3_covers_62 rfl q3441 q3442 q85 q3443 rfl rfl moX3_level rfl rfl (by decide) (by decide) (Nat.le_of_ble_eq_true rfl) (by omega) (by omega) (fun _ _ hx => noX_x hx) (fun v62 L1 hp62 => ?_)
    obtain ⟨rfl, rfl⟩ := hp62
    refine (show Go g κ 65 [some (.ref e), some (.int (nI n)), some (.ref p), none] [.int (nI (lev n))] [w0, w1] ((cov (eTr r) n).length) (4 * (capF (vs ++ cov (eTr r) n).length - capF vs.length)) from ?_)
    refine g_if_le (tgt := 88) (q := 68) B dX3_covers_65 rfl (by decide) (iff_false_intro (by rw [nI_le0 (by omega)]; omega)) (fun z => z.elim) (fun _ => ?_)
    obtain ⟨hq1, hq2, hq3, hq4⟩ := lft_b n hn (by omega)
    have hcb := cov_b hn c7 (by omega)
    have hlb : (cov (eTr r) n).length = (cov (eTr r) (lft n)).length + (cov (eTr r) (rgt n)).length := by rw [hcb]; simp
    have hE1 : capF (vs ++ cov (eTr r) n).length = capF ((vs ++ cov (eTr r) (lft n)) ++ cov (eTr r) (rgt n)).length := by rw [hcb, List.append_assoc]
    have hm1 := capF_m (show vs.length ≤ (vs ++ cov (eTr r) (lft n)).length by simp)
    have hm2 := capF_m (show (vs ++ cov (eTr r) (lft n)).length ≤ ((vs ++ cov (eTr r) (lft n)) ++ cov (eTr r) (rgt n)).length by simp)
    have hlz := cov_len hB (n := lft n) (m := 0) (by omega)
    have hlz2 : (vs ++ cov (eTr r) (lft n)).length = vs.length + (cov (eTr r) (lft n)).length := by simp
    refine g_aload_n (q := 69) B dX3_covers_68 rfl rfl (rv_r _) ?_
    refine g_iload_n (q := 70) B dX3_covers_69 rfl rfl ?_
    refine g_iconst (v := nI 1) (q := 71) B dX3_covers_70 rfl (by decide) ?_
    refine g_callS (q := 74) (is := []) (kc2 := (cov (eTr r) n).length) (ks2 := 4 * (capF (vs ++ cov (eTr r) n).length - capF vs.length)) B [.int (nI n), .int (nI 1)] (ct_X3_child_1 g J (n := n)  (hn) (by omega)) dX3_covers_71 rfl q3463 q3464 q85 q3465 rfl rfl moX3_child rfl rfl (by decide) (by decide) (Nat.le_of_ble_eq_true rfl) (by omega) (by omega) (fun _ _ hx => noX_x hx) (fun v71 L1 hp71 => ?_)
    obtain ⟨rfl, rfl⟩ := hp71
    refine (show Go g κ 74 [some (.ref e), some (.int (nI n)), some (.ref p), none] [.int (nI (lft n)), .ref e] [w0, w1] ((cov (eTr r) n).length) (4 * (capF (vs ++ cov (eTr r) n).length - capF vs.length)) from ?_)
    refine g_aload_n (q := 75) B dX3_covers_74 rfl rfl (rv_r _) ?_
    refine g_callS (q := 78) (is := [0, 0]) (kc2 := ((cov (eTr r) n).length) - ((cov (eTr r) (lft n)).length)) (ks2 := (4 * (capF (vs ++ cov (eTr r) n).length - capF vs.length)) - (4 * (capF (vs ++ cov (eTr r) (lft n)).length - capF vs.length))) B [.ref e, .int (nI (lft n)), .ref p] (ct_X3_covers_0 g J (e := e) (r := r) (n := lft n) (p := p) (vs := vs) hw0 hw1 (hLt) (by omega) (by omega) (by omega)) dX3_covers_75 rfl q3469 q3470 q85 q3471 rfl rfl moX3_covers rfl rfl (by decide) (by decide) (Nat.le_of_ble_eq_true rfl) (by omega) (by omega) (fun _ _ hx => noX_x hx) (fun v75 L1 hp75 => ?_)
    obtain ⟨u1_75, rfl, rfl, hu1_75⟩ := hp75
    refine (show Go g κ 78 [some (.ref e), some (.int (nI n)), some (.ref p), none] [] [w0, u1_75] (((cov (eTr r) n).length) - ((cov (eTr r) (lft n)).length)) ((4 * (capF (vs ++ cov (eTr r) n).length - capF vs.length)) - (4 * (capF (vs ++ cov (eTr r) (lft n)).length - capF vs.length))) from ?_)
    refine g_aload_n (q := 79) B dX3_covers_78 rfl rfl (rv_r _) ?_
    refine g_iload_n (q := 80) B dX3_covers_79 rfl rfl ?_
    refine g_iconst (v := nI 0) (q := 81) B dX3_covers_80 rfl (by decide) ?_
    refine g_callS (q := 84) (is := []) (kc2 := ((cov (eTr r) n).length) - ((cov (eTr r) (lft n)).length)) (ks2 := (4 * (capF (vs ++ cov (eTr r) n).length - capF vs.length)) - (4 * (capF (vs ++ cov (eTr r) (lft n)).length - capF vs.length))) B [.int (nI n), .int (nI 0)] (ct_X3_child_0 g J (n := n)  (hn) (by omega)) dX3_covers_81 rfl q3463 q3464 q85 q3465 rfl rfl moX3_child rfl rfl (by decide) (by decide) (Nat.le_of_ble_eq_true rfl) (by omega) (by omega) (fun _ _ hx => noX_x hx) (fun v81 L1 hp81 => ?_)
    obtain ⟨rfl, rfl⟩ := hp81
    refine (show Go g κ 84 [some (.ref e), some (.int (nI n)), some (.ref p), none] [.int (nI (rgt n)), .ref e] [w0, u1_75] (((cov (eTr r) n).length) - ((cov (eTr r) (lft n)).length)) ((4 * (capF (vs ++ cov (eTr r) n).length - capF vs.length)) - (4 * (capF (vs ++ cov (eTr r) (lft n)).length - capF vs.length))) from ?_)
    refine g_aload_n (q := 85) B dX3_covers_84 rfl rfl (rv_r _) ?_
    refine g_callS (q := 88) (is := [0, 0]) (kc2 := (((cov (eTr r) n).length) - ((cov (eTr r) (lft n)).length)) - ((cov (eTr r) (rgt n)).length)) (ks2 := ((4 * (capF (vs ++ cov (eTr r) n).length - capF vs.length)) - (4 * (capF (vs ++ cov (eTr r) (lft n)).length - capF vs.length))) - (4 * (capF ((vs ++ cov (eTr r) (lft n)) ++ cov (eTr r) (rgt n)).length - capF (vs ++ cov (eTr r) (lft n)).length))) B [.ref e, .int (nI (rgt n)), .ref p] (ct_X3_covers_0 g J (e := e) (r := r) (n := rgt n) (p := p) (vs := (vs ++ cov (eTr r) (lft n))) hw0 hu1_75 (hLt) (by omega) (by omega) (by omega)) dX3_covers_85 rfl q3469 q3470 q85 q3471 rfl rfl moX3_covers rfl rfl (by decide) (by decide) (Nat.le_of_ble_eq_true rfl) (by omega) (by omega) (fun _ _ hx => noX_x hx) (fun v85 L1 hp85 => ?_)
    obtain ⟨u1_85, rfl, rfl, hu1_85⟩ := hp85
    refine (show Go g κ 88 [some (.ref e), some (.int (nI n)), some (.ref p), none] [] [w0, u1_85] ((((cov (eTr r) n).length) - ((cov (eTr r) (lft n)).length)) - ((cov (eTr r) (rgt n)).length)) (((4 * (capF (vs ++ cov (eTr r) n).length - capF vs.length)) - (4 * (capF (vs ++ cov (eTr r) (lft n)).length - capF vs.length))) - (4 * (capF ((vs ++ cov (eTr r) (lft n)) ++ cov (eTr r) (rgt n)).length - capF (vs ++ cov (eTr r) (lft n)).length))) from ?_)
    have hr_2 : LhP g (BxE g) p (vs ++ cov (eTr r) n) (capF (vs ++ cov (eTr r) n).length) u1_85 := by rw [hcb, ← List.append_assoc]; exact hu1_85
    exact g_vret B E dX3_covers_88 (⟨u1_85, rfl, rfl, hr_2⟩)
  · skip
    obtain ⟨v7, ev7⟩ := Option.ne_none_iff_exists'.mp c7
    have hcs : cov (eTr r) n = n :: ltL ((eTr r).2.2.1 n) 16 := by rw [hLt n]; exact cov_s c7
    have hsl := hB.2.2.1 n
    have hlE : (vs ++ cov (eTr r) n).length = vs.length + 1 + (ltL ((eTr r).2.2.1 n) 16).length := by rw [hcs]; simp; omega
    have hlc : (cov (eTr r) n).length = (ltL ((eTr r).2.2.1 n) 16).length + 1 := by rw [hcs]; simp
    have hm1 := capF_m (show vs.length + 1 ≤ (vs ++ cov (eTr r) n).length by omega)
    have hm2 := capF_mo vs.length
    have hcv := cov_len hB hlv
    have hlE2 : (vs ++ cov (eTr r) n).length = vs.length + (cov (eTr r) n).length := by simp
    refine g_aload_n (q := 11) B dX3_covers_10 rfl rfl (rv_r _) ?_
    refine g_iload_n (q := 12) B dX3_covers_11 rfl rfl ?_
    refine g_callS (q := 15) (is := []) (kc2 := (cov (eTr r) n).length) (ks2 := 4 * (capF (vs ++ cov (eTr r) n).length - capF vs.length)) B [.int (nI n)] (ct_J26_valueOf_k g J (k := n)  (by omega)) dX3_covers_12 rfl q3242 q686 q111 q687 rfl rfl moJ26_valueOf rfl rfl (by decide) (by decide) (Nat.le_of_ble_eq_true rfl) (by omega) (by omega) (fun _ _ hx => noX_x hx) (fun v12 L1 hp12 => ?_)
    obtain ⟨rfl, rfl⟩ := hp12
    refine (show Go g κ 15 [some (.ref e), some (.int (nI n)), some (.ref p), none] [.ref (kI g n), .ref p] [w0, w1] ((cov (eTr r) n).length) (4 * (capF (vs ++ cov (eTr r) n).length - capF vs.length)) from ?_)
    obtain ⟨wc_3, ewc_3⟩ : ∃ w : va_W, w = ([] : List va_W).flatten := ⟨_, rfl⟩
    have hwc_3 : BxE g (kI g n) n wc_3 := by
      rw [ewc_3]
      exact kI_box g (by omega)
    refine g_close (w := wc_3) [] rfl ewc_3 rfl ?_
    refine (show Go g κ 15 [some (.ref e), some (.int (nI n)), some (.ref p), none] [.ref (kI g n), .ref p] [w0, w1, wc_3] ((cov (eTr r) n).length) (4 * (capF (vs ++ cov (eTr r) n).length - capF vs.length)) from ?_)
    obtain ⟨ps_4, md_4, hli_4, hln_4, hel_4⟩ := LhP.at (Sub.self hw1)
    refine g_callV (q := 18) (is := [1, 1]) (kc2 := ((cov (eTr r) n).length) - 1) (ks2 := (4 * (capF (vs ++ cov (eTr r) n).length - capF vs.length)) - (4 * (capF (vs.length + 1) - capF vs.length))) B [.ref (kI g n)] (ct_add_IlP g J (p := p) (rs := vs) (cap := (capF vs.length)) (a := (kI g n)) (r := n) (mc := 1) (ms := (4 * (capF (vs.length + 1) - capF vs.length))) hw1 hwc_3 (by have := capF_le vs.length; omega) (fun h => ⟨Nat.le_refl _, capF_ms _ h⟩)) dX3_covers_15 rfl (rc_in B (ci := 21) rfl (k := 1) rfl (LhP.hm hw1)) rfl q3144 q711 q3666 q81 q713 rfl rfl moJ2_add rfl rfl (by decide) (by decide) (Nat.le_of_ble_eq_true rfl) (by omega) (by omega) (fun _ _ hx => noX_x hx) (fun v15 L1 hp15 => ?_)
    obtain ⟨u0_15, rfl, rfl, hu0_15⟩ := hp15
    refine (show Go g κ 18 [some (.ref e), some (.int (nI n)), some (.ref p), none] [.int (nI 1)] [w0, u0_15] (((cov (eTr r) n).length) - 1) ((4 * (capF (vs ++ cov (eTr r) n).length - capF vs.length)) - (4 * (capF (vs.length + 1) - capF vs.length))) from ?_)
    have hX0 : (vs ++ (n :: ltL ((eTr r).2.2.1 n) 0)).length = vs.length + 1 := by simp [ltL]
    have hc0 : capF (vs ++ (n :: ltL ((eTr r).2.2.1 n) 0)).length = capF (vs.length + 1) := by rw [hX0]
    have hr_5 : LhP g (BxE g) p (vs ++ (n :: ltL ((eTr r).2.2.1 n) 0)) (capF (vs ++ (n :: ltL ((eTr r).2.2.1 n) 0)).length) u0_15 := by rw [hc0, ← capF_s]; exact hu0_15
    refine g_pop (q := 19) B dX3_covers_18 rfl rfl ?_
    refine g_iconst (v := nI 0) (q := 20) B dX3_covers_19 rfl (by decide) ?_
    refine g_istore_n (q := 21) (lv2 := [some (.ref e), some (.int (nI n)), some (.ref p), some (.int (nI 0))]) B dX3_covers_20 rfl (Nat.le_of_ble_eq_true rfl) rfl ?_
    have lp21 : ∀ (n21 : Nat) (k : Nat) (l21_1 : va_W), LhP g (BxE g) p (vs ++ (n :: ltL ((eTr r).2.2.1 n) k)) (capF (vs ++ (n :: ltL ((eTr r).2.2.1 n) k)).length) l21_1 → (k ≤ 16) → 16 - k = n21 → Go g κ 21 [some (.ref e), some (.int (nI n)), some (.ref p), some (.int (nI k))] [] [w0, l21_1] ((ltL ((eTr r).2.2.1 n) 16).length - (ltL ((eTr r).2.2.1 n) k).length) (4 * (capF (vs ++ cov (eTr r) n).length - capF (vs ++ (n :: ltL ((eTr r).2.2.1 n) k)).length)) := by
      intro n21
      induction n21 using Nat.strongRecOn with
      | _ n21 ih21 =>
      intro k l21_1 hl21_1 hk hmu21
      refine g_iload_n (q := 22) B dX3_covers_21 rfl rfl ?_
      refine g_bipush (v := nI 16) (q := 24) B dX3_covers_22 rfl (by decide) ?_
      refine g_icmp_ge (tgt := 58) (q := 27) B dX3_covers_24 rfl (by decide) (nI_leI (by omega) (by omega)) (fun c24 => ?_) (fun c24 => ?_)
      · skip
        have hr_6 : LhP g (BxE g) p (vs ++ cov (eTr r) n) (capF (vs ++ cov (eTr r) n).length) l21_1 := by rw [hcs]; have z := hl21_1; rw [show k = 16 by omega] at z; exact z
        refine g_goto (tgt := 88) B dX3_covers_58 (by decide) ?_
        exact g_vret B E dX3_covers_88 (⟨l21_1, rfl, rfl, hr_6⟩)
      · skip
        refine g_aload_n (q := 28) B dX3_covers_27 rfl rfl (rv_r _) ?_
        refine g_getNM (q := 31) B (ci := 16) (k := 0) (j := 6) in_X13 rfl dX3_covers_28 rfl rfl (hc_1_0) (Nat.le_of_ble_eq_true rfl) q3265 rfl rfl ?_
        refine g_iload_n (q := 32) B dX3_covers_31 rfl rfl ?_
        refine g_ialdM (v := nI (((eTr r).2.2.1) n)) (q := 33) B (k := 0) dX3_covers_32 rfl rfl (hc_1_3) (vp_in_nI (by omega) (by omega)) (by rw [nI_clamp (by omega)]; exact hfl_1 _ (by omega)) ?_
        refine g_iload_n (q := 34) B dX3_covers_33 rfl rfl ?_
        refine g_ishr (v := nI ((eTr r).2.2.1 n / 2 ^ k)) (q := 35) B dX3_covers_34 rfl (shr_J (by omega) (by omega)) ?_
        refine g_iconst (v := nI 1) (q := 36) B dX3_covers_35 rfl (by decide) ?_
        refine g_iand (v := nI ((eTr r).2.2.1 n / 2 ^ k % 2)) (q := 37) B dX3_covers_36 rfl (nI_an1 _) ?_
        refine g_iconst (v := nI 1) (q := 38) B dX3_covers_37 rfl (by decide) ?_
        refine g_icmp_ne (tgt := 52) (q := 41) B dX3_covers_38 rfl (by decide) (hsB_I hsl) (fun c38 => ?_) (fun c38 => ?_)
        · skip
          have hls : ltL ((eTr r).2.2.1 n) (k + 1) = ltL ((eTr r).2.2.1 n) k := by rw [ltL_s, if_neg c38]
          have hc9 : capF (vs ++ (n :: ltL ((eTr r).2.2.1 n) (k + 1))).length = capF (vs ++ (n :: ltL ((eTr r).2.2.1 n) k)).length := by rw [hls]
          have hl9 : (ltL ((eTr r).2.2.1 n) (k + 1)).length = (ltL ((eTr r).2.2.1 n) k).length := by rw [hls]
          have hr_7 : LhP g (BxE g) p (vs ++ (n :: ltL ((eTr r).2.2.1 n) (k + 1))) (capF (vs ++ (n :: ltL ((eTr r).2.2.1 n) (k + 1))).length) l21_1 := by rw [hls]; exact hl21_1
          refine g_iinc (v := nI (k + 1)) (q := 55) (lv2 := [some (.ref e), some (.int (nI n)), some (.ref p), some (.int (nI (k + 1)))]) B dX3_covers_52 rfl rfl (nI_add _ 1) (Nat.le_of_ble_eq_true rfl) rfl ?_
          refine g_goto (tgt := 21) B dX3_covers_55 (by decide) ?_
          refine g_room (kc2 := (ltL ((eTr r).2.2.1 n) 16).length - (ltL ((eTr r).2.2.1 n) (k + 1)).length) (ks2 := 4 * (capF (vs ++ cov (eTr r) n).length - capF (vs ++ (n :: ltL ((eTr r).2.2.1 n) (k + 1))).length)) (by omega) (by omega) ?_
          exact ih21 _ (by omega) (k + 1) l21_1 hr_7 (by first | assumption | omega | rfl) rfl
        · skip
          have c38 := Classical.not_not.mp c38
          have hls : ltL ((eTr r).2.2.1 n) (k + 1) = ltL ((eTr r).2.2.1 n) k ++ [2 * k] := by rw [ltL_s, if_pos c38]
          have hl1 : (ltL ((eTr r).2.2.1 n) (k + 1)).length = (ltL ((eTr r).2.2.1 n) k).length + 1 := by rw [hls]; simp
          have hl2 := ltL_mo ((eTr r).2.2.1 n) (show k + 1 ≤ 16 by omega)
          have hX : (vs ++ (n :: ltL ((eTr r).2.2.1 n) (k + 1))).length = (vs ++ (n :: ltL ((eTr r).2.2.1 n) k)).length + 1 := by rw [hls]; simp only [List.length_append, List.length_cons, List.length_nil]; omega
          have hXk : (vs ++ (n :: ltL ((eTr r).2.2.1 n) k)).length = vs.length + 1 + (ltL ((eTr r).2.2.1 n) k).length := by simp only [List.length_append, List.length_cons]; omega
          have hc1 : capF (vs ++ (n :: ltL ((eTr r).2.2.1 n) (k + 1))).length = capF ((vs ++ (n :: ltL ((eTr r).2.2.1 n) k)).length + 1) := by rw [hX]
          have hc2 := capF_m (show (vs ++ (n :: ltL ((eTr r).2.2.1 n) k)).length + 1 ≤ (vs ++ cov (eTr r) n).length by omega)
          have hc3 := capF_mo (vs ++ (n :: ltL ((eTr r).2.2.1 n) k)).length
          refine g_aload_n (q := 42) B dX3_covers_41 rfl rfl (rv_r _) ?_
          refine g_iconst (v := nI 2) (q := 43) B dX3_covers_42 rfl (by decide) ?_
          refine g_iload_n (q := 44) B dX3_covers_43 rfl rfl ?_
          refine g_imul (v := nI (2 * k)) (q := 45) B dX3_covers_44 rfl (pk_mul _ _) ?_
          refine g_callS (q := 48) (is := []) (kc2 := (ltL ((eTr r).2.2.1 n) 16).length - (ltL ((eTr r).2.2.1 n) k).length) (ks2 := 4 * (capF (vs ++ cov (eTr r) n).length - capF (vs ++ (n :: ltL ((eTr r).2.2.1 n) k)).length)) B [.int (nI (2 * k))] (ct_J26_valueOf_k g J (k := 2 * k)  (by omega)) dX3_covers_45 rfl q3242 q686 q111 q687 rfl rfl moJ26_valueOf rfl rfl (by decide) (by decide) (Nat.le_of_ble_eq_true rfl) (by omega) (by omega) (fun _ _ hx => noX_x hx) (fun v45 L1 hp45 => ?_)
          obtain ⟨rfl, rfl⟩ := hp45
          refine (show Go g κ 48 [some (.ref e), some (.int (nI n)), some (.ref p), some (.int (nI k))] [.ref (kI g (2 * k)), .ref p] [w0, l21_1] ((ltL ((eTr r).2.2.1 n) 16).length - (ltL ((eTr r).2.2.1 n) k).length) (4 * (capF (vs ++ cov (eTr r) n).length - capF (vs ++ (n :: ltL ((eTr r).2.2.1 n) k)).length)) from ?_)
          obtain ⟨wc_8, ewc_8⟩ : ∃ w : va_W, w = ([] : List va_W).flatten := ⟨_, rfl⟩
          have hwc_8 : BxE g (kI g (2 * k)) (2 * k) wc_8 := by
            rw [ewc_8]
            exact kI_box g (by omega)
          refine g_close (w := wc_8) [] rfl ewc_8 rfl ?_
          refine (show Go g κ 48 [some (.ref e), some (.int (nI n)), some (.ref p), some (.int (nI k))] [.ref (kI g (2 * k)), .ref p] [w0, l21_1, wc_8] ((ltL ((eTr r).2.2.1 n) 16).length - (ltL ((eTr r).2.2.1 n) k).length) (4 * (capF (vs ++ cov (eTr r) n).length - capF (vs ++ (n :: ltL ((eTr r).2.2.1 n) k)).length)) from ?_)
          obtain ⟨ps_9, md_9, hli_9, hln_9, hel_9⟩ := LhP.at (Sub.self hl21_1)
          refine g_callV (q := 51) (is := [1, 1]) (kc2 := ((ltL ((eTr r).2.2.1 n) 16).length - (ltL ((eTr r).2.2.1 n) k).length) - 1) (ks2 := (4 * (capF (vs ++ cov (eTr r) n).length - capF (vs ++ (n :: ltL ((eTr r).2.2.1 n) k)).length)) - (4 * (capF ((vs ++ (n :: ltL ((eTr r).2.2.1 n) k)).length + 1) - capF (vs ++ (n :: ltL ((eTr r).2.2.1 n) k)).length))) B [.ref (kI g (2 * k))] (ct_add_IlP g J (p := p) (rs := (vs ++ (n :: ltL ((eTr r).2.2.1 n) k))) (cap := (capF (vs ++ (n :: ltL ((eTr r).2.2.1 n) k)).length)) (a := (kI g (2 * k))) (r := (2 * k)) (mc := 1) (ms := (4 * (capF ((vs ++ (n :: ltL ((eTr r).2.2.1 n) k)).length + 1) - capF (vs ++ (n :: ltL ((eTr r).2.2.1 n) k)).length))) hl21_1 hwc_8 (by have := capF_le (vs ++ (n :: ltL ((eTr r).2.2.1 n) k)).length; omega) (fun h => ⟨Nat.le_refl _, capF_ms _ h⟩)) dX3_covers_48 rfl (rc_in B (ci := 21) rfl (k := 1) rfl (LhP.hm hl21_1)) rfl q3144 q711 q3666 q81 q713 rfl rfl moJ2_add rfl rfl (by decide) (by decide) (Nat.le_of_ble_eq_true rfl) (by omega) (by omega) (fun _ _ hx => noX_x hx) (fun v48 L1 hp48 => ?_)
          obtain ⟨u0_48, rfl, rfl, hu0_48⟩ := hp48
          refine (show Go g κ 51 [some (.ref e), some (.int (nI n)), some (.ref p), some (.int (nI k))] [.int (nI 1)] [w0, u0_48] (((ltL ((eTr r).2.2.1 n) 16).length - (ltL ((eTr r).2.2.1 n) k).length) - 1) ((4 * (capF (vs ++ cov (eTr r) n).length - capF (vs ++ (n :: ltL ((eTr r).2.2.1 n) k)).length)) - (4 * (capF ((vs ++ (n :: ltL ((eTr r).2.2.1 n) k)).length + 1) - capF (vs ++ (n :: ltL ((eTr r).2.2.1 n) k)).length))) from ?_)
          have hr_10 : LhP g (BxE g) p (vs ++ (n :: ltL ((eTr r).2.2.1 n) (k + 1))) (capF (vs ++ (n :: ltL ((eTr r).2.2.1 n) (k + 1))).length) u0_48 := by rw [hc1, hls, ← capF_s]; have z := hu0_48; rw [List.append_assoc, List.cons_append] at z; exact z
          refine g_pop (q := 52) B dX3_covers_51 rfl rfl ?_
          refine g_iinc (v := nI (k + 1)) (q := 55) (lv2 := [some (.ref e), some (.int (nI n)), some (.ref p), some (.int (nI (k + 1)))]) B dX3_covers_52 rfl rfl (nI_add _ 1) (Nat.le_of_ble_eq_true rfl) rfl ?_
          refine g_goto (tgt := 21) B dX3_covers_55 (by decide) ?_
          refine g_room (kc2 := (ltL ((eTr r).2.2.1 n) 16).length - (ltL ((eTr r).2.2.1 n) (k + 1)).length) (ks2 := 4 * (capF (vs ++ cov (eTr r) n).length - capF (vs ++ (n :: ltL ((eTr r).2.2.1 n) (k + 1))).length)) (by omega) (by omega) ?_
          exact ih21 _ (by omega) (k + 1) u0_48 hr_10 (by first | assumption | omega | rfl) rfl
    have hl00 : (ltL ((eTr r).2.2.1 n) 0).length = 0 := rfl
    refine g_room (kc2 := (ltL ((eTr r).2.2.1 n) 16).length - (ltL ((eTr r).2.2.1 n) 0).length) (ks2 := 4 * (capF (vs ++ cov (eTr r) n).length - capF (vs ++ (n :: ltL ((eTr r).2.2.1 n) 0)).length)) (by omega) (by omega) ?_
    exact lp21 _ 0 u0_15 hr_5 (Nat.zero_le _) rfl
theorem ct_X3_covers_2 (g : Gv) (J : Jd g) {e : Nat} {r : MeS} {n : Nat} {p : Nat} {vs : List Nat} {w0 : va_W} {w1 : va_W} (hw0 : EpP g e r w0) (hw1 : LhP g (BxE g) p vs (capF vs.length) w1) (hLt : LtB (eTr r)) (hn : n < 31) (hlv : lev n = 2) (hvl : vs.length + 68 < 100000) : Ct g yX3_covers (ws_ yX3_covers cX3_covers 4 none) 10 ((cov (eTr r) n).length) (4 * (capF (vs ++ cov (eTr r) n).length - capF vs.length)) [.ref e, .int (nI n), .ref p] [w0, w1] (fun (rv_ : Option Value) (rL_ : List va_W) => ∃ (u1 : va_W), rv_ = none ∧ rL_ = [w0, u1] ∧ LhP g (BxE g) p (vs ++ cov (eTr r) n) (capF (vs ++ cov (eTr r) n).length) u1) noX := by
  refine Ct.of "KeygroveModel" [some (.ref e), some (.int (nI n)), some (.ref p), none] rfl (by decide) rfl (Nat.le_of_ble_eq_true rfl) rfl ?_
  intro κ B E tb
  have hE0 := EpP.b hw0
  have hB := hE0.2.1
  have hp2 := p2_4 hB.1
  have hd4 := hB.1
  refine g_aload_n (q := 1) B dX3_covers_0 rfl rfl (rv_r _) ?_
  obtain ⟨ap_1, an_1, al_1, ac_1, aw_1, am_1, ak_1, fp_1, fn_1, fl_1, fc_1, fw_1, fm_1, fk_1, hE_1, hfp_1, hfn_1, hfl_1, hfc_1, hfw_1, hfm_1, hfk_1, hc_1_0, hc_1_1, hc_1_2, hc_1_3, hc_1_4, hc_1_5, hc_1_6, hc_1_7⟩ := EpP.at (Sub.self hw0)
  refine g_getNM (q := 4) B (ci := 16) (k := 0) (j := 5) in_X13 rfl dX3_covers_1 rfl rfl (hc_1_0) (Nat.le_of_ble_eq_true rfl) q3263 rfl rfl ?_
  refine g_iload_n (q := 5) B dX3_covers_4 rfl rfl ?_
  refine g_ialdM (v := oI (((eTr r).2.1) n)) (q := 6) B (k := 0) dX3_covers_5 rfl rfl (hc_1_2) (vp_in_nI (by omega) (by omega)) (by rw [nI_clamp (by omega)]; exact hfn_1 _ (by omega)) ?_
  refine g_iconst (v := -1) (q := 7) B dX3_covers_6 rfl (by decide) ?_
  refine g_icmp_eq (tgt := 61) (q := 10) B dX3_covers_7 rfl (by decide) (oI_n ((fun n h => by have := hE_1.2.1.2.1 _ _ h; omega))) (fun c7 => ?_) (fun c7 => ?_)
  · skip
    refine g_iload_n (q := 62) B dX3_covers_61 rfl rfl ?_
    refine g_callS (q := 65) (is := []) (kc2 := (cov (eTr r) n).length) (ks2 := 4 * (capF (vs ++ cov (eTr r) n).length - capF vs.length)) B [.int (nI n)] (ct_X3_level g J (n := n)  (by first | assumption | omega | rfl)) dX3_covers_62 rfl q3441 q3442 q85 q3443 rfl rfl moX3_level rfl rfl (by decide) (by decide) (Nat.le_of_ble_eq_true rfl) (by omega) (by omega) (fun _ _ hx => noX_x hx) (fun v62 L1 hp62 => ?_)
    obtain ⟨rfl, rfl⟩ := hp62
    refine (show Go g κ 65 [some (.ref e), some (.int (nI n)), some (.ref p), none] [.int (nI (lev n))] [w0, w1] ((cov (eTr r) n).length) (4 * (capF (vs ++ cov (eTr r) n).length - capF vs.length)) from ?_)
    refine g_if_le (tgt := 88) (q := 68) B dX3_covers_65 rfl (by decide) (iff_false_intro (by rw [nI_le0 (by omega)]; omega)) (fun z => z.elim) (fun _ => ?_)
    obtain ⟨hq1, hq2, hq3, hq4⟩ := lft_b n hn (by omega)
    have hcb := cov_b hn c7 (by omega)
    have hlb : (cov (eTr r) n).length = (cov (eTr r) (lft n)).length + (cov (eTr r) (rgt n)).length := by rw [hcb]; simp
    have hE1 : capF (vs ++ cov (eTr r) n).length = capF ((vs ++ cov (eTr r) (lft n)) ++ cov (eTr r) (rgt n)).length := by rw [hcb, List.append_assoc]
    have hm1 := capF_m (show vs.length ≤ (vs ++ cov (eTr r) (lft n)).length by simp)
    have hm2 := capF_m (show (vs ++ cov (eTr r) (lft n)).length ≤ ((vs ++ cov (eTr r) (lft n)) ++ cov (eTr r) (rgt n)).length by simp)
    have hlz := cov_len hB (n := lft n) (m := 1) (by omega)
    have hlz2 : (vs ++ cov (eTr r) (lft n)).length = vs.length + (cov (eTr r) (lft n)).length := by simp
    refine g_aload_n (q := 69) B dX3_covers_68 rfl rfl (rv_r _) ?_
    refine g_iload_n (q := 70) B dX3_covers_69 rfl rfl ?_
    refine g_iconst (v := nI 1) (q := 71) B dX3_covers_70 rfl (by decide) ?_
    refine g_callS (q := 74) (is := []) (kc2 := (cov (eTr r) n).length) (ks2 := 4 * (capF (vs ++ cov (eTr r) n).length - capF vs.length)) B [.int (nI n), .int (nI 1)] (ct_X3_child_1 g J (n := n)  (hn) (by omega)) dX3_covers_71 rfl q3463 q3464 q85 q3465 rfl rfl moX3_child rfl rfl (by decide) (by decide) (Nat.le_of_ble_eq_true rfl) (by omega) (by omega) (fun _ _ hx => noX_x hx) (fun v71 L1 hp71 => ?_)
    obtain ⟨rfl, rfl⟩ := hp71
    refine (show Go g κ 74 [some (.ref e), some (.int (nI n)), some (.ref p), none] [.int (nI (lft n)), .ref e] [w0, w1] ((cov (eTr r) n).length) (4 * (capF (vs ++ cov (eTr r) n).length - capF vs.length)) from ?_)
    refine g_aload_n (q := 75) B dX3_covers_74 rfl rfl (rv_r _) ?_
    refine g_callS (q := 78) (is := [0, 0]) (kc2 := ((cov (eTr r) n).length) - ((cov (eTr r) (lft n)).length)) (ks2 := (4 * (capF (vs ++ cov (eTr r) n).length - capF vs.length)) - (4 * (capF (vs ++ cov (eTr r) (lft n)).length - capF vs.length))) B [.ref e, .int (nI (lft n)), .ref p] (ct_X3_covers_1 g J (e := e) (r := r) (n := lft n) (p := p) (vs := vs) hw0 hw1 (hLt) (by omega) (by omega) (by omega)) dX3_covers_75 rfl q3469 q3470 q85 q3471 rfl rfl moX3_covers rfl rfl (by decide) (by decide) (Nat.le_of_ble_eq_true rfl) (by omega) (by omega) (fun _ _ hx => noX_x hx) (fun v75 L1 hp75 => ?_)
    obtain ⟨u1_75, rfl, rfl, hu1_75⟩ := hp75
    refine (show Go g κ 78 [some (.ref e), some (.int (nI n)), some (.ref p), none] [] [w0, u1_75] (((cov (eTr r) n).length) - ((cov (eTr r) (lft n)).length)) ((4 * (capF (vs ++ cov (eTr r) n).length - capF vs.length)) - (4 * (capF (vs ++ cov (eTr r) (lft n)).length - capF vs.length))) from ?_)
    refine g_aload_n (q := 79) B dX3_covers_78 rfl rfl (rv_r _) ?_
    refine g_iload_n (q := 80) B dX3_covers_79 rfl rfl ?_
    refine g_iconst (v := nI 0) (q := 81) B dX3_covers_80 rfl (by decide) ?_
    refine g_callS (q := 84) (is := []) (kc2 := ((cov (eTr r) n).length) - ((cov (eTr r) (lft n)).length)) (ks2 := (4 * (capF (vs ++ cov (eTr r) n).length - capF vs.length)) - (4 * (capF (vs ++ cov (eTr r) (lft n)).length - capF vs.length))) B [.int (nI n), .int (nI 0)] (ct_X3_child_0 g J (n := n)  (hn) (by omega)) dX3_covers_81 rfl q3463 q3464 q85 q3465 rfl rfl moX3_child rfl rfl (by decide) (by decide) (Nat.le_of_ble_eq_true rfl) (by omega) (by omega) (fun _ _ hx => noX_x hx) (fun v81 L1 hp81 => ?_)
    obtain ⟨rfl, rfl⟩ := hp81
    refine (show Go g κ 84 [some (.ref e), some (.int (nI n)), some (.ref p), none] [.int (nI (rgt n)), .ref e] [w0, u1_75] (((cov (eTr r) n).length) - ((cov (eTr r) (lft n)).length)) ((4 * (capF (vs ++ cov (eTr r) n).length - capF vs.length)) - (4 * (capF (vs ++ cov (eTr r) (lft n)).length - capF vs.length))) from ?_)
    refine g_aload_n (q := 85) B dX3_covers_84 rfl rfl (rv_r _) ?_
    refine g_callS (q := 88) (is := [0, 0]) (kc2 := (((cov (eTr r) n).length) - ((cov (eTr r) (lft n)).length)) - ((cov (eTr r) (rgt n)).length)) (ks2 := ((4 * (capF (vs ++ cov (eTr r) n).length - capF vs.length)) - (4 * (capF (vs ++ cov (eTr r) (lft n)).length - capF vs.length))) - (4 * (capF ((vs ++ cov (eTr r) (lft n)) ++ cov (eTr r) (rgt n)).length - capF (vs ++ cov (eTr r) (lft n)).length))) B [.ref e, .int (nI (rgt n)), .ref p] (ct_X3_covers_1 g J (e := e) (r := r) (n := rgt n) (p := p) (vs := (vs ++ cov (eTr r) (lft n))) hw0 hu1_75 (hLt) (by omega) (by omega) (by omega)) dX3_covers_85 rfl q3469 q3470 q85 q3471 rfl rfl moX3_covers rfl rfl (by decide) (by decide) (Nat.le_of_ble_eq_true rfl) (by omega) (by omega) (fun _ _ hx => noX_x hx) (fun v85 L1 hp85 => ?_)
    obtain ⟨u1_85, rfl, rfl, hu1_85⟩ := hp85
    refine (show Go g κ 88 [some (.ref e), some (.int (nI n)), some (.ref p), none] [] [w0, u1_85] ((((cov (eTr r) n).length) - ((cov (eTr r) (lft n)).length)) - ((cov (eTr r) (rgt n)).length)) (((4 * (capF (vs ++ cov (eTr r) n).length - capF vs.length)) - (4 * (capF (vs ++ cov (eTr r) (lft n)).length - capF vs.length))) - (4 * (capF ((vs ++ cov (eTr r) (lft n)) ++ cov (eTr r) (rgt n)).length - capF (vs ++ cov (eTr r) (lft n)).length))) from ?_)
    have hr_2 : LhP g (BxE g) p (vs ++ cov (eTr r) n) (capF (vs ++ cov (eTr r) n).length) u1_85 := by rw [hcb, ← List.append_assoc]; exact hu1_85
    exact g_vret B E dX3_covers_88 (⟨u1_85, rfl, rfl, hr_2⟩)
  · skip
    obtain ⟨v7, ev7⟩ := Option.ne_none_iff_exists'.mp c7
    have hcs : cov (eTr r) n = n :: ltL ((eTr r).2.2.1 n) 16 := by rw [hLt n]; exact cov_s c7
    have hsl := hB.2.2.1 n
    have hlE : (vs ++ cov (eTr r) n).length = vs.length + 1 + (ltL ((eTr r).2.2.1 n) 16).length := by rw [hcs]; simp; omega
    have hlc : (cov (eTr r) n).length = (ltL ((eTr r).2.2.1 n) 16).length + 1 := by rw [hcs]; simp
    have hm1 := capF_m (show vs.length + 1 ≤ (vs ++ cov (eTr r) n).length by omega)
    have hm2 := capF_mo vs.length
    have hcv := cov_len hB hlv
    have hlE2 : (vs ++ cov (eTr r) n).length = vs.length + (cov (eTr r) n).length := by simp
    refine g_aload_n (q := 11) B dX3_covers_10 rfl rfl (rv_r _) ?_
    refine g_iload_n (q := 12) B dX3_covers_11 rfl rfl ?_
    refine g_callS (q := 15) (is := []) (kc2 := (cov (eTr r) n).length) (ks2 := 4 * (capF (vs ++ cov (eTr r) n).length - capF vs.length)) B [.int (nI n)] (ct_J26_valueOf_k g J (k := n)  (by omega)) dX3_covers_12 rfl q3242 q686 q111 q687 rfl rfl moJ26_valueOf rfl rfl (by decide) (by decide) (Nat.le_of_ble_eq_true rfl) (by omega) (by omega) (fun _ _ hx => noX_x hx) (fun v12 L1 hp12 => ?_)
    obtain ⟨rfl, rfl⟩ := hp12
    refine (show Go g κ 15 [some (.ref e), some (.int (nI n)), some (.ref p), none] [.ref (kI g n), .ref p] [w0, w1] ((cov (eTr r) n).length) (4 * (capF (vs ++ cov (eTr r) n).length - capF vs.length)) from ?_)
    obtain ⟨wc_3, ewc_3⟩ : ∃ w : va_W, w = ([] : List va_W).flatten := ⟨_, rfl⟩
    have hwc_3 : BxE g (kI g n) n wc_3 := by
      rw [ewc_3]
      exact kI_box g (by omega)
    refine g_close (w := wc_3) [] rfl ewc_3 rfl ?_
    refine (show Go g κ 15 [some (.ref e), some (.int (nI n)), some (.ref p), none] [.ref (kI g n), .ref p] [w0, w1, wc_3] ((cov (eTr r) n).length) (4 * (capF (vs ++ cov (eTr r) n).length - capF vs.length)) from ?_)
    obtain ⟨ps_4, md_4, hli_4, hln_4, hel_4⟩ := LhP.at (Sub.self hw1)
    refine g_callV (q := 18) (is := [1, 1]) (kc2 := ((cov (eTr r) n).length) - 1) (ks2 := (4 * (capF (vs ++ cov (eTr r) n).length - capF vs.length)) - (4 * (capF (vs.length + 1) - capF vs.length))) B [.ref (kI g n)] (ct_add_IlP g J (p := p) (rs := vs) (cap := (capF vs.length)) (a := (kI g n)) (r := n) (mc := 1) (ms := (4 * (capF (vs.length + 1) - capF vs.length))) hw1 hwc_3 (by have := capF_le vs.length; omega) (fun h => ⟨Nat.le_refl _, capF_ms _ h⟩)) dX3_covers_15 rfl (rc_in B (ci := 21) rfl (k := 1) rfl (LhP.hm hw1)) rfl q3144 q711 q3666 q81 q713 rfl rfl moJ2_add rfl rfl (by decide) (by decide) (Nat.le_of_ble_eq_true rfl) (by omega) (by omega) (fun _ _ hx => noX_x hx) (fun v15 L1 hp15 => ?_)
    obtain ⟨u0_15, rfl, rfl, hu0_15⟩ := hp15
    refine (show Go g κ 18 [some (.ref e), some (.int (nI n)), some (.ref p), none] [.int (nI 1)] [w0, u0_15] (((cov (eTr r) n).length) - 1) ((4 * (capF (vs ++ cov (eTr r) n).length - capF vs.length)) - (4 * (capF (vs.length + 1) - capF vs.length))) from ?_)
    have hX0 : (vs ++ (n :: ltL ((eTr r).2.2.1 n) 0)).length = vs.length + 1 := by simp [ltL]
    have hc0 : capF (vs ++ (n :: ltL ((eTr r).2.2.1 n) 0)).length = capF (vs.length + 1) := by rw [hX0]
    have hr_5 : LhP g (BxE g) p (vs ++ (n :: ltL ((eTr r).2.2.1 n) 0)) (capF (vs ++ (n :: ltL ((eTr r).2.2.1 n) 0)).length) u0_15 := by rw [hc0, ← capF_s]; exact hu0_15
    refine g_pop (q := 19) B dX3_covers_18 rfl rfl ?_
    refine g_iconst (v := nI 0) (q := 20) B dX3_covers_19 rfl (by decide) ?_
    refine g_istore_n (q := 21) (lv2 := [some (.ref e), some (.int (nI n)), some (.ref p), some (.int (nI 0))]) B dX3_covers_20 rfl (Nat.le_of_ble_eq_true rfl) rfl ?_
    have lp21 : ∀ (n21 : Nat) (k : Nat) (l21_1 : va_W), LhP g (BxE g) p (vs ++ (n :: ltL ((eTr r).2.2.1 n) k)) (capF (vs ++ (n :: ltL ((eTr r).2.2.1 n) k)).length) l21_1 → (k ≤ 16) → 16 - k = n21 → Go g κ 21 [some (.ref e), some (.int (nI n)), some (.ref p), some (.int (nI k))] [] [w0, l21_1] ((ltL ((eTr r).2.2.1 n) 16).length - (ltL ((eTr r).2.2.1 n) k).length) (4 * (capF (vs ++ cov (eTr r) n).length - capF (vs ++ (n :: ltL ((eTr r).2.2.1 n) k)).length)) := by
      intro n21
      induction n21 using Nat.strongRecOn with
      | _ n21 ih21 =>
      intro k l21_1 hl21_1 hk hmu21
      refine g_iload_n (q := 22) B dX3_covers_21 rfl rfl ?_
      refine g_bipush (v := nI 16) (q := 24) B dX3_covers_22 rfl (by decide) ?_
      refine g_icmp_ge (tgt := 58) (q := 27) B dX3_covers_24 rfl (by decide) (nI_leI (by omega) (by omega)) (fun c24 => ?_) (fun c24 => ?_)
      · skip
        have hr_6 : LhP g (BxE g) p (vs ++ cov (eTr r) n) (capF (vs ++ cov (eTr r) n).length) l21_1 := by rw [hcs]; have z := hl21_1; rw [show k = 16 by omega] at z; exact z
        refine g_goto (tgt := 88) B dX3_covers_58 (by decide) ?_
        exact g_vret B E dX3_covers_88 (⟨l21_1, rfl, rfl, hr_6⟩)
      · skip
        refine g_aload_n (q := 28) B dX3_covers_27 rfl rfl (rv_r _) ?_
        refine g_getNM (q := 31) B (ci := 16) (k := 0) (j := 6) in_X13 rfl dX3_covers_28 rfl rfl (hc_1_0) (Nat.le_of_ble_eq_true rfl) q3265 rfl rfl ?_
        refine g_iload_n (q := 32) B dX3_covers_31 rfl rfl ?_
        refine g_ialdM (v := nI (((eTr r).2.2.1) n)) (q := 33) B (k := 0) dX3_covers_32 rfl rfl (hc_1_3) (vp_in_nI (by omega) (by omega)) (by rw [nI_clamp (by omega)]; exact hfl_1 _ (by omega)) ?_
        refine g_iload_n (q := 34) B dX3_covers_33 rfl rfl ?_
        refine g_ishr (v := nI ((eTr r).2.2.1 n / 2 ^ k)) (q := 35) B dX3_covers_34 rfl (shr_J (by omega) (by omega)) ?_
        refine g_iconst (v := nI 1) (q := 36) B dX3_covers_35 rfl (by decide) ?_
        refine g_iand (v := nI ((eTr r).2.2.1 n / 2 ^ k % 2)) (q := 37) B dX3_covers_36 rfl (nI_an1 _) ?_
        refine g_iconst (v := nI 1) (q := 38) B dX3_covers_37 rfl (by decide) ?_
        refine g_icmp_ne (tgt := 52) (q := 41) B dX3_covers_38 rfl (by decide) (hsB_I hsl) (fun c38 => ?_) (fun c38 => ?_)
        · skip
          have hls : ltL ((eTr r).2.2.1 n) (k + 1) = ltL ((eTr r).2.2.1 n) k := by rw [ltL_s, if_neg c38]
          have hc9 : capF (vs ++ (n :: ltL ((eTr r).2.2.1 n) (k + 1))).length = capF (vs ++ (n :: ltL ((eTr r).2.2.1 n) k)).length := by rw [hls]
          have hl9 : (ltL ((eTr r).2.2.1 n) (k + 1)).length = (ltL ((eTr r).2.2.1 n) k).length := by rw [hls]
          have hr_7 : LhP g (BxE g) p (vs ++ (n :: ltL ((eTr r).2.2.1 n) (k + 1))) (capF (vs ++ (n :: ltL ((eTr r).2.2.1 n) (k + 1))).length) l21_1 := by rw [hls]; exact hl21_1
          refine g_iinc (v := nI (k + 1)) (q := 55) (lv2 := [some (.ref e), some (.int (nI n)), some (.ref p), some (.int (nI (k + 1)))]) B dX3_covers_52 rfl rfl (nI_add _ 1) (Nat.le_of_ble_eq_true rfl) rfl ?_
          refine g_goto (tgt := 21) B dX3_covers_55 (by decide) ?_
          refine g_room (kc2 := (ltL ((eTr r).2.2.1 n) 16).length - (ltL ((eTr r).2.2.1 n) (k + 1)).length) (ks2 := 4 * (capF (vs ++ cov (eTr r) n).length - capF (vs ++ (n :: ltL ((eTr r).2.2.1 n) (k + 1))).length)) (by omega) (by omega) ?_
          exact ih21 _ (by omega) (k + 1) l21_1 hr_7 (by first | assumption | omega | rfl) rfl
        · skip
          have c38 := Classical.not_not.mp c38
          have hls : ltL ((eTr r).2.2.1 n) (k + 1) = ltL ((eTr r).2.2.1 n) k ++ [2 * k] := by rw [ltL_s, if_pos c38]
          have hl1 : (ltL ((eTr r).2.2.1 n) (k + 1)).length = (ltL ((eTr r).2.2.1 n) k).length + 1 := by rw [hls]; simp
          have hl2 := ltL_mo ((eTr r).2.2.1 n) (show k + 1 ≤ 16 by omega)
          have hX : (vs ++ (n :: ltL ((eTr r).2.2.1 n) (k + 1))).length = (vs ++ (n :: ltL ((eTr r).2.2.1 n) k)).length + 1 := by rw [hls]; simp only [List.length_append, List.length_cons, List.length_nil]; omega
          have hXk : (vs ++ (n :: ltL ((eTr r).2.2.1 n) k)).length = vs.length + 1 + (ltL ((eTr r).2.2.1 n) k).length := by simp only [List.length_append, List.length_cons]; omega
          have hc1 : capF (vs ++ (n :: ltL ((eTr r).2.2.1 n) (k + 1))).length = capF ((vs ++ (n :: ltL ((eTr r).2.2.1 n) k)).length + 1) := by rw [hX]
          have hc2 := capF_m (show (vs ++ (n :: ltL ((eTr r).2.2.1 n) k)).length + 1 ≤ (vs ++ cov (eTr r) n).length by omega)
          have hc3 := capF_mo (vs ++ (n :: ltL ((eTr r).2.2.1 n) k)).length
          refine g_aload_n (q := 42) B dX3_covers_41 rfl rfl (rv_r _) ?_
          refine g_iconst (v := nI 2) (q := 43) B dX3_covers_42 rfl (by decide) ?_
          refine g_iload_n (q := 44) B dX3_covers_43 rfl rfl ?_
          refine g_imul (v := nI (2 * k)) (q := 45) B dX3_covers_44 rfl (pk_mul _ _) ?_
          refine g_callS (q := 48) (is := []) (kc2 := (ltL ((eTr r).2.2.1 n) 16).length - (ltL ((eTr r).2.2.1 n) k).length) (ks2 := 4 * (capF (vs ++ cov (eTr r) n).length - capF (vs ++ (n :: ltL ((eTr r).2.2.1 n) k)).length)) B [.int (nI (2 * k))] (ct_J26_valueOf_k g J (k := 2 * k)  (by omega)) dX3_covers_45 rfl q3242 q686 q111 q687 rfl rfl moJ26_valueOf rfl rfl (by decide) (by decide) (Nat.le_of_ble_eq_true rfl) (by omega) (by omega) (fun _ _ hx => noX_x hx) (fun v45 L1 hp45 => ?_)
          obtain ⟨rfl, rfl⟩ := hp45
          refine (show Go g κ 48 [some (.ref e), some (.int (nI n)), some (.ref p), some (.int (nI k))] [.ref (kI g (2 * k)), .ref p] [w0, l21_1] ((ltL ((eTr r).2.2.1 n) 16).length - (ltL ((eTr r).2.2.1 n) k).length) (4 * (capF (vs ++ cov (eTr r) n).length - capF (vs ++ (n :: ltL ((eTr r).2.2.1 n) k)).length)) from ?_)
          obtain ⟨wc_8, ewc_8⟩ : ∃ w : va_W, w = ([] : List va_W).flatten := ⟨_, rfl⟩
          have hwc_8 : BxE g (kI g (2 * k)) (2 * k) wc_8 := by
            rw [ewc_8]
            exact kI_box g (by omega)
          refine g_close (w := wc_8) [] rfl ewc_8 rfl ?_
          refine (show Go g κ 48 [some (.ref e), some (.int (nI n)), some (.ref p), some (.int (nI k))] [.ref (kI g (2 * k)), .ref p] [w0, l21_1, wc_8] ((ltL ((eTr r).2.2.1 n) 16).length - (ltL ((eTr r).2.2.1 n) k).length) (4 * (capF (vs ++ cov (eTr r) n).length - capF (vs ++ (n :: ltL ((eTr r).2.2.1 n) k)).length)) from ?_)
          obtain ⟨ps_9, md_9, hli_9, hln_9, hel_9⟩ := LhP.at (Sub.self hl21_1)
          refine g_callV (q := 51) (is := [1, 1]) (kc2 := ((ltL ((eTr r).2.2.1 n) 16).length - (ltL ((eTr r).2.2.1 n) k).length) - 1) (ks2 := (4 * (capF (vs ++ cov (eTr r) n).length - capF (vs ++ (n :: ltL ((eTr r).2.2.1 n) k)).length)) - (4 * (capF ((vs ++ (n :: ltL ((eTr r).2.2.1 n) k)).length + 1) - capF (vs ++ (n :: ltL ((eTr r).2.2.1 n) k)).length))) B [.ref (kI g (2 * k))] (ct_add_IlP g J (p := p) (rs := (vs ++ (n :: ltL ((eTr r).2.2.1 n) k))) (cap := (capF (vs ++ (n :: ltL ((eTr r).2.2.1 n) k)).length)) (a := (kI g (2 * k))) (r := (2 * k)) (mc := 1) (ms := (4 * (capF ((vs ++ (n :: ltL ((eTr r).2.2.1 n) k)).length + 1) - capF (vs ++ (n :: ltL ((eTr r).2.2.1 n) k)).length))) hl21_1 hwc_8 (by have := capF_le (vs ++ (n :: ltL ((eTr r).2.2.1 n) k)).length; omega) (fun h => ⟨Nat.le_refl _, capF_ms _ h⟩)) dX3_covers_48 rfl (rc_in B (ci := 21) rfl (k := 1) rfl (LhP.hm hl21_1)) rfl q3144 q711 q3666 q81 q713 rfl rfl moJ2_add rfl rfl (by decide) (by decide) (Nat.le_of_ble_eq_true rfl) (by omega) (by omega) (fun _ _ hx => noX_x hx) (fun v48 L1 hp48 => ?_)
          obtain ⟨u0_48, rfl, rfl, hu0_48⟩ := hp48
          refine (show Go g κ 51 [some (.ref e), some (.int (nI n)), some (.ref p), some (.int (nI k))] [.int (nI 1)] [w0, u0_48] (((ltL ((eTr r).2.2.1 n) 16).length - (ltL ((eTr r).2.2.1 n) k).length) - 1) ((4 * (capF (vs ++ cov (eTr r) n).length - capF (vs ++ (n :: ltL ((eTr r).2.2.1 n) k)).length)) - (4 * (capF ((vs ++ (n :: ltL ((eTr r).2.2.1 n) k)).length + 1) - capF (vs ++ (n :: ltL ((eTr r).2.2.1 n) k)).length))) from ?_)
          have hr_10 : LhP g (BxE g) p (vs ++ (n :: ltL ((eTr r).2.2.1 n) (k + 1))) (capF (vs ++ (n :: ltL ((eTr r).2.2.1 n) (k + 1))).length) u0_48 := by rw [hc1, hls, ← capF_s]; have z := hu0_48; rw [List.append_assoc, List.cons_append] at z; exact z
          refine g_pop (q := 52) B dX3_covers_51 rfl rfl ?_
          refine g_iinc (v := nI (k + 1)) (q := 55) (lv2 := [some (.ref e), some (.int (nI n)), some (.ref p), some (.int (nI (k + 1)))]) B dX3_covers_52 rfl rfl (nI_add _ 1) (Nat.le_of_ble_eq_true rfl) rfl ?_
          refine g_goto (tgt := 21) B dX3_covers_55 (by decide) ?_
          refine g_room (kc2 := (ltL ((eTr r).2.2.1 n) 16).length - (ltL ((eTr r).2.2.1 n) (k + 1)).length) (ks2 := 4 * (capF (vs ++ cov (eTr r) n).length - capF (vs ++ (n :: ltL ((eTr r).2.2.1 n) (k + 1))).length)) (by omega) (by omega) ?_
          exact ih21 _ (by omega) (k + 1) u0_48 hr_10 (by first | assumption | omega | rfl) rfl
    have hl00 : (ltL ((eTr r).2.2.1 n) 0).length = 0 := rfl
    refine g_room (kc2 := (ltL ((eTr r).2.2.1 n) 16).length - (ltL ((eTr r).2.2.1 n) 0).length) (ks2 := 4 * (capF (vs ++ cov (eTr r) n).length - capF (vs ++ (n :: ltL ((eTr r).2.2.1 n) 0)).length)) (by omega) (by omega) ?_
    exact lp21 _ 0 u0_15 hr_5 (Nat.zero_le _) rfl
theorem ct_X3_covers_3 (g : Gv) (J : Jd g) {e : Nat} {r : MeS} {n : Nat} {p : Nat} {vs : List Nat} {w0 : va_W} {w1 : va_W} (hw0 : EpP g e r w0) (hw1 : LhP g (BxE g) p vs (capF vs.length) w1) (hLt : LtB (eTr r)) (hn : n < 31) (hlv : lev n = 3) (hvl : vs.length + 136 < 100000) : Ct g yX3_covers (ws_ yX3_covers cX3_covers 4 none) 11 ((cov (eTr r) n).length) (4 * (capF (vs ++ cov (eTr r) n).length - capF vs.length)) [.ref e, .int (nI n), .ref p] [w0, w1] (fun (rv_ : Option Value) (rL_ : List va_W) => ∃ (u1 : va_W), rv_ = none ∧ rL_ = [w0, u1] ∧ LhP g (BxE g) p (vs ++ cov (eTr r) n) (capF (vs ++ cov (eTr r) n).length) u1) noX := by
  refine Ct.of "KeygroveModel" [some (.ref e), some (.int (nI n)), some (.ref p), none] rfl (by decide) rfl (Nat.le_of_ble_eq_true rfl) rfl ?_
  intro κ B E tb
  have hE0 := EpP.b hw0
  have hB := hE0.2.1
  have hp2 := p2_4 hB.1
  have hd4 := hB.1
  refine g_aload_n (q := 1) B dX3_covers_0 rfl rfl (rv_r _) ?_
  obtain ⟨ap_1, an_1, al_1, ac_1, aw_1, am_1, ak_1, fp_1, fn_1, fl_1, fc_1, fw_1, fm_1, fk_1, hE_1, hfp_1, hfn_1, hfl_1, hfc_1, hfw_1, hfm_1, hfk_1, hc_1_0, hc_1_1, hc_1_2, hc_1_3, hc_1_4, hc_1_5, hc_1_6, hc_1_7⟩ := EpP.at (Sub.self hw0)
  refine g_getNM (q := 4) B (ci := 16) (k := 0) (j := 5) in_X13 rfl dX3_covers_1 rfl rfl (hc_1_0) (Nat.le_of_ble_eq_true rfl) q3263 rfl rfl ?_
  refine g_iload_n (q := 5) B dX3_covers_4 rfl rfl ?_
  refine g_ialdM (v := oI (((eTr r).2.1) n)) (q := 6) B (k := 0) dX3_covers_5 rfl rfl (hc_1_2) (vp_in_nI (by omega) (by omega)) (by rw [nI_clamp (by omega)]; exact hfn_1 _ (by omega)) ?_
  refine g_iconst (v := -1) (q := 7) B dX3_covers_6 rfl (by decide) ?_
  refine g_icmp_eq (tgt := 61) (q := 10) B dX3_covers_7 rfl (by decide) (oI_n ((fun n h => by have := hE_1.2.1.2.1 _ _ h; omega))) (fun c7 => ?_) (fun c7 => ?_)
  · skip
    refine g_iload_n (q := 62) B dX3_covers_61 rfl rfl ?_
    refine g_callS (q := 65) (is := []) (kc2 := (cov (eTr r) n).length) (ks2 := 4 * (capF (vs ++ cov (eTr r) n).length - capF vs.length)) B [.int (nI n)] (ct_X3_level g J (n := n)  (by first | assumption | omega | rfl)) dX3_covers_62 rfl q3441 q3442 q85 q3443 rfl rfl moX3_level rfl rfl (by decide) (by decide) (Nat.le_of_ble_eq_true rfl) (by omega) (by omega) (fun _ _ hx => noX_x hx) (fun v62 L1 hp62 => ?_)
    obtain ⟨rfl, rfl⟩ := hp62
    refine (show Go g κ 65 [some (.ref e), some (.int (nI n)), some (.ref p), none] [.int (nI (lev n))] [w0, w1] ((cov (eTr r) n).length) (4 * (capF (vs ++ cov (eTr r) n).length - capF vs.length)) from ?_)
    refine g_if_le (tgt := 88) (q := 68) B dX3_covers_65 rfl (by decide) (iff_false_intro (by rw [nI_le0 (by omega)]; omega)) (fun z => z.elim) (fun _ => ?_)
    obtain ⟨hq1, hq2, hq3, hq4⟩ := lft_b n hn (by omega)
    have hcb := cov_b hn c7 (by omega)
    have hlb : (cov (eTr r) n).length = (cov (eTr r) (lft n)).length + (cov (eTr r) (rgt n)).length := by rw [hcb]; simp
    have hE1 : capF (vs ++ cov (eTr r) n).length = capF ((vs ++ cov (eTr r) (lft n)) ++ cov (eTr r) (rgt n)).length := by rw [hcb, List.append_assoc]
    have hm1 := capF_m (show vs.length ≤ (vs ++ cov (eTr r) (lft n)).length by simp)
    have hm2 := capF_m (show (vs ++ cov (eTr r) (lft n)).length ≤ ((vs ++ cov (eTr r) (lft n)) ++ cov (eTr r) (rgt n)).length by simp)
    have hlz := cov_len hB (n := lft n) (m := 2) (by omega)
    have hlz2 : (vs ++ cov (eTr r) (lft n)).length = vs.length + (cov (eTr r) (lft n)).length := by simp
    refine g_aload_n (q := 69) B dX3_covers_68 rfl rfl (rv_r _) ?_
    refine g_iload_n (q := 70) B dX3_covers_69 rfl rfl ?_
    refine g_iconst (v := nI 1) (q := 71) B dX3_covers_70 rfl (by decide) ?_
    refine g_callS (q := 74) (is := []) (kc2 := (cov (eTr r) n).length) (ks2 := 4 * (capF (vs ++ cov (eTr r) n).length - capF vs.length)) B [.int (nI n), .int (nI 1)] (ct_X3_child_1 g J (n := n)  (hn) (by omega)) dX3_covers_71 rfl q3463 q3464 q85 q3465 rfl rfl moX3_child rfl rfl (by decide) (by decide) (Nat.le_of_ble_eq_true rfl) (by omega) (by omega) (fun _ _ hx => noX_x hx) (fun v71 L1 hp71 => ?_)
    obtain ⟨rfl, rfl⟩ := hp71
    refine (show Go g κ 74 [some (.ref e), some (.int (nI n)), some (.ref p), none] [.int (nI (lft n)), .ref e] [w0, w1] ((cov (eTr r) n).length) (4 * (capF (vs ++ cov (eTr r) n).length - capF vs.length)) from ?_)
    refine g_aload_n (q := 75) B dX3_covers_74 rfl rfl (rv_r _) ?_
    refine g_callS (q := 78) (is := [0, 0]) (kc2 := ((cov (eTr r) n).length) - ((cov (eTr r) (lft n)).length)) (ks2 := (4 * (capF (vs ++ cov (eTr r) n).length - capF vs.length)) - (4 * (capF (vs ++ cov (eTr r) (lft n)).length - capF vs.length))) B [.ref e, .int (nI (lft n)), .ref p] (ct_X3_covers_2 g J (e := e) (r := r) (n := lft n) (p := p) (vs := vs) hw0 hw1 (hLt) (by omega) (by omega) (by omega)) dX3_covers_75 rfl q3469 q3470 q85 q3471 rfl rfl moX3_covers rfl rfl (by decide) (by decide) (Nat.le_of_ble_eq_true rfl) (by omega) (by omega) (fun _ _ hx => noX_x hx) (fun v75 L1 hp75 => ?_)
    obtain ⟨u1_75, rfl, rfl, hu1_75⟩ := hp75
    refine (show Go g κ 78 [some (.ref e), some (.int (nI n)), some (.ref p), none] [] [w0, u1_75] (((cov (eTr r) n).length) - ((cov (eTr r) (lft n)).length)) ((4 * (capF (vs ++ cov (eTr r) n).length - capF vs.length)) - (4 * (capF (vs ++ cov (eTr r) (lft n)).length - capF vs.length))) from ?_)
    refine g_aload_n (q := 79) B dX3_covers_78 rfl rfl (rv_r _) ?_
    refine g_iload_n (q := 80) B dX3_covers_79 rfl rfl ?_
    refine g_iconst (v := nI 0) (q := 81) B dX3_covers_80 rfl (by decide) ?_
    refine g_callS (q := 84) (is := []) (kc2 := ((cov (eTr r) n).length) - ((cov (eTr r) (lft n)).length)) (ks2 := (4 * (capF (vs ++ cov (eTr r) n).length - capF vs.length)) - (4 * (capF (vs ++ cov (eTr r) (lft n)).length - capF vs.length))) B [.int (nI n), .int (nI 0)] (ct_X3_child_0 g J (n := n)  (hn) (by omega)) dX3_covers_81 rfl q3463 q3464 q85 q3465 rfl rfl moX3_child rfl rfl (by decide) (by decide) (Nat.le_of_ble_eq_true rfl) (by omega) (by omega) (fun _ _ hx => noX_x hx) (fun v81 L1 hp81 => ?_)
    obtain ⟨rfl, rfl⟩ := hp81
    refine (show Go g κ 84 [some (.ref e), some (.int (nI n)), some (.ref p), none] [.int (nI (rgt n)), .ref e] [w0, u1_75] (((cov (eTr r) n).length) - ((cov (eTr r) (lft n)).length)) ((4 * (capF (vs ++ cov (eTr r) n).length - capF vs.length)) - (4 * (capF (vs ++ cov (eTr r) (lft n)).length - capF vs.length))) from ?_)
    refine g_aload_n (q := 85) B dX3_covers_84 rfl rfl (rv_r _) ?_
    refine g_callS (q := 88) (is := [0, 0]) (kc2 := (((cov (eTr r) n).length) - ((cov (eTr r) (lft n)).length)) - ((cov (eTr r) (rgt n)).length)) (ks2 := ((4 * (capF (vs ++ cov (eTr r) n).length - capF vs.length)) - (4 * (capF (vs ++ cov (eTr r) (lft n)).length - capF vs.length))) - (4 * (capF ((vs ++ cov (eTr r) (lft n)) ++ cov (eTr r) (rgt n)).length - capF (vs ++ cov (eTr r) (lft n)).length))) B [.ref e, .int (nI (rgt n)), .ref p] (ct_X3_covers_2 g J (e := e) (r := r) (n := rgt n) (p := p) (vs := (vs ++ cov (eTr r) (lft n))) hw0 hu1_75 (hLt) (by omega) (by omega) (by omega)) dX3_covers_85 rfl q3469 q3470 q85 q3471 rfl rfl moX3_covers rfl rfl (by decide) (by decide) (Nat.le_of_ble_eq_true rfl) (by omega) (by omega) (fun _ _ hx => noX_x hx) (fun v85 L1 hp85 => ?_)
    obtain ⟨u1_85, rfl, rfl, hu1_85⟩ := hp85
    refine (show Go g κ 88 [some (.ref e), some (.int (nI n)), some (.ref p), none] [] [w0, u1_85] ((((cov (eTr r) n).length) - ((cov (eTr r) (lft n)).length)) - ((cov (eTr r) (rgt n)).length)) (((4 * (capF (vs ++ cov (eTr r) n).length - capF vs.length)) - (4 * (capF (vs ++ cov (eTr r) (lft n)).length - capF vs.length))) - (4 * (capF ((vs ++ cov (eTr r) (lft n)) ++ cov (eTr r) (rgt n)).length - capF (vs ++ cov (eTr r) (lft n)).length))) from ?_)
    have hr_2 : LhP g (BxE g) p (vs ++ cov (eTr r) n) (capF (vs ++ cov (eTr r) n).length) u1_85 := by rw [hcb, ← List.append_assoc]; exact hu1_85
    exact g_vret B E dX3_covers_88 (⟨u1_85, rfl, rfl, hr_2⟩)
  · skip
    obtain ⟨v7, ev7⟩ := Option.ne_none_iff_exists'.mp c7
    have hcs : cov (eTr r) n = n :: ltL ((eTr r).2.2.1 n) 16 := by rw [hLt n]; exact cov_s c7
    have hsl := hB.2.2.1 n
    have hlE : (vs ++ cov (eTr r) n).length = vs.length + 1 + (ltL ((eTr r).2.2.1 n) 16).length := by rw [hcs]; simp; omega
    have hlc : (cov (eTr r) n).length = (ltL ((eTr r).2.2.1 n) 16).length + 1 := by rw [hcs]; simp
    have hm1 := capF_m (show vs.length + 1 ≤ (vs ++ cov (eTr r) n).length by omega)
    have hm2 := capF_mo vs.length
    have hcv := cov_len hB hlv
    have hlE2 : (vs ++ cov (eTr r) n).length = vs.length + (cov (eTr r) n).length := by simp
    refine g_aload_n (q := 11) B dX3_covers_10 rfl rfl (rv_r _) ?_
    refine g_iload_n (q := 12) B dX3_covers_11 rfl rfl ?_
    refine g_callS (q := 15) (is := []) (kc2 := (cov (eTr r) n).length) (ks2 := 4 * (capF (vs ++ cov (eTr r) n).length - capF vs.length)) B [.int (nI n)] (ct_J26_valueOf_k g J (k := n)  (by omega)) dX3_covers_12 rfl q3242 q686 q111 q687 rfl rfl moJ26_valueOf rfl rfl (by decide) (by decide) (Nat.le_of_ble_eq_true rfl) (by omega) (by omega) (fun _ _ hx => noX_x hx) (fun v12 L1 hp12 => ?_)
    obtain ⟨rfl, rfl⟩ := hp12
    refine (show Go g κ 15 [some (.ref e), some (.int (nI n)), some (.ref p), none] [.ref (kI g n), .ref p] [w0, w1] ((cov (eTr r) n).length) (4 * (capF (vs ++ cov (eTr r) n).length - capF vs.length)) from ?_)
    obtain ⟨wc_3, ewc_3⟩ : ∃ w : va_W, w = ([] : List va_W).flatten := ⟨_, rfl⟩
    have hwc_3 : BxE g (kI g n) n wc_3 := by
      rw [ewc_3]
      exact kI_box g (by omega)
    refine g_close (w := wc_3) [] rfl ewc_3 rfl ?_
    refine (show Go g κ 15 [some (.ref e), some (.int (nI n)), some (.ref p), none] [.ref (kI g n), .ref p] [w0, w1, wc_3] ((cov (eTr r) n).length) (4 * (capF (vs ++ cov (eTr r) n).length - capF vs.length)) from ?_)
    obtain ⟨ps_4, md_4, hli_4, hln_4, hel_4⟩ := LhP.at (Sub.self hw1)
    refine g_callV (q := 18) (is := [1, 1]) (kc2 := ((cov (eTr r) n).length) - 1) (ks2 := (4 * (capF (vs ++ cov (eTr r) n).length - capF vs.length)) - (4 * (capF (vs.length + 1) - capF vs.length))) B [.ref (kI g n)] (ct_add_IlP g J (p := p) (rs := vs) (cap := (capF vs.length)) (a := (kI g n)) (r := n) (mc := 1) (ms := (4 * (capF (vs.length + 1) - capF vs.length))) hw1 hwc_3 (by have := capF_le vs.length; omega) (fun h => ⟨Nat.le_refl _, capF_ms _ h⟩)) dX3_covers_15 rfl (rc_in B (ci := 21) rfl (k := 1) rfl (LhP.hm hw1)) rfl q3144 q711 q3666 q81 q713 rfl rfl moJ2_add rfl rfl (by decide) (by decide) (Nat.le_of_ble_eq_true rfl) (by omega) (by omega) (fun _ _ hx => noX_x hx) (fun v15 L1 hp15 => ?_)
    obtain ⟨u0_15, rfl, rfl, hu0_15⟩ := hp15
    refine (show Go g κ 18 [some (.ref e), some (.int (nI n)), some (.ref p), none] [.int (nI 1)] [w0, u0_15] (((cov (eTr r) n).length) - 1) ((4 * (capF (vs ++ cov (eTr r) n).length - capF vs.length)) - (4 * (capF (vs.length + 1) - capF vs.length))) from ?_)
    have hX0 : (vs ++ (n :: ltL ((eTr r).2.2.1 n) 0)).length = vs.length + 1 := by simp [ltL]
    have hc0 : capF (vs ++ (n :: ltL ((eTr r).2.2.1 n) 0)).length = capF (vs.length + 1) := by rw [hX0]
    have hr_5 : LhP g (BxE g) p (vs ++ (n :: ltL ((eTr r).2.2.1 n) 0)) (capF (vs ++ (n :: ltL ((eTr r).2.2.1 n) 0)).length) u0_15 := by rw [hc0, ← capF_s]; exact hu0_15
    refine g_pop (q := 19) B dX3_covers_18 rfl rfl ?_
    refine g_iconst (v := nI 0) (q := 20) B dX3_covers_19 rfl (by decide) ?_
    refine g_istore_n (q := 21) (lv2 := [some (.ref e), some (.int (nI n)), some (.ref p), some (.int (nI 0))]) B dX3_covers_20 rfl (Nat.le_of_ble_eq_true rfl) rfl ?_
    have lp21 : ∀ (n21 : Nat) (k : Nat) (l21_1 : va_W), LhP g (BxE g) p (vs ++ (n :: ltL ((eTr r).2.2.1 n) k)) (capF (vs ++ (n :: ltL ((eTr r).2.2.1 n) k)).length) l21_1 → (k ≤ 16) → 16 - k = n21 → Go g κ 21 [some (.ref e), some (.int (nI n)), some (.ref p), some (.int (nI k))] [] [w0, l21_1] ((ltL ((eTr r).2.2.1 n) 16).length - (ltL ((eTr r).2.2.1 n) k).length) (4 * (capF (vs ++ cov (eTr r) n).length - capF (vs ++ (n :: ltL ((eTr r).2.2.1 n) k)).length)) := by
      intro n21
      induction n21 using Nat.strongRecOn with
      | _ n21 ih21 =>
      intro k l21_1 hl21_1 hk hmu21
      refine g_iload_n (q := 22) B dX3_covers_21 rfl rfl ?_
      refine g_bipush (v := nI 16) (q := 24) B dX3_covers_22 rfl (by decide) ?_
      refine g_icmp_ge (tgt := 58) (q := 27) B dX3_covers_24 rfl (by decide) (nI_leI (by omega) (by omega)) (fun c24 => ?_) (fun c24 => ?_)
      · skip
        have hr_6 : LhP g (BxE g) p (vs ++ cov (eTr r) n) (capF (vs ++ cov (eTr r) n).length) l21_1 := by rw [hcs]; have z := hl21_1; rw [show k = 16 by omega] at z; exact z
        refine g_goto (tgt := 88) B dX3_covers_58 (by decide) ?_
        exact g_vret B E dX3_covers_88 (⟨l21_1, rfl, rfl, hr_6⟩)
      · skip
        refine g_aload_n (q := 28) B dX3_covers_27 rfl rfl (rv_r _) ?_
        refine g_getNM (q := 31) B (ci := 16) (k := 0) (j := 6) in_X13 rfl dX3_covers_28 rfl rfl (hc_1_0) (Nat.le_of_ble_eq_true rfl) q3265 rfl rfl ?_
        refine g_iload_n (q := 32) B dX3_covers_31 rfl rfl ?_
        refine g_ialdM (v := nI (((eTr r).2.2.1) n)) (q := 33) B (k := 0) dX3_covers_32 rfl rfl (hc_1_3) (vp_in_nI (by omega) (by omega)) (by rw [nI_clamp (by omega)]; exact hfl_1 _ (by omega)) ?_
        refine g_iload_n (q := 34) B dX3_covers_33 rfl rfl ?_
        refine g_ishr (v := nI ((eTr r).2.2.1 n / 2 ^ k)) (q := 35) B dX3_covers_34 rfl (shr_J (by omega) (by omega)) ?_
        refine g_iconst (v := nI 1) (q := 36) B dX3_covers_35 rfl (by decide) ?_
        refine g_iand (v := nI ((eTr r).2.2.1 n / 2 ^ k % 2)) (q := 37) B dX3_covers_36 rfl (nI_an1 _) ?_
        refine g_iconst (v := nI 1) (q := 38) B dX3_covers_37 rfl (by decide) ?_
        refine g_icmp_ne (tgt := 52) (q := 41) B dX3_covers_38 rfl (by decide) (hsB_I hsl) (fun c38 => ?_) (fun c38 => ?_)
        · skip
          have hls : ltL ((eTr r).2.2.1 n) (k + 1) = ltL ((eTr r).2.2.1 n) k := by rw [ltL_s, if_neg c38]
          have hc9 : capF (vs ++ (n :: ltL ((eTr r).2.2.1 n) (k + 1))).length = capF (vs ++ (n :: ltL ((eTr r).2.2.1 n) k)).length := by rw [hls]
          have hl9 : (ltL ((eTr r).2.2.1 n) (k + 1)).length = (ltL ((eTr r).2.2.1 n) k).length := by rw [hls]
          have hr_7 : LhP g (BxE g) p (vs ++ (n :: ltL ((eTr r).2.2.1 n) (k + 1))) (capF (vs ++ (n :: ltL ((eTr r).2.2.1 n) (k + 1))).length) l21_1 := by rw [hls]; exact hl21_1
          refine g_iinc (v := nI (k + 1)) (q := 55) (lv2 := [some (.ref e), some (.int (nI n)), some (.ref p), some (.int (nI (k + 1)))]) B dX3_covers_52 rfl rfl (nI_add _ 1) (Nat.le_of_ble_eq_true rfl) rfl ?_
          refine g_goto (tgt := 21) B dX3_covers_55 (by decide) ?_
          refine g_room (kc2 := (ltL ((eTr r).2.2.1 n) 16).length - (ltL ((eTr r).2.2.1 n) (k + 1)).length) (ks2 := 4 * (capF (vs ++ cov (eTr r) n).length - capF (vs ++ (n :: ltL ((eTr r).2.2.1 n) (k + 1))).length)) (by omega) (by omega) ?_
          exact ih21 _ (by omega) (k + 1) l21_1 hr_7 (by first | assumption | omega | rfl) rfl
        · skip
          have c38 := Classical.not_not.mp c38
          have hls : ltL ((eTr r).2.2.1 n) (k + 1) = ltL ((eTr r).2.2.1 n) k ++ [2 * k] := by rw [ltL_s, if_pos c38]
          have hl1 : (ltL ((eTr r).2.2.1 n) (k + 1)).length = (ltL ((eTr r).2.2.1 n) k).length + 1 := by rw [hls]; simp
          have hl2 := ltL_mo ((eTr r).2.2.1 n) (show k + 1 ≤ 16 by omega)
          have hX : (vs ++ (n :: ltL ((eTr r).2.2.1 n) (k + 1))).length = (vs ++ (n :: ltL ((eTr r).2.2.1 n) k)).length + 1 := by rw [hls]; simp only [List.length_append, List.length_cons, List.length_nil]; omega
          have hXk : (vs ++ (n :: ltL ((eTr r).2.2.1 n) k)).length = vs.length + 1 + (ltL ((eTr r).2.2.1 n) k).length := by simp only [List.length_append, List.length_cons]; omega
          have hc1 : capF (vs ++ (n :: ltL ((eTr r).2.2.1 n) (k + 1))).length = capF ((vs ++ (n :: ltL ((eTr r).2.2.1 n) k)).length + 1) := by rw [hX]
          have hc2 := capF_m (show (vs ++ (n :: ltL ((eTr r).2.2.1 n) k)).length + 1 ≤ (vs ++ cov (eTr r) n).length by omega)
          have hc3 := capF_mo (vs ++ (n :: ltL ((eTr r).2.2.1 n) k)).length
          refine g_aload_n (q := 42) B dX3_covers_41 rfl rfl (rv_r _) ?_
          refine g_iconst (v := nI 2) (q := 43) B dX3_covers_42 rfl (by decide) ?_
          refine g_iload_n (q := 44) B dX3_covers_43 rfl rfl ?_
          refine g_imul (v := nI (2 * k)) (q := 45) B dX3_covers_44 rfl (pk_mul _ _) ?_
          refine g_callS (q := 48) (is := []) (kc2 := (ltL ((eTr r).2.2.1 n) 16).length - (ltL ((eTr r).2.2.1 n) k).length) (ks2 := 4 * (capF (vs ++ cov (eTr r) n).length - capF (vs ++ (n :: ltL ((eTr r).2.2.1 n) k)).length)) B [.int (nI (2 * k))] (ct_J26_valueOf_k g J (k := 2 * k)  (by omega)) dX3_covers_45 rfl q3242 q686 q111 q687 rfl rfl moJ26_valueOf rfl rfl (by decide) (by decide) (Nat.le_of_ble_eq_true rfl) (by omega) (by omega) (fun _ _ hx => noX_x hx) (fun v45 L1 hp45 => ?_)
          obtain ⟨rfl, rfl⟩ := hp45
          refine (show Go g κ 48 [some (.ref e), some (.int (nI n)), some (.ref p), some (.int (nI k))] [.ref (kI g (2 * k)), .ref p] [w0, l21_1] ((ltL ((eTr r).2.2.1 n) 16).length - (ltL ((eTr r).2.2.1 n) k).length) (4 * (capF (vs ++ cov (eTr r) n).length - capF (vs ++ (n :: ltL ((eTr r).2.2.1 n) k)).length)) from ?_)
          obtain ⟨wc_8, ewc_8⟩ : ∃ w : va_W, w = ([] : List va_W).flatten := ⟨_, rfl⟩
          have hwc_8 : BxE g (kI g (2 * k)) (2 * k) wc_8 := by
            rw [ewc_8]
            exact kI_box g (by omega)
          refine g_close (w := wc_8) [] rfl ewc_8 rfl ?_
          refine (show Go g κ 48 [some (.ref e), some (.int (nI n)), some (.ref p), some (.int (nI k))] [.ref (kI g (2 * k)), .ref p] [w0, l21_1, wc_8] ((ltL ((eTr r).2.2.1 n) 16).length - (ltL ((eTr r).2.2.1 n) k).length) (4 * (capF (vs ++ cov (eTr r) n).length - capF (vs ++ (n :: ltL ((eTr r).2.2.1 n) k)).length)) from ?_)
          obtain ⟨ps_9, md_9, hli_9, hln_9, hel_9⟩ := LhP.at (Sub.self hl21_1)
          refine g_callV (q := 51) (is := [1, 1]) (kc2 := ((ltL ((eTr r).2.2.1 n) 16).length - (ltL ((eTr r).2.2.1 n) k).length) - 1) (ks2 := (4 * (capF (vs ++ cov (eTr r) n).length - capF (vs ++ (n :: ltL ((eTr r).2.2.1 n) k)).length)) - (4 * (capF ((vs ++ (n :: ltL ((eTr r).2.2.1 n) k)).length + 1) - capF (vs ++ (n :: ltL ((eTr r).2.2.1 n) k)).length))) B [.ref (kI g (2 * k))] (ct_add_IlP g J (p := p) (rs := (vs ++ (n :: ltL ((eTr r).2.2.1 n) k))) (cap := (capF (vs ++ (n :: ltL ((eTr r).2.2.1 n) k)).length)) (a := (kI g (2 * k))) (r := (2 * k)) (mc := 1) (ms := (4 * (capF ((vs ++ (n :: ltL ((eTr r).2.2.1 n) k)).length + 1) - capF (vs ++ (n :: ltL ((eTr r).2.2.1 n) k)).length))) hl21_1 hwc_8 (by have := capF_le (vs ++ (n :: ltL ((eTr r).2.2.1 n) k)).length; omega) (fun h => ⟨Nat.le_refl _, capF_ms _ h⟩)) dX3_covers_48 rfl (rc_in B (ci := 21) rfl (k := 1) rfl (LhP.hm hl21_1)) rfl q3144 q711 q3666 q81 q713 rfl rfl moJ2_add rfl rfl (by decide) (by decide) (Nat.le_of_ble_eq_true rfl) (by omega) (by omega) (fun _ _ hx => noX_x hx) (fun v48 L1 hp48 => ?_)
          obtain ⟨u0_48, rfl, rfl, hu0_48⟩ := hp48
          refine (show Go g κ 51 [some (.ref e), some (.int (nI n)), some (.ref p), some (.int (nI k))] [.int (nI 1)] [w0, u0_48] (((ltL ((eTr r).2.2.1 n) 16).length - (ltL ((eTr r).2.2.1 n) k).length) - 1) ((4 * (capF (vs ++ cov (eTr r) n).length - capF (vs ++ (n :: ltL ((eTr r).2.2.1 n) k)).length)) - (4 * (capF ((vs ++ (n :: ltL ((eTr r).2.2.1 n) k)).length + 1) - capF (vs ++ (n :: ltL ((eTr r).2.2.1 n) k)).length))) from ?_)
          have hr_10 : LhP g (BxE g) p (vs ++ (n :: ltL ((eTr r).2.2.1 n) (k + 1))) (capF (vs ++ (n :: ltL ((eTr r).2.2.1 n) (k + 1))).length) u0_48 := by rw [hc1, hls, ← capF_s]; have z := hu0_48; rw [List.append_assoc, List.cons_append] at z; exact z
          refine g_pop (q := 52) B dX3_covers_51 rfl rfl ?_
          refine g_iinc (v := nI (k + 1)) (q := 55) (lv2 := [some (.ref e), some (.int (nI n)), some (.ref p), some (.int (nI (k + 1)))]) B dX3_covers_52 rfl rfl (nI_add _ 1) (Nat.le_of_ble_eq_true rfl) rfl ?_
          refine g_goto (tgt := 21) B dX3_covers_55 (by decide) ?_
          refine g_room (kc2 := (ltL ((eTr r).2.2.1 n) 16).length - (ltL ((eTr r).2.2.1 n) (k + 1)).length) (ks2 := 4 * (capF (vs ++ cov (eTr r) n).length - capF (vs ++ (n :: ltL ((eTr r).2.2.1 n) (k + 1))).length)) (by omega) (by omega) ?_
          exact ih21 _ (by omega) (k + 1) u0_48 hr_10 (by first | assumption | omega | rfl) rfl
    have hl00 : (ltL ((eTr r).2.2.1 n) 0).length = 0 := rfl
    refine g_room (kc2 := (ltL ((eTr r).2.2.1 n) 16).length - (ltL ((eTr r).2.2.1 n) 0).length) (ks2 := 4 * (capF (vs ++ cov (eTr r) n).length - capF (vs ++ (n :: ltL ((eTr r).2.2.1 n) 0)).length)) (by omega) (by omega) ?_
    exact lp21 _ 0 u0_15 hr_5 (Nat.zero_le _) rfl
theorem ct_X3_covers_4 (g : Gv) (J : Jd g) {e : Nat} {r : MeS} {n : Nat} {p : Nat} {vs : List Nat} {w0 : va_W} {w1 : va_W} (hw0 : EpP g e r w0) (hw1 : LhP g (BxE g) p vs (capF vs.length) w1) (hLt : LtB (eTr r)) (hn : n < 31) (hlv : lev n = 4) (hvl : vs.length + 272 < 100000) : Ct g yX3_covers (ws_ yX3_covers cX3_covers 4 none) 12 ((cov (eTr r) n).length) (4 * (capF (vs ++ cov (eTr r) n).length - capF vs.length)) [.ref e, .int (nI n), .ref p] [w0, w1] (fun (rv_ : Option Value) (rL_ : List va_W) => ∃ (u1 : va_W), rv_ = none ∧ rL_ = [w0, u1] ∧ LhP g (BxE g) p (vs ++ cov (eTr r) n) (capF (vs ++ cov (eTr r) n).length) u1) noX := by
  refine Ct.of "KeygroveModel" [some (.ref e), some (.int (nI n)), some (.ref p), none] rfl (by decide) rfl (Nat.le_of_ble_eq_true rfl) rfl ?_
  intro κ B E tb
  have hE0 := EpP.b hw0
  have hB := hE0.2.1
  have hp2 := p2_4 hB.1
  have hd4 := hB.1
  refine g_aload_n (q := 1) B dX3_covers_0 rfl rfl (rv_r _) ?_
  obtain ⟨ap_1, an_1, al_1, ac_1, aw_1, am_1, ak_1, fp_1, fn_1, fl_1, fc_1, fw_1, fm_1, fk_1, hE_1, hfp_1, hfn_1, hfl_1, hfc_1, hfw_1, hfm_1, hfk_1, hc_1_0, hc_1_1, hc_1_2, hc_1_3, hc_1_4, hc_1_5, hc_1_6, hc_1_7⟩ := EpP.at (Sub.self hw0)
  refine g_getNM (q := 4) B (ci := 16) (k := 0) (j := 5) in_X13 rfl dX3_covers_1 rfl rfl (hc_1_0) (Nat.le_of_ble_eq_true rfl) q3263 rfl rfl ?_
  refine g_iload_n (q := 5) B dX3_covers_4 rfl rfl ?_
  refine g_ialdM (v := oI (((eTr r).2.1) n)) (q := 6) B (k := 0) dX3_covers_5 rfl rfl (hc_1_2) (vp_in_nI (by omega) (by omega)) (by rw [nI_clamp (by omega)]; exact hfn_1 _ (by omega)) ?_
  refine g_iconst (v := -1) (q := 7) B dX3_covers_6 rfl (by decide) ?_
  refine g_icmp_eq (tgt := 61) (q := 10) B dX3_covers_7 rfl (by decide) (oI_n ((fun n h => by have := hE_1.2.1.2.1 _ _ h; omega))) (fun c7 => ?_) (fun c7 => ?_)
  · skip
    refine g_iload_n (q := 62) B dX3_covers_61 rfl rfl ?_
    refine g_callS (q := 65) (is := []) (kc2 := (cov (eTr r) n).length) (ks2 := 4 * (capF (vs ++ cov (eTr r) n).length - capF vs.length)) B [.int (nI n)] (ct_X3_level g J (n := n)  (by first | assumption | omega | rfl)) dX3_covers_62 rfl q3441 q3442 q85 q3443 rfl rfl moX3_level rfl rfl (by decide) (by decide) (Nat.le_of_ble_eq_true rfl) (by omega) (by omega) (fun _ _ hx => noX_x hx) (fun v62 L1 hp62 => ?_)
    obtain ⟨rfl, rfl⟩ := hp62
    refine (show Go g κ 65 [some (.ref e), some (.int (nI n)), some (.ref p), none] [.int (nI (lev n))] [w0, w1] ((cov (eTr r) n).length) (4 * (capF (vs ++ cov (eTr r) n).length - capF vs.length)) from ?_)
    refine g_if_le (tgt := 88) (q := 68) B dX3_covers_65 rfl (by decide) (iff_false_intro (by rw [nI_le0 (by omega)]; omega)) (fun z => z.elim) (fun _ => ?_)
    obtain ⟨hq1, hq2, hq3, hq4⟩ := lft_b n hn (by omega)
    have hcb := cov_b hn c7 (by omega)
    have hlb : (cov (eTr r) n).length = (cov (eTr r) (lft n)).length + (cov (eTr r) (rgt n)).length := by rw [hcb]; simp
    have hE1 : capF (vs ++ cov (eTr r) n).length = capF ((vs ++ cov (eTr r) (lft n)) ++ cov (eTr r) (rgt n)).length := by rw [hcb, List.append_assoc]
    have hm1 := capF_m (show vs.length ≤ (vs ++ cov (eTr r) (lft n)).length by simp)
    have hm2 := capF_m (show (vs ++ cov (eTr r) (lft n)).length ≤ ((vs ++ cov (eTr r) (lft n)) ++ cov (eTr r) (rgt n)).length by simp)
    have hlz := cov_len hB (n := lft n) (m := 3) (by omega)
    have hlz2 : (vs ++ cov (eTr r) (lft n)).length = vs.length + (cov (eTr r) (lft n)).length := by simp
    refine g_aload_n (q := 69) B dX3_covers_68 rfl rfl (rv_r _) ?_
    refine g_iload_n (q := 70) B dX3_covers_69 rfl rfl ?_
    refine g_iconst (v := nI 1) (q := 71) B dX3_covers_70 rfl (by decide) ?_
    refine g_callS (q := 74) (is := []) (kc2 := (cov (eTr r) n).length) (ks2 := 4 * (capF (vs ++ cov (eTr r) n).length - capF vs.length)) B [.int (nI n), .int (nI 1)] (ct_X3_child_1 g J (n := n)  (hn) (by omega)) dX3_covers_71 rfl q3463 q3464 q85 q3465 rfl rfl moX3_child rfl rfl (by decide) (by decide) (Nat.le_of_ble_eq_true rfl) (by omega) (by omega) (fun _ _ hx => noX_x hx) (fun v71 L1 hp71 => ?_)
    obtain ⟨rfl, rfl⟩ := hp71
    refine (show Go g κ 74 [some (.ref e), some (.int (nI n)), some (.ref p), none] [.int (nI (lft n)), .ref e] [w0, w1] ((cov (eTr r) n).length) (4 * (capF (vs ++ cov (eTr r) n).length - capF vs.length)) from ?_)
    refine g_aload_n (q := 75) B dX3_covers_74 rfl rfl (rv_r _) ?_
    refine g_callS (q := 78) (is := [0, 0]) (kc2 := ((cov (eTr r) n).length) - ((cov (eTr r) (lft n)).length)) (ks2 := (4 * (capF (vs ++ cov (eTr r) n).length - capF vs.length)) - (4 * (capF (vs ++ cov (eTr r) (lft n)).length - capF vs.length))) B [.ref e, .int (nI (lft n)), .ref p] (ct_X3_covers_3 g J (e := e) (r := r) (n := lft n) (p := p) (vs := vs) hw0 hw1 (hLt) (by omega) (by omega) (by omega)) dX3_covers_75 rfl q3469 q3470 q85 q3471 rfl rfl moX3_covers rfl rfl (by decide) (by decide) (Nat.le_of_ble_eq_true rfl) (by omega) (by omega) (fun _ _ hx => noX_x hx) (fun v75 L1 hp75 => ?_)
    obtain ⟨u1_75, rfl, rfl, hu1_75⟩ := hp75
    refine (show Go g κ 78 [some (.ref e), some (.int (nI n)), some (.ref p), none] [] [w0, u1_75] (((cov (eTr r) n).length) - ((cov (eTr r) (lft n)).length)) ((4 * (capF (vs ++ cov (eTr r) n).length - capF vs.length)) - (4 * (capF (vs ++ cov (eTr r) (lft n)).length - capF vs.length))) from ?_)
    refine g_aload_n (q := 79) B dX3_covers_78 rfl rfl (rv_r _) ?_
    refine g_iload_n (q := 80) B dX3_covers_79 rfl rfl ?_
    refine g_iconst (v := nI 0) (q := 81) B dX3_covers_80 rfl (by decide) ?_
    refine g_callS (q := 84) (is := []) (kc2 := ((cov (eTr r) n).length) - ((cov (eTr r) (lft n)).length)) (ks2 := (4 * (capF (vs ++ cov (eTr r) n).length - capF vs.length)) - (4 * (capF (vs ++ cov (eTr r) (lft n)).length - capF vs.length))) B [.int (nI n), .int (nI 0)] (ct_X3_child_0 g J (n := n)  (hn) (by omega)) dX3_covers_81 rfl q3463 q3464 q85 q3465 rfl rfl moX3_child rfl rfl (by decide) (by decide) (Nat.le_of_ble_eq_true rfl) (by omega) (by omega) (fun _ _ hx => noX_x hx) (fun v81 L1 hp81 => ?_)
    obtain ⟨rfl, rfl⟩ := hp81
    refine (show Go g κ 84 [some (.ref e), some (.int (nI n)), some (.ref p), none] [.int (nI (rgt n)), .ref e] [w0, u1_75] (((cov (eTr r) n).length) - ((cov (eTr r) (lft n)).length)) ((4 * (capF (vs ++ cov (eTr r) n).length - capF vs.length)) - (4 * (capF (vs ++ cov (eTr r) (lft n)).length - capF vs.length))) from ?_)
    refine g_aload_n (q := 85) B dX3_covers_84 rfl rfl (rv_r _) ?_
    refine g_callS (q := 88) (is := [0, 0]) (kc2 := (((cov (eTr r) n).length) - ((cov (eTr r) (lft n)).length)) - ((cov (eTr r) (rgt n)).length)) (ks2 := ((4 * (capF (vs ++ cov (eTr r) n).length - capF vs.length)) - (4 * (capF (vs ++ cov (eTr r) (lft n)).length - capF vs.length))) - (4 * (capF ((vs ++ cov (eTr r) (lft n)) ++ cov (eTr r) (rgt n)).length - capF (vs ++ cov (eTr r) (lft n)).length))) B [.ref e, .int (nI (rgt n)), .ref p] (ct_X3_covers_3 g J (e := e) (r := r) (n := rgt n) (p := p) (vs := (vs ++ cov (eTr r) (lft n))) hw0 hu1_75 (hLt) (by omega) (by omega) (by omega)) dX3_covers_85 rfl q3469 q3470 q85 q3471 rfl rfl moX3_covers rfl rfl (by decide) (by decide) (Nat.le_of_ble_eq_true rfl) (by omega) (by omega) (fun _ _ hx => noX_x hx) (fun v85 L1 hp85 => ?_)
    obtain ⟨u1_85, rfl, rfl, hu1_85⟩ := hp85
    refine (show Go g κ 88 [some (.ref e), some (.int (nI n)), some (.ref p), none] [] [w0, u1_85] ((((cov (eTr r) n).length) - ((cov (eTr r) (lft n)).length)) - ((cov (eTr r) (rgt n)).length)) (((4 * (capF (vs ++ cov (eTr r) n).length - capF vs.length)) - (4 * (capF (vs ++ cov (eTr r) (lft n)).length - capF vs.length))) - (4 * (capF ((vs ++ cov (eTr r) (lft n)) ++ cov (eTr r) (rgt n)).length - capF (vs ++ cov (eTr r) (lft n)).length))) from ?_)
    have hr_2 : LhP g (BxE g) p (vs ++ cov (eTr r) n) (capF (vs ++ cov (eTr r) n).length) u1_85 := by rw [hcb, ← List.append_assoc]; exact hu1_85
    exact g_vret B E dX3_covers_88 (⟨u1_85, rfl, rfl, hr_2⟩)
  · skip
    obtain ⟨v7, ev7⟩ := Option.ne_none_iff_exists'.mp c7
    have hcs : cov (eTr r) n = n :: ltL ((eTr r).2.2.1 n) 16 := by rw [hLt n]; exact cov_s c7
    have hsl := hB.2.2.1 n
    have hlE : (vs ++ cov (eTr r) n).length = vs.length + 1 + (ltL ((eTr r).2.2.1 n) 16).length := by rw [hcs]; simp; omega
    have hlc : (cov (eTr r) n).length = (ltL ((eTr r).2.2.1 n) 16).length + 1 := by rw [hcs]; simp
    have hm1 := capF_m (show vs.length + 1 ≤ (vs ++ cov (eTr r) n).length by omega)
    have hm2 := capF_mo vs.length
    have hcv := cov_len hB hlv
    have hlE2 : (vs ++ cov (eTr r) n).length = vs.length + (cov (eTr r) n).length := by simp
    refine g_aload_n (q := 11) B dX3_covers_10 rfl rfl (rv_r _) ?_
    refine g_iload_n (q := 12) B dX3_covers_11 rfl rfl ?_
    refine g_callS (q := 15) (is := []) (kc2 := (cov (eTr r) n).length) (ks2 := 4 * (capF (vs ++ cov (eTr r) n).length - capF vs.length)) B [.int (nI n)] (ct_J26_valueOf_k g J (k := n)  (by omega)) dX3_covers_12 rfl q3242 q686 q111 q687 rfl rfl moJ26_valueOf rfl rfl (by decide) (by decide) (Nat.le_of_ble_eq_true rfl) (by omega) (by omega) (fun _ _ hx => noX_x hx) (fun v12 L1 hp12 => ?_)
    obtain ⟨rfl, rfl⟩ := hp12
    refine (show Go g κ 15 [some (.ref e), some (.int (nI n)), some (.ref p), none] [.ref (kI g n), .ref p] [w0, w1] ((cov (eTr r) n).length) (4 * (capF (vs ++ cov (eTr r) n).length - capF vs.length)) from ?_)
    obtain ⟨wc_3, ewc_3⟩ : ∃ w : va_W, w = ([] : List va_W).flatten := ⟨_, rfl⟩
    have hwc_3 : BxE g (kI g n) n wc_3 := by
      rw [ewc_3]
      exact kI_box g (by omega)
    refine g_close (w := wc_3) [] rfl ewc_3 rfl ?_
    refine (show Go g κ 15 [some (.ref e), some (.int (nI n)), some (.ref p), none] [.ref (kI g n), .ref p] [w0, w1, wc_3] ((cov (eTr r) n).length) (4 * (capF (vs ++ cov (eTr r) n).length - capF vs.length)) from ?_)
    obtain ⟨ps_4, md_4, hli_4, hln_4, hel_4⟩ := LhP.at (Sub.self hw1)
    refine g_callV (q := 18) (is := [1, 1]) (kc2 := ((cov (eTr r) n).length) - 1) (ks2 := (4 * (capF (vs ++ cov (eTr r) n).length - capF vs.length)) - (4 * (capF (vs.length + 1) - capF vs.length))) B [.ref (kI g n)] (ct_add_IlP g J (p := p) (rs := vs) (cap := (capF vs.length)) (a := (kI g n)) (r := n) (mc := 1) (ms := (4 * (capF (vs.length + 1) - capF vs.length))) hw1 hwc_3 (by have := capF_le vs.length; omega) (fun h => ⟨Nat.le_refl _, capF_ms _ h⟩)) dX3_covers_15 rfl (rc_in B (ci := 21) rfl (k := 1) rfl (LhP.hm hw1)) rfl q3144 q711 q3666 q81 q713 rfl rfl moJ2_add rfl rfl (by decide) (by decide) (Nat.le_of_ble_eq_true rfl) (by omega) (by omega) (fun _ _ hx => noX_x hx) (fun v15 L1 hp15 => ?_)
    obtain ⟨u0_15, rfl, rfl, hu0_15⟩ := hp15
    refine (show Go g κ 18 [some (.ref e), some (.int (nI n)), some (.ref p), none] [.int (nI 1)] [w0, u0_15] (((cov (eTr r) n).length) - 1) ((4 * (capF (vs ++ cov (eTr r) n).length - capF vs.length)) - (4 * (capF (vs.length + 1) - capF vs.length))) from ?_)
    have hX0 : (vs ++ (n :: ltL ((eTr r).2.2.1 n) 0)).length = vs.length + 1 := by simp [ltL]
    have hc0 : capF (vs ++ (n :: ltL ((eTr r).2.2.1 n) 0)).length = capF (vs.length + 1) := by rw [hX0]
    have hr_5 : LhP g (BxE g) p (vs ++ (n :: ltL ((eTr r).2.2.1 n) 0)) (capF (vs ++ (n :: ltL ((eTr r).2.2.1 n) 0)).length) u0_15 := by rw [hc0, ← capF_s]; exact hu0_15
    refine g_pop (q := 19) B dX3_covers_18 rfl rfl ?_
    refine g_iconst (v := nI 0) (q := 20) B dX3_covers_19 rfl (by decide) ?_
    refine g_istore_n (q := 21) (lv2 := [some (.ref e), some (.int (nI n)), some (.ref p), some (.int (nI 0))]) B dX3_covers_20 rfl (Nat.le_of_ble_eq_true rfl) rfl ?_
    have lp21 : ∀ (n21 : Nat) (k : Nat) (l21_1 : va_W), LhP g (BxE g) p (vs ++ (n :: ltL ((eTr r).2.2.1 n) k)) (capF (vs ++ (n :: ltL ((eTr r).2.2.1 n) k)).length) l21_1 → (k ≤ 16) → 16 - k = n21 → Go g κ 21 [some (.ref e), some (.int (nI n)), some (.ref p), some (.int (nI k))] [] [w0, l21_1] ((ltL ((eTr r).2.2.1 n) 16).length - (ltL ((eTr r).2.2.1 n) k).length) (4 * (capF (vs ++ cov (eTr r) n).length - capF (vs ++ (n :: ltL ((eTr r).2.2.1 n) k)).length)) := by
      intro n21
      induction n21 using Nat.strongRecOn with
      | _ n21 ih21 =>
      intro k l21_1 hl21_1 hk hmu21
      refine g_iload_n (q := 22) B dX3_covers_21 rfl rfl ?_
      refine g_bipush (v := nI 16) (q := 24) B dX3_covers_22 rfl (by decide) ?_
      refine g_icmp_ge (tgt := 58) (q := 27) B dX3_covers_24 rfl (by decide) (nI_leI (by omega) (by omega)) (fun c24 => ?_) (fun c24 => ?_)
      · skip
        have hr_6 : LhP g (BxE g) p (vs ++ cov (eTr r) n) (capF (vs ++ cov (eTr r) n).length) l21_1 := by rw [hcs]; have z := hl21_1; rw [show k = 16 by omega] at z; exact z
        refine g_goto (tgt := 88) B dX3_covers_58 (by decide) ?_
        exact g_vret B E dX3_covers_88 (⟨l21_1, rfl, rfl, hr_6⟩)
      · skip
        refine g_aload_n (q := 28) B dX3_covers_27 rfl rfl (rv_r _) ?_
        refine g_getNM (q := 31) B (ci := 16) (k := 0) (j := 6) in_X13 rfl dX3_covers_28 rfl rfl (hc_1_0) (Nat.le_of_ble_eq_true rfl) q3265 rfl rfl ?_
        refine g_iload_n (q := 32) B dX3_covers_31 rfl rfl ?_
        refine g_ialdM (v := nI (((eTr r).2.2.1) n)) (q := 33) B (k := 0) dX3_covers_32 rfl rfl (hc_1_3) (vp_in_nI (by omega) (by omega)) (by rw [nI_clamp (by omega)]; exact hfl_1 _ (by omega)) ?_
        refine g_iload_n (q := 34) B dX3_covers_33 rfl rfl ?_
        refine g_ishr (v := nI ((eTr r).2.2.1 n / 2 ^ k)) (q := 35) B dX3_covers_34 rfl (shr_J (by omega) (by omega)) ?_
        refine g_iconst (v := nI 1) (q := 36) B dX3_covers_35 rfl (by decide) ?_
        refine g_iand (v := nI ((eTr r).2.2.1 n / 2 ^ k % 2)) (q := 37) B dX3_covers_36 rfl (nI_an1 _) ?_
        refine g_iconst (v := nI 1) (q := 38) B dX3_covers_37 rfl (by decide) ?_
        refine g_icmp_ne (tgt := 52) (q := 41) B dX3_covers_38 rfl (by decide) (hsB_I hsl) (fun c38 => ?_) (fun c38 => ?_)
        · skip
          have hls : ltL ((eTr r).2.2.1 n) (k + 1) = ltL ((eTr r).2.2.1 n) k := by rw [ltL_s, if_neg c38]
          have hc9 : capF (vs ++ (n :: ltL ((eTr r).2.2.1 n) (k + 1))).length = capF (vs ++ (n :: ltL ((eTr r).2.2.1 n) k)).length := by rw [hls]
          have hl9 : (ltL ((eTr r).2.2.1 n) (k + 1)).length = (ltL ((eTr r).2.2.1 n) k).length := by rw [hls]
          have hr_7 : LhP g (BxE g) p (vs ++ (n :: ltL ((eTr r).2.2.1 n) (k + 1))) (capF (vs ++ (n :: ltL ((eTr r).2.2.1 n) (k + 1))).length) l21_1 := by rw [hls]; exact hl21_1
          refine g_iinc (v := nI (k + 1)) (q := 55) (lv2 := [some (.ref e), some (.int (nI n)), some (.ref p), some (.int (nI (k + 1)))]) B dX3_covers_52 rfl rfl (nI_add _ 1) (Nat.le_of_ble_eq_true rfl) rfl ?_
          refine g_goto (tgt := 21) B dX3_covers_55 (by decide) ?_
          refine g_room (kc2 := (ltL ((eTr r).2.2.1 n) 16).length - (ltL ((eTr r).2.2.1 n) (k + 1)).length) (ks2 := 4 * (capF (vs ++ cov (eTr r) n).length - capF (vs ++ (n :: ltL ((eTr r).2.2.1 n) (k + 1))).length)) (by omega) (by omega) ?_
          exact ih21 _ (by omega) (k + 1) l21_1 hr_7 (by first | assumption | omega | rfl) rfl
        · skip
          have c38 := Classical.not_not.mp c38
          have hls : ltL ((eTr r).2.2.1 n) (k + 1) = ltL ((eTr r).2.2.1 n) k ++ [2 * k] := by rw [ltL_s, if_pos c38]
          have hl1 : (ltL ((eTr r).2.2.1 n) (k + 1)).length = (ltL ((eTr r).2.2.1 n) k).length + 1 := by rw [hls]; simp
          have hl2 := ltL_mo ((eTr r).2.2.1 n) (show k + 1 ≤ 16 by omega)
          have hX : (vs ++ (n :: ltL ((eTr r).2.2.1 n) (k + 1))).length = (vs ++ (n :: ltL ((eTr r).2.2.1 n) k)).length + 1 := by rw [hls]; simp only [List.length_append, List.length_cons, List.length_nil]; omega
          have hXk : (vs ++ (n :: ltL ((eTr r).2.2.1 n) k)).length = vs.length + 1 + (ltL ((eTr r).2.2.1 n) k).length := by simp only [List.length_append, List.length_cons]; omega
          have hc1 : capF (vs ++ (n :: ltL ((eTr r).2.2.1 n) (k + 1))).length = capF ((vs ++ (n :: ltL ((eTr r).2.2.1 n) k)).length + 1) := by rw [hX]
          have hc2 := capF_m (show (vs ++ (n :: ltL ((eTr r).2.2.1 n) k)).length + 1 ≤ (vs ++ cov (eTr r) n).length by omega)
          have hc3 := capF_mo (vs ++ (n :: ltL ((eTr r).2.2.1 n) k)).length
          refine g_aload_n (q := 42) B dX3_covers_41 rfl rfl (rv_r _) ?_
          refine g_iconst (v := nI 2) (q := 43) B dX3_covers_42 rfl (by decide) ?_
          refine g_iload_n (q := 44) B dX3_covers_43 rfl rfl ?_
          refine g_imul (v := nI (2 * k)) (q := 45) B dX3_covers_44 rfl (pk_mul _ _) ?_
          refine g_callS (q := 48) (is := []) (kc2 := (ltL ((eTr r).2.2.1 n) 16).length - (ltL ((eTr r).2.2.1 n) k).length) (ks2 := 4 * (capF (vs ++ cov (eTr r) n).length - capF (vs ++ (n :: ltL ((eTr r).2.2.1 n) k)).length)) B [.int (nI (2 * k))] (ct_J26_valueOf_k g J (k := 2 * k)  (by omega)) dX3_covers_45 rfl q3242 q686 q111 q687 rfl rfl moJ26_valueOf rfl rfl (by decide) (by decide) (Nat.le_of_ble_eq_true rfl) (by omega) (by omega) (fun _ _ hx => noX_x hx) (fun v45 L1 hp45 => ?_)
          obtain ⟨rfl, rfl⟩ := hp45
          refine (show Go g κ 48 [some (.ref e), some (.int (nI n)), some (.ref p), some (.int (nI k))] [.ref (kI g (2 * k)), .ref p] [w0, l21_1] ((ltL ((eTr r).2.2.1 n) 16).length - (ltL ((eTr r).2.2.1 n) k).length) (4 * (capF (vs ++ cov (eTr r) n).length - capF (vs ++ (n :: ltL ((eTr r).2.2.1 n) k)).length)) from ?_)
          obtain ⟨wc_8, ewc_8⟩ : ∃ w : va_W, w = ([] : List va_W).flatten := ⟨_, rfl⟩
          have hwc_8 : BxE g (kI g (2 * k)) (2 * k) wc_8 := by
            rw [ewc_8]
            exact kI_box g (by omega)
          refine g_close (w := wc_8) [] rfl ewc_8 rfl ?_
          refine (show Go g κ 48 [some (.ref e), some (.int (nI n)), some (.ref p), some (.int (nI k))] [.ref (kI g (2 * k)), .ref p] [w0, l21_1, wc_8] ((ltL ((eTr r).2.2.1 n) 16).length - (ltL ((eTr r).2.2.1 n) k).length) (4 * (capF (vs ++ cov (eTr r) n).length - capF (vs ++ (n :: ltL ((eTr r).2.2.1 n) k)).length)) from ?_)
          obtain ⟨ps_9, md_9, hli_9, hln_9, hel_9⟩ := LhP.at (Sub.self hl21_1)
          refine g_callV (q := 51) (is := [1, 1]) (kc2 := ((ltL ((eTr r).2.2.1 n) 16).length - (ltL ((eTr r).2.2.1 n) k).length) - 1) (ks2 := (4 * (capF (vs ++ cov (eTr r) n).length - capF (vs ++ (n :: ltL ((eTr r).2.2.1 n) k)).length)) - (4 * (capF ((vs ++ (n :: ltL ((eTr r).2.2.1 n) k)).length + 1) - capF (vs ++ (n :: ltL ((eTr r).2.2.1 n) k)).length))) B [.ref (kI g (2 * k))] (ct_add_IlP g J (p := p) (rs := (vs ++ (n :: ltL ((eTr r).2.2.1 n) k))) (cap := (capF (vs ++ (n :: ltL ((eTr r).2.2.1 n) k)).length)) (a := (kI g (2 * k))) (r := (2 * k)) (mc := 1) (ms := (4 * (capF ((vs ++ (n :: ltL ((eTr r).2.2.1 n) k)).length + 1) - capF (vs ++ (n :: ltL ((eTr r).2.2.1 n) k)).length))) hl21_1 hwc_8 (by have := capF_le (vs ++ (n :: ltL ((eTr r).2.2.1 n) k)).length; omega) (fun h => ⟨Nat.le_refl _, capF_ms _ h⟩)) dX3_covers_48 rfl (rc_in B (ci := 21) rfl (k := 1) rfl (LhP.hm hl21_1)) rfl q3144 q711 q3666 q81 q713 rfl rfl moJ2_add rfl rfl (by decide) (by decide) (Nat.le_of_ble_eq_true rfl) (by omega) (by omega) (fun _ _ hx => noX_x hx) (fun v48 L1 hp48 => ?_)
          obtain ⟨u0_48, rfl, rfl, hu0_48⟩ := hp48
          refine (show Go g κ 51 [some (.ref e), some (.int (nI n)), some (.ref p), some (.int (nI k))] [.int (nI 1)] [w0, u0_48] (((ltL ((eTr r).2.2.1 n) 16).length - (ltL ((eTr r).2.2.1 n) k).length) - 1) ((4 * (capF (vs ++ cov (eTr r) n).length - capF (vs ++ (n :: ltL ((eTr r).2.2.1 n) k)).length)) - (4 * (capF ((vs ++ (n :: ltL ((eTr r).2.2.1 n) k)).length + 1) - capF (vs ++ (n :: ltL ((eTr r).2.2.1 n) k)).length))) from ?_)
          have hr_10 : LhP g (BxE g) p (vs ++ (n :: ltL ((eTr r).2.2.1 n) (k + 1))) (capF (vs ++ (n :: ltL ((eTr r).2.2.1 n) (k + 1))).length) u0_48 := by rw [hc1, hls, ← capF_s]; have z := hu0_48; rw [List.append_assoc, List.cons_append] at z; exact z
          refine g_pop (q := 52) B dX3_covers_51 rfl rfl ?_
          refine g_iinc (v := nI (k + 1)) (q := 55) (lv2 := [some (.ref e), some (.int (nI n)), some (.ref p), some (.int (nI (k + 1)))]) B dX3_covers_52 rfl rfl (nI_add _ 1) (Nat.le_of_ble_eq_true rfl) rfl ?_
          refine g_goto (tgt := 21) B dX3_covers_55 (by decide) ?_
          refine g_room (kc2 := (ltL ((eTr r).2.2.1 n) 16).length - (ltL ((eTr r).2.2.1 n) (k + 1)).length) (ks2 := 4 * (capF (vs ++ cov (eTr r) n).length - capF (vs ++ (n :: ltL ((eTr r).2.2.1 n) (k + 1))).length)) (by omega) (by omega) ?_
          exact ih21 _ (by omega) (k + 1) u0_48 hr_10 (by first | assumption | omega | rfl) rfl
    have hl00 : (ltL ((eTr r).2.2.1 n) 0).length = 0 := rfl
    refine g_room (kc2 := (ltL ((eTr r).2.2.1 n) 16).length - (ltL ((eTr r).2.2.1 n) 0).length) (ks2 := 4 * (capF (vs ++ cov (eTr r) n).length - capF (vs ++ (n :: ltL ((eTr r).2.2.1 n) 0)).length)) (by omega) (by omega) ?_
    exact lp21 _ 0 u0_15 hr_5 (Nat.zero_le _) rfl
theorem ct_X3_coverOf (g : Gv) (J : Jd g) {e : Nat} {r : MeS} {n : Nat} {w0 : va_W} (hw0 : EpP g e r w0) (hLt : LtB (eTr r)) (hn : n < 31) : Ct g yX3_coverOf (ws_ yX3_coverOf cX3_coverOf 3 (some (.object "java/util/ArrayList"))) 13 (1 + (cov (eTr r) n).length) (3 + 4 * capF (cov (eTr r) n).length) [.ref e, .int (nI n)] [w0] (fun (rv_ : Option Value) (rL_ : List va_W) => ∃ (p : Nat) (u1 : va_W), rv_ = some (.ref p) ∧ rL_ = [w0, u1] ∧ LhP g (BxE g) p (cov (eTr r) n) (capF (cov (eTr r) n).length) u1) noX := by
  refine Ct.of "KeygroveModel" [some (.ref e), some (.int (nI n)), none] rfl (by decide) rfl (Nat.le_of_ble_eq_true rfl) rfl ?_
  intro κ B E tb
  have hE0 := EpP.b hw0
  have hB := hE0.2.1
  have hp2 := p2_4 hB.1
  have hd4 := hB.1
  refine g_new (q := 3) (kc2 := (1 + (cov (eTr r) n).length) - 1) (ks2 := (3 + 4 * capF (cov (eTr r) n).length) - 3) (fs := [.int (nI 0), .null, .int (nI 0)]) B (ci := 21) in_J2 tyJ2_ok rfl dX3_coverOf_0 rfl q3055 q166 q81 (nwJ2) (by omega) (by omega) (fun n0 => ?_)
  refine (show Go g κ 3 [some (.ref e), some (.int (nI n)), none] [.ref n0] [w0, [(n0, .inr (21, [.int (nI 0), .null, .int (nI 0)]))]] ((1 + (cov (eTr r) n).length) - 1) ((3 + 4 * capF (cov (eTr r) n).length) - 3) from ?_)
  refine g_dup (q := 4) B dX3_coverOf_3 rfl rfl ?_
  refine g_callI (q := 7) (is := [1]) (kc2 := (1 + (cov (eTr r) n).length) - 1) (ks2 := (3 + 4 * capF (cov (eTr r) n).length) - 3) B [] (ct_J2_init g J (p := n0)  ) dX3_coverOf_4 rfl rfl q3056 q168 q81 q169 rfl rfl moJ2_init rfl rfl (by decide) (by decide) (Nat.le_of_ble_eq_true rfl) (by omega) (by omega) (fun _ _ hx => noX_x hx) (fun v4 L1 hp4 => ?_)
  obtain ⟨u0_4, rfl, rfl, hu0_4⟩ := hp4
  refine (show Go g κ 7 [some (.ref e), some (.int (nI n)), none] [.ref n0] [w0, u0_4] ((1 + (cov (eTr r) n).length) - 1) ((3 + 4 * capF (cov (eTr r) n).length) - 3) from ?_)
  refine g_astore_n (q := 8) (lv2 := [some (.ref e), some (.int (nI n)), some (.ref n0)]) B dX3_coverOf_7 rfl (Nat.le_of_ble_eq_true rfl) (rv_r _) rfl ?_
  have hr_1 : LhP g (BxE g) n0 ([]) (capF ([] : List Nat).length) u0_4 := (hu0_4.nilH)
  refine g_aload_n (q := 9) B dX3_coverOf_8 rfl rfl (rv_r _) ?_
  refine g_iload_n (q := 10) B dX3_coverOf_9 rfl rfl ?_
  refine g_aload_n (q := 11) B dX3_coverOf_10 rfl rfl (rv_r _) ?_
  have h4 := lev_4 n hn
  have hc00 : capF ([] ++ cov (eTr r) n).length = capF (cov (eTr r) n).length := rfl
  rcases (show lev n = 0 ∨ lev n = 1 ∨ lev n = 2 ∨ lev n = 3 ∨ lev n = 4 by omega) with hlm | hlm | hlm | hlm | hlm
  · skip
    have hcl2 := cov_len hB hlm
    refine g_callS (q := 14) (is := [0, 0]) (kc2 := 0) (ks2 := 0) B [.ref e, .int (nI n), .ref n0] (ct_X3_covers_0 g J (e := e) (r := r) (n := n) (p := n0) (vs := []) hw0 hr_1 (hLt) (hn) (hlm) (by decide)) dX3_coverOf_11 rfl q3469 q3470 q85 q3471 rfl rfl moX3_covers rfl rfl (by decide) (by decide) (Nat.le_of_ble_eq_true rfl) (by omega) (by omega) (fun _ _ hx => noX_x hx) (fun v11 L1 hp11 => ?_)
    obtain ⟨u1_11, rfl, rfl, hu1_11⟩ := hp11
    refine (show Go g κ 14 [some (.ref e), some (.int (nI n)), some (.ref n0)] [] [w0, u1_11] 0 0 from ?_)
    have hr_2 : LhP g (BxE g) n0 (cov (eTr r) n) (capF (cov (eTr r) n).length) u1_11 := hu1_11
    refine g_aload_n (q := 15) B dX3_coverOf_14 rfl rfl (rv_r _) ?_
    exact g_aret B E dX3_coverOf_15 (by first | exact Or.inl ⟨_, rfl⟩ | exact Or.inr ⟨_, rfl⟩) (rv_r _) (⟨n0, u1_11, rfl, rfl, hr_2⟩)
  · skip
    have hcl2 := cov_len hB hlm
    refine g_callS (q := 14) (is := [0, 0]) (kc2 := 0) (ks2 := 0) B [.ref e, .int (nI n), .ref n0] (ct_X3_covers_1 g J (e := e) (r := r) (n := n) (p := n0) (vs := []) hw0 hr_1 (hLt) (hn) (hlm) (by decide)) dX3_coverOf_11 rfl q3469 q3470 q85 q3471 rfl rfl moX3_covers rfl rfl (by decide) (by decide) (Nat.le_of_ble_eq_true rfl) (by omega) (by omega) (fun _ _ hx => noX_x hx) (fun v11 L1 hp11 => ?_)
    obtain ⟨u1_11, rfl, rfl, hu1_11⟩ := hp11
    refine (show Go g κ 14 [some (.ref e), some (.int (nI n)), some (.ref n0)] [] [w0, u1_11] 0 0 from ?_)
    have hr_3 : LhP g (BxE g) n0 (cov (eTr r) n) (capF (cov (eTr r) n).length) u1_11 := hu1_11
    refine g_aload_n (q := 15) B dX3_coverOf_14 rfl rfl (rv_r _) ?_
    exact g_aret B E dX3_coverOf_15 (by first | exact Or.inl ⟨_, rfl⟩ | exact Or.inr ⟨_, rfl⟩) (rv_r _) (⟨n0, u1_11, rfl, rfl, hr_3⟩)
  · skip
    have hcl2 := cov_len hB hlm
    refine g_callS (q := 14) (is := [0, 0]) (kc2 := 0) (ks2 := 0) B [.ref e, .int (nI n), .ref n0] (ct_X3_covers_2 g J (e := e) (r := r) (n := n) (p := n0) (vs := []) hw0 hr_1 (hLt) (hn) (hlm) (by decide)) dX3_coverOf_11 rfl q3469 q3470 q85 q3471 rfl rfl moX3_covers rfl rfl (by decide) (by decide) (Nat.le_of_ble_eq_true rfl) (by omega) (by omega) (fun _ _ hx => noX_x hx) (fun v11 L1 hp11 => ?_)
    obtain ⟨u1_11, rfl, rfl, hu1_11⟩ := hp11
    refine (show Go g κ 14 [some (.ref e), some (.int (nI n)), some (.ref n0)] [] [w0, u1_11] 0 0 from ?_)
    have hr_4 : LhP g (BxE g) n0 (cov (eTr r) n) (capF (cov (eTr r) n).length) u1_11 := hu1_11
    refine g_aload_n (q := 15) B dX3_coverOf_14 rfl rfl (rv_r _) ?_
    exact g_aret B E dX3_coverOf_15 (by first | exact Or.inl ⟨_, rfl⟩ | exact Or.inr ⟨_, rfl⟩) (rv_r _) (⟨n0, u1_11, rfl, rfl, hr_4⟩)
  · skip
    have hcl2 := cov_len hB hlm
    refine g_callS (q := 14) (is := [0, 0]) (kc2 := 0) (ks2 := 0) B [.ref e, .int (nI n), .ref n0] (ct_X3_covers_3 g J (e := e) (r := r) (n := n) (p := n0) (vs := []) hw0 hr_1 (hLt) (hn) (hlm) (by decide)) dX3_coverOf_11 rfl q3469 q3470 q85 q3471 rfl rfl moX3_covers rfl rfl (by decide) (by decide) (Nat.le_of_ble_eq_true rfl) (by omega) (by omega) (fun _ _ hx => noX_x hx) (fun v11 L1 hp11 => ?_)
    obtain ⟨u1_11, rfl, rfl, hu1_11⟩ := hp11
    refine (show Go g κ 14 [some (.ref e), some (.int (nI n)), some (.ref n0)] [] [w0, u1_11] 0 0 from ?_)
    have hr_5 : LhP g (BxE g) n0 (cov (eTr r) n) (capF (cov (eTr r) n).length) u1_11 := hu1_11
    refine g_aload_n (q := 15) B dX3_coverOf_14 rfl rfl (rv_r _) ?_
    exact g_aret B E dX3_coverOf_15 (by first | exact Or.inl ⟨_, rfl⟩ | exact Or.inr ⟨_, rfl⟩) (rv_r _) (⟨n0, u1_11, rfl, rfl, hr_5⟩)
  · skip
    have hcl2 := cov_len hB hlm
    refine g_callS (q := 14) (is := [0, 0]) (kc2 := 0) (ks2 := 0) B [.ref e, .int (nI n), .ref n0] (ct_X3_covers_4 g J (e := e) (r := r) (n := n) (p := n0) (vs := []) hw0 hr_1 (hLt) (hn) (hlm) (by decide)) dX3_coverOf_11 rfl q3469 q3470 q85 q3471 rfl rfl moX3_covers rfl rfl (by decide) (by decide) (Nat.le_of_ble_eq_true rfl) (by omega) (by omega) (fun _ _ hx => noX_x hx) (fun v11 L1 hp11 => ?_)
    obtain ⟨u1_11, rfl, rfl, hu1_11⟩ := hp11
    refine (show Go g κ 14 [some (.ref e), some (.int (nI n)), some (.ref n0)] [] [w0, u1_11] 0 0 from ?_)
    have hr_6 : LhP g (BxE g) n0 (cov (eTr r) n) (capF (cov (eTr r) n).length) u1_11 := hu1_11
    refine g_aload_n (q := 15) B dX3_coverOf_14 rfl rfl (rv_r _) ?_
    exact g_aret B E dX3_coverOf_15 (by first | exact Or.inl ⟨_, rfl⟩ | exact Or.inr ⟨_, rfl⟩) (rv_r _) (⟨n0, u1_11, rfl, rfl, hr_6⟩)
theorem moX13_nodes : Mo yX13_nodes 0 := by
  refine ⟨by decide, by decide, by decide +kernel⟩
theorem moX3_isAbove : Mo yX3_isAbove 2 := by
  refine ⟨by decide, by decide, by decide +kernel⟩
theorem ct_X3_blanks (g : Gv) (J : Jd g) {e : Nat} {r : MeS} {l : Nat} {w0 : va_W} (hw0 : EpP g e r w0) (hl : l < 2 ^ (eTr r).1) : Ct g yX3_blanks (ws_ yX3_blanks cX3_blanks 3 none) 3 0 0 [.ref e, .int (nI l)] [w0] (fun (rv_ : Option Value) (rL_ : List va_W) => ∃ (u0 : va_W), rv_ = none ∧ rL_ = [u0] ∧ EpP g e ((eNo r, (blkF (eTr r) (inW (eTr r).1 l)), eGo r, eKy r, eCh r, eWy r, eRm r, ePk r) : MeS) u0) noX := by
  refine Ct.of "KeygroveModel" [some (.ref e), some (.int (nI l)), none] rfl (by decide) rfl (Nat.le_of_ble_eq_true rfl) rfl ?_
  intro κ B E tb
  have hE0 := EpP.b hw0
  have hB := hE0.2.1
  have hp2 := p2_4 hB.1
  have hd4 := hB.1
  have hr_1 : EpP g e ((eNo r, (blkF (eTr r) (abq l 0)), eGo r, eKy r, eCh r, eWy r, eRm r, ePk r) : MeS) w0 := by rw [blkF_0 _ (abq_0 l)]; exact hw0
  refine g_iconst (v := nI 0) (q := 1) B dX3_blanks_0 rfl (by decide) ?_
  refine g_istore_n (q := 2) (lv2 := [some (.ref e), some (.int (nI l)), some (.int (nI 0))]) B dX3_blanks_1 rfl (Nat.le_of_ble_eq_true rfl) rfl ?_
  have lp2 : ∀ (n2 : Nat) (k : Nat) (l2_0 : va_W), EpP g e ((eNo r, (blkF (eTr r) (abq l k)), eGo r, eKy r, eCh r, eWy r, eRm r, ePk r) : MeS) l2_0 → (k ≤ 2 * 2 ^ (eTr r).1 - 1) → 31 - k = n2 → Go g κ 2 [some (.ref e), some (.int (nI l)), some (.int (nI k))] [] [l2_0] 0 0 := by
    intro n2
    induction n2 using Nat.strongRecOn with
    | _ n2 ih2 =>
    intro k l2_0 hl2_0 hk hmu2
    have hbw : 2 ^ (eTr ((eNo r, (blkF (eTr r) (abq l k)), eGo r, eKy r, eCh r, eWy r, eRm r, ePk r) : MeS)).1 = 2 ^ (eTr r).1 := rfl
    refine g_iload_n (q := 3) B dX3_blanks_2 rfl rfl ?_
    refine g_aload_n (q := 4) B dX3_blanks_3 rfl rfl (rv_r _) ?_
    refine g_callV (q := 7) (is := [0]) (kc2 := 0) (ks2 := 0) B [] (ct_X13_nodes g J (e := e) (r := ((eNo r, (blkF (eTr r) (abq l k)), eGo r, eKy r, eCh r, eWy r, eRm r, ePk r) : MeS)) hl2_0 ) dX3_blanks_4 rfl (rc_in B (ci := 16) rfl (k := 0) rfl (EpP.hm hl2_0)) rfl q3434 q3435 q3436 q137 q3437 rfl rfl moX13_nodes rfl rfl (by decide) (by decide) (Nat.le_of_ble_eq_true rfl) (Nat.le_of_ble_eq_true rfl) (Nat.le_of_ble_eq_true rfl) (fun _ _ hx => noX_x hx) (fun v4 L1 hp4 => ?_)
    obtain ⟨rfl, rfl⟩ := hp4
    refine (show Go g κ 7 [some (.ref e), some (.int (nI l)), some (.int (nI k))] [.int (nI (2 * 2 ^ (eTr ((eNo r, (blkF (eTr r) (abq l k)), eGo r, eKy r, eCh r, eWy r, eRm r, ePk r) : MeS)).1 - 1)), .int (nI k)] [l2_0] 0 0 from ?_)
    refine g_icmp_ge (tgt := 41) (q := 10) B dX3_blanks_7 rfl (by decide) (nI_leI (by omega) (by omega)) (fun c7 => ?_) (fun c7 => ?_)
    · skip
      have hr_2 : EpP g e ((eNo r, (blkF (eTr r) (inW (eTr r).1 l)), eGo r, eKy r, eCh r, eWy r, eRm r, ePk r) : MeS) l2_0 := by rw [← abq_e hd4 hl, show 2 * 2 ^ (eTr r).1 - 1 = k by omega]; exact hl2_0
      exact g_vret B E dX3_blanks_41 (⟨l2_0, rfl, rfl, hr_2⟩)
    · skip
      refine g_iload_n (q := 11) B dX3_blanks_10 rfl rfl ?_
      refine g_iload_n (q := 12) B dX3_blanks_11 rfl rfl ?_
      refine g_callS (q := 15) (is := []) (kc2 := 0) (ks2 := 0) B [.int (nI k), .int (nI l)] (ct_X3_isAbove g J (n := k) (l := l)  (by omega) (by omega)) dX3_blanks_12 rfl q3438 q3439 q85 q3440 rfl rfl moX3_isAbove rfl rfl (by decide) (by decide) (Nat.le_of_ble_eq_true rfl) (Nat.le_of_ble_eq_true rfl) (Nat.le_of_ble_eq_true rfl) (fun _ _ hx => noX_x hx) (fun v12 L1 hp12 => ?_)
      obtain ⟨rfl, rfl⟩ := hp12
      refine (show Go g κ 15 [some (.ref e), some (.int (nI l)), some (.int (nI k))] [.int (nI (if 0 < lev k ∧ cvr k l = true then 1 else 0))] [l2_0] 0 0 from ?_)
      refine g_if_ne (tgt := 21) (q := 18) B dX3_blanks_15 rfl (by decide) (bo_ne) (fun c15 => ?_) (fun c15 => ?_)
      · skip
        obtain ⟨ap_b, an_b, al_b, ac_b, aw_b, am_b, ak_b, fp_b, fn_b, fl_b, fc_b, fw_b, fm_b, fk_b, hE_b, hfp_b, hfn_b, hfl_b, hfc_b, hfw_b, hfm_b, hfk_b, rfl⟩ := hl2_0
        refine g_open 0 rfl rfl rfl ?_
        refine (show Go g κ 21 [some (.ref e), some (.int (nI l)), some (.int (nI k))] [] [[(e, .inr (16, [.int (nI (eNo ((eNo r, (blkF (eTr r) (abq l k)), eGo r, eKy r, eCh r, eWy r, eRm r, ePk r) : MeS))), .int (nI (2 ^ (eTr ((eNo r, (blkF (eTr r) (abq l k)), eGo r, eKy r, eCh r, eWy r, eRm r, ePk r) : MeS)).1)), .int (nI (eGo ((eNo r, (blkF (eTr r) (abq l k)), eGo r, eKy r, eCh r, eWy r, eRm r, ePk r) : MeS))), .int (nI (eKy ((eNo r, (blkF (eTr r) (abq l k)), eGo r, eKy r, eCh r, eWy r, eRm r, ePk r) : MeS))), .ref ap_b, .ref an_b, .ref al_b, .ref ac_b, .ref aw_b, .ref am_b, .ref ak_b]))], [(ap_b, .inl (g.2.1 0, 16, .inl fp_b))], [(an_b, .inl (g.2.1 0, 31, .inl fn_b))], [(al_b, .inl (g.2.1 0, 31, .inl fl_b))], [(ac_b, .inl (g.2.1 0, 16, .inl fc_b))], [(aw_b, .inl (g.2.1 4, 31, .inl fw_b))], [(am_b, .inl (g.2.1 4, 16, .inl fm_b))], [(ak_b, .inl (g.2.1 0, 16, .inl fk_b))]] 0 0 from ?_)
        refine g_aload_n (q := 22) B dX3_blanks_21 rfl rfl (rv_r _) ?_
        refine g_getN (q := 25) B (ci := 16) (k := 0) (j := 5) in_X13 rfl dX3_blanks_22 rfl rfl (Nat.le_of_ble_eq_true rfl) q3263 rfl rfl ?_
        refine g_iload_n (q := 26) B dX3_blanks_25 rfl rfl ?_
        refine g_iconst (v := -1) (q := 27) B dX3_blanks_26 rfl (by decide) ?_
        refine g_iast (q := 28) (L2 := [[(e, .inr (16, [.int (nI (eNo ((eNo r, (blkF (eTr r) (abq l k)), eGo r, eKy r, eCh r, eWy r, eRm r, ePk r) : MeS))), .int (nI (2 ^ (eTr ((eNo r, (blkF (eTr r) (abq l k)), eGo r, eKy r, eCh r, eWy r, eRm r, ePk r) : MeS)).1)), .int (nI (eGo ((eNo r, (blkF (eTr r) (abq l k)), eGo r, eKy r, eCh r, eWy r, eRm r, ePk r) : MeS))), .int (nI (eKy ((eNo r, (blkF (eTr r) (abq l k)), eGo r, eKy r, eCh r, eWy r, eRm r, ePk r) : MeS))), .ref ap_b, .ref an_b, .ref al_b, .ref ac_b, .ref aw_b, .ref am_b, .ref ak_b]))], [(ap_b, .inl (g.2.1 0, 16, .inl fp_b))], [(an_b, .inl (g.2.1 0, 31, .inl (upd fn_b k (-1))))], [(al_b, .inl (g.2.1 0, 31, .inl fl_b))], [(ac_b, .inl (g.2.1 0, 16, .inl fc_b))], [(aw_b, .inl (g.2.1 4, 31, .inl fw_b))], [(am_b, .inl (g.2.1 4, 16, .inl fm_b))], [(ak_b, .inl (g.2.1 0, 16, .inl fk_b))]]) B (k := 2) dX3_blanks_27 rfl rfl (vp_in_nI (by omega) (by omega)) (by rw [nI_clamp (by omega)] <;> rfl) ?_
        obtain ⟨f27, ef27⟩ : ∃ f : Nat → Int32, f = upd fn_b k (-1) := ⟨_, rfl⟩
        have hf27 : ∀ i, i < 31 → f27 i = oI (fup ((eTr ((eNo r, (blkF (eTr r) (abq l k)), eGo r, eKy r, eCh r, eWy r, eRm r, ePk r) : MeS)).2.1) k none i) := by rw [ef27]; exact upd_oI hfn_b _ none
        rw [← ef27]
        refine (show Go g κ 28 [some (.ref e), some (.int (nI l)), some (.int (nI k))] [] [[(e, .inr (16, [.int (nI (eNo ((eNo r, (blkF (eTr r) (abq l k)), eGo r, eKy r, eCh r, eWy r, eRm r, ePk r) : MeS))), .int (nI (2 ^ (eTr ((eNo r, (blkF (eTr r) (abq l k)), eGo r, eKy r, eCh r, eWy r, eRm r, ePk r) : MeS)).1)), .int (nI (eGo ((eNo r, (blkF (eTr r) (abq l k)), eGo r, eKy r, eCh r, eWy r, eRm r, ePk r) : MeS))), .int (nI (eKy ((eNo r, (blkF (eTr r) (abq l k)), eGo r, eKy r, eCh r, eWy r, eRm r, ePk r) : MeS))), .ref ap_b, .ref an_b, .ref al_b, .ref ac_b, .ref aw_b, .ref am_b, .ref ak_b]))], [(ap_b, .inl (g.2.1 0, 16, .inl fp_b))], [(an_b, .inl (g.2.1 0, 31, .inl f27))], [(al_b, .inl (g.2.1 0, 31, .inl fl_b))], [(ac_b, .inl (g.2.1 0, 16, .inl fc_b))], [(aw_b, .inl (g.2.1 4, 31, .inl fw_b))], [(am_b, .inl (g.2.1 4, 16, .inl fm_b))], [(ak_b, .inl (g.2.1 0, 16, .inl fk_b))]] 0 0 from ?_)
        refine g_aload_n (q := 29) B dX3_blanks_28 rfl rfl (rv_r _) ?_
        refine g_getN (q := 32) B (ci := 16) (k := 0) (j := 6) in_X13 rfl dX3_blanks_29 rfl rfl (Nat.le_of_ble_eq_true rfl) q3265 rfl rfl ?_
        refine g_iload_n (q := 33) B dX3_blanks_32 rfl rfl ?_
        refine g_iconst (v := nI 0) (q := 34) B dX3_blanks_33 rfl (by decide) ?_
        refine g_iast (q := 35) (L2 := [[(e, .inr (16, [.int (nI (eNo ((eNo r, (blkF (eTr r) (abq l k)), eGo r, eKy r, eCh r, eWy r, eRm r, ePk r) : MeS))), .int (nI (2 ^ (eTr ((eNo r, (blkF (eTr r) (abq l k)), eGo r, eKy r, eCh r, eWy r, eRm r, ePk r) : MeS)).1)), .int (nI (eGo ((eNo r, (blkF (eTr r) (abq l k)), eGo r, eKy r, eCh r, eWy r, eRm r, ePk r) : MeS))), .int (nI (eKy ((eNo r, (blkF (eTr r) (abq l k)), eGo r, eKy r, eCh r, eWy r, eRm r, ePk r) : MeS))), .ref ap_b, .ref an_b, .ref al_b, .ref ac_b, .ref aw_b, .ref am_b, .ref ak_b]))], [(ap_b, .inl (g.2.1 0, 16, .inl fp_b))], [(an_b, .inl (g.2.1 0, 31, .inl f27))], [(al_b, .inl (g.2.1 0, 31, .inl (upd fl_b k (nI 0))))], [(ac_b, .inl (g.2.1 0, 16, .inl fc_b))], [(aw_b, .inl (g.2.1 4, 31, .inl fw_b))], [(am_b, .inl (g.2.1 4, 16, .inl fm_b))], [(ak_b, .inl (g.2.1 0, 16, .inl fk_b))]]) B (k := 3) dX3_blanks_34 rfl rfl (vp_in_nI (by omega) (by omega)) (by rw [nI_clamp (by omega)] <;> rfl) ?_
        obtain ⟨f34, ef34⟩ : ∃ f : Nat → Int32, f = upd fl_b k (nI 0) := ⟨_, rfl⟩
        have hf34 : ∀ i, i < 31 → f34 i = nI (fup ((eTr ((eNo r, (blkF (eTr r) (abq l k)), eGo r, eKy r, eCh r, eWy r, eRm r, ePk r) : MeS)).2.2.1) k 0 i) := by rw [ef34]; exact upd_nI hfl_b _ 0
        rw [← ef34]
        refine (show Go g κ 35 [some (.ref e), some (.int (nI l)), some (.int (nI k))] [] [[(e, .inr (16, [.int (nI (eNo ((eNo r, (blkF (eTr r) (abq l k)), eGo r, eKy r, eCh r, eWy r, eRm r, ePk r) : MeS))), .int (nI (2 ^ (eTr ((eNo r, (blkF (eTr r) (abq l k)), eGo r, eKy r, eCh r, eWy r, eRm r, ePk r) : MeS)).1)), .int (nI (eGo ((eNo r, (blkF (eTr r) (abq l k)), eGo r, eKy r, eCh r, eWy r, eRm r, ePk r) : MeS))), .int (nI (eKy ((eNo r, (blkF (eTr r) (abq l k)), eGo r, eKy r, eCh r, eWy r, eRm r, ePk r) : MeS))), .ref ap_b, .ref an_b, .ref al_b, .ref ac_b, .ref aw_b, .ref am_b, .ref ak_b]))], [(ap_b, .inl (g.2.1 0, 16, .inl fp_b))], [(an_b, .inl (g.2.1 0, 31, .inl f27))], [(al_b, .inl (g.2.1 0, 31, .inl f34))], [(ac_b, .inl (g.2.1 0, 16, .inl fc_b))], [(aw_b, .inl (g.2.1 4, 31, .inl fw_b))], [(am_b, .inl (g.2.1 4, 16, .inl fm_b))], [(ak_b, .inl (g.2.1 0, 16, .inl fk_b))]] 0 0 from ?_)
        obtain ⟨wc_3, ewc_3⟩ : ∃ w : va_W, w = ([[(e, .inr (16, [.int (nI (eNo ((eNo r, (blkF (eTr r) (abq l k)), eGo r, eKy r, eCh r, eWy r, eRm r, ePk r) : MeS))), .int (nI (2 ^ (eTr ((eNo r, (blkF (eTr r) (abq l k)), eGo r, eKy r, eCh r, eWy r, eRm r, ePk r) : MeS)).1)), .int (nI (eGo ((eNo r, (blkF (eTr r) (abq l k)), eGo r, eKy r, eCh r, eWy r, eRm r, ePk r) : MeS))), .int (nI (eKy ((eNo r, (blkF (eTr r) (abq l k)), eGo r, eKy r, eCh r, eWy r, eRm r, ePk r) : MeS))), .ref ap_b, .ref an_b, .ref al_b, .ref ac_b, .ref aw_b, .ref am_b, .ref ak_b]))], [(ap_b, .inl (g.2.1 0, 16, .inl fp_b))], [(an_b, .inl (g.2.1 0, 31, .inl f27))], [(al_b, .inl (g.2.1 0, 31, .inl f34))], [(ac_b, .inl (g.2.1 0, 16, .inl fc_b))], [(aw_b, .inl (g.2.1 4, 31, .inl fw_b))], [(am_b, .inl (g.2.1 4, 16, .inl fm_b))], [(ak_b, .inl (g.2.1 0, 16, .inl fk_b))]] : List va_W).flatten := ⟨_, rfl⟩
        have hwc_3 : EpP g e ((eNo r, (blkN (blkF (eTr r) (abq l k)) k), eGo r, eKy r, eCh r, eWy r, eRm r, ePk r) : MeS) wc_3 := by
          rw [ewc_3]
          exact ⟨ap_b, an_b, al_b, ac_b, aw_b, am_b, ak_b, fp_b, f27, f34, fc_b, fw_b, fm_b, fk_b, (MeB.tr hE0 (TrB.blkN (TrB.blkF hB _) k)), hfp_b, hf27, hf34, hfc_b, hfw_b, hfm_b, hfk_b, rfl⟩
        refine g_close (w := wc_3) [0, 0, 0, 0, 0, 0, 0, 0] rfl ewc_3 rfl ?_
        refine (show Go g κ 35 [some (.ref e), some (.int (nI l)), some (.int (nI k))] [] [wc_3] 0 0 from ?_)
        have hr_4 : EpP g e ((eNo r, (blkF (eTr r) (abq l (k + 1))), eGo r, eKy r, eCh r, eWy r, eRm r, ePk r) : MeS) wc_3 := by rw [← blkF_s (eTr r) (abq_y c15.1 c15.2)]; exact hwc_3
        refine g_iinc (v := nI (k + 1)) (q := 38) (lv2 := [some (.ref e), some (.int (nI l)), some (.int (nI (k + 1)))]) B dX3_blanks_35 rfl rfl (nI_add _ 1) (Nat.le_of_ble_eq_true rfl) rfl ?_
        refine g_goto (tgt := 2) B dX3_blanks_38 (by decide) ?_
        exact ih2 _ (by omega) (k + 1) wc_3 hr_4 (by omega) rfl
      · skip
        refine g_goto (tgt := 35) B dX3_blanks_18 (by decide) ?_
        have hr_5 : EpP g e ((eNo r, (blkF (eTr r) (abq l (k + 1))), eGo r, eKy r, eCh r, eWy r, eRm r, ePk r) : MeS) l2_0 := by rw [abq_n c15]; exact hl2_0
        refine g_iinc (v := nI (k + 1)) (q := 38) (lv2 := [some (.ref e), some (.int (nI l)), some (.int (nI (k + 1)))]) B dX3_blanks_35 rfl rfl (nI_add _ 1) (Nat.le_of_ble_eq_true rfl) rfl ?_
        refine g_goto (tgt := 2) B dX3_blanks_38 (by decide) ?_
        exact ih2 _ (by omega) (k + 1) l2_0 hr_5 (by omega) rfl
  exact lp2 _ 0 w0 hr_1 (Nat.zero_le _) rfl
