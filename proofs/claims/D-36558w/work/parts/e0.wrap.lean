set_option maxRecDepth 100000
theorem fd2_ok : ∀ l, l < 5 → ∀ m, m < 32 → vf_n64 (FP.f2d (FP.fdiv (FP.i2f (nI m)) (FP.i2f (nI (2 * 2 ^ l - 1))))) := by unfold vf_n64; decide +kernel
theorem moX1_person : Mo yX1_person 0 := by
  refine ⟨by decide, by decide, by decide +kernel⟩
theorem ct_X0_person (g : Gv) (J : Jd g) {x : Nat} {C : KsS} {o : Nat} {f : Nat → Int64} {w0 : va_W} (hw0 : KgP g x C w0) (hC : KsB C) : Ct g yX0_person (wsW_ yX0_person cX0_person 3 (some .int) [(0, 8, 11, 13)]) 11 10 200 [.ref x, .ref o] [w0, [(o, .inl (g.2.1 3, 1, .inr (.inl f)))]] (fun (rv_ : Option Value) (rL_ : List va_W) => ∃ (kx : Nat) (C9 : KsS) (f9 : Nat → Int64) (u0 : va_W), rv_ = some (.int (nI kx)) ∧ rL_ = [u0, [(o, .inl (g.2.1 3, 1, .inr (.inl f9)))]] ∧ KgP g x C9 u0 ∧ ((kx = 0 ∧ C9 = ((zSs C, zBx C, zZz C, (zPs C ++ [(((zPs C).length, fun _ => false, [], none, 0, fun _ => none, 0, 0, fun _ => none, none) : PeS)]), zKs C, zRs C, zTs C, zSt C, zMs C, zSo C, zBn C) : KsS) ∧ (f9 0 = (nI ((zPs C).length)).toInt64) ∧ ((zPs C).length < 10)) ∨ (kx = 1 ∧ C9 = C ∧ (¬ (zPs C).length < 10)))) noX := by
  refine Ct.ofW "KeygroveLaw" [some (.ref x), some (.ref o), none] rfl (by decide) rfl (Nat.le_of_ble_eq_true rfl) rfl ?_
  intro κ B E tb
  refine g_aload_n (q := 1) B dX0_person_0 rfl rfl (rv_r _) ?_
  refine g_iconst (v := nI 0) (q := 2) B dX0_person_1 rfl (by decide) ?_
  refine g_aload_n (q := 3) B dX0_person_2 rfl rfl (rv_r _) ?_
  refine g_callV (q := 6) (is := [0]) (kc2 := 0) (ks2 := 0) B [] (ct_X1_person g J (x := x) (C := C) hw0 (hC)) dX0_person_3 rfl (rc_in B (ci := 0) rfl (k := 0) rfl (KgP.hm hw0)) rfl q1835 q1836 q1837 q77 q1838 rfl rfl moX1_person rfl rfl (by decide) (by decide) (Nat.le_of_ble_eq_true rfl) (Nat.le_of_ble_eq_true rfl) (Nat.le_of_ble_eq_true rfl) (fun E3 L1 hx3 => ?_) (fun v3 L1 hp3 => ?_)
  · skip
    obtain ⟨rfl, hx3⟩ := hx3
    obtain ⟨rfl, hx3⟩ := hx3
    refine g_catch B tb (nm := "java/lang/IllegalStateException") [] (⟨0, 8, 11, 13⟩ : ExceptionTableEntry) [] rfl (fun z hz => by cases hz) (by decide) (by decide) q1834 q1844 (fun z3_0 => ?_)
    refine (show Go g κ 11 [some (.ref x), some (.ref o), none] [.ref z3_0] [[(o, .inl (g.2.1 3, 1, .inr (.inl f)))], w0] 0 0 from ?_)
    refine g_astore_n (q := 12) (lv2 := [some (.ref x), some (.ref o), some (.ref z3_0)]) B dX0_person_11 rfl (Nat.le_of_ble_eq_true rfl) (rv_r _) rfl ?_
    refine g_iconst (v := nI 1) (q := 13) B dX0_person_12 rfl (by decide) ?_
    refine g_pk [1, 0] rfl rfl ?_
    refine (show Go g κ 13 [some (.ref x), some (.ref o), some (.ref z3_0)] [.int (nI 1)] [w0, [(o, .inl (g.2.1 3, 1, .inr (.inl f)))]] 0 0 from ?_)
    exact g_iret B E dX0_person_13 (⟨1, C, f, w0, rfl, rfl, hw0, (Or.inr (⟨rfl, rfl, hx3⟩))⟩)
  obtain ⟨u0_3, rfl, rfl, hu0_3, hl_3⟩ := hp3
  refine (show Go g κ 6 [some (.ref x), some (.ref o), none] [.int (nI ((zPs C).length)), .int (nI 0), .ref o] [[(o, .inl (g.2.1 3, 1, .inr (.inl f)))], u0_3] 0 0 from ?_)
  refine g_i2l (v := (nI ((zPs C).length)).toInt64) (q := 7) B dX0_person_6 rfl rfl ?_
  refine g_last (q := 8) (L2 := [[(o, .inl (g.2.1 3, 1, .inr (.inl (vp_updL f 0 ((nI ((zPs C).length)).toInt64)))))], u0_3]) B (k := 0) dX0_person_7 rfl rfl (vp_in_nI (by omega) (by omega)) (by rw [nI_clamp (by omega)] <;> rfl) ?_
  refine g_goto (tgt := 14) B dX0_person_8 (by decide) ?_
  refine g_iconst (v := nI 0) (q := 15) B dX0_person_14 rfl (by decide) ?_
  refine g_pk [1, 0] rfl rfl ?_
  refine (show Go g κ 15 [some (.ref x), some (.ref o), none] [.int (nI 0)] [u0_3, [(o, .inl (g.2.1 3, 1, .inr (.inl (vp_updL f 0 ((nI ((zPs C).length)).toInt64)))))]] 0 0 from ?_)
  exact g_iret B E dX0_person_15 (⟨0, ((zSs C, zBx C, zZz C, (zPs C ++ [(((zPs C).length, fun _ => false, [], none, 0, fun _ => none, 0, 0, fun _ => none, none) : PeS)]), zKs C, zRs C, zTs C, zSt C, zMs C, zSo C, zBn C) : KsS), vp_updL f 0 ((nI ((zPs C).length)).toInt64), u0_3, rfl, rfl, hu0_3, (Or.inl (⟨rfl, rfl, rfl, hl_3⟩))⟩)
theorem moX1_pack : Mo yX1_pack 1 := by
  refine ⟨by decide, by decide, by decide +kernel⟩
theorem nc_299 : Cond.not (.castable "java/lang/IllegalStateException" "java/lang/IndexOutOfBoundsException") ∈ gNc := List.mem_of_getElem? (i := 299) (by decide +kernel)
theorem ct_X0_pack (g : Gv) (J : Jd g) {x : Nat} {C : KsS} {v : Int32} {o : Nat} {f : Nat → Int64} {w0 : va_W} (hw0 : KgP g x C w0) (hC : KsB C) (hpk30 : ∀ r ∈ zPs C, (pPk r).length ≤ 30) : Ct g yX0_pack (wsW_ yX0_pack cX0_pack 4 (some .int) [(0, 9, 12, 19), (0, 9, 15, 13)]) 11 120 (900 + 4 * (PhS (zSs C ++ [drw (zZz C)] ++ [drw (lcg (zZz C))]) - PhS (zSs C))) [.ref x, .int v, .ref o] [w0, [(o, .inl (g.2.1 3, 1, .inr (.inl f)))]] (fun (rv_ : Option Value) (rL_ : List va_W) => ∃ (kx : Nat) (C9 : KsS) (f9 : Nat → Int64) (u0 : va_W), rv_ = some (.int (nI kx)) ∧ rL_ = [u0, [(o, .inl (g.2.1 3, 1, .inr (.inl f9)))]] ∧ KgP g x C9 u0 ∧ ((kx = 0 ∧ ∃ (i : Nat) (r : PeS) (E : Nat → Bool), C9 = (((zSs C ++ [drw (zZz C)] ++ [drw (lcg (zZz C))]), zBx C, lcg (lcg (zZz C)), (zPs C).set i ((pNo r, E, pPk r ++ [(zKs C).length], pEp r, pLf r, pNd r, pOn r, pKy r, pCh r, pRn r) : PeS), zKs C ++ [((i, (zSs C).length, (zSs C).length + 1, false, none, false) : PkS)], zRs C, zTs C, zSt C, zMs C, zSo C, zBn C) : KsS) ∧ (f9 0 = (nI ((zKs C).length)).toInt64) ∧ (v = nI i) ∧ ((zPs C)[i]? = some r) ∧ ((zKs C).length < 24) ∧ (∀ y, E y = true ↔ pEv r y = true ∨ helP (zKs C ++ [((i, (zSs C).length, (zSs C).length + 1, false, none, false) : PkS)]) ((pNo r, pEv r, pPk r ++ [(zKs C).length], pEp r, pLf r, pNd r, pOn r, pKy r, pCh r, pRn r) : PeS) y)) ∨ (kx = 1 ∧ C9 = C ∧ (¬ inR v (zPs C).length = true)) ∨ (kx = 2 ∧ C9 = C ∧ (∃ (i : Nat) (r : PeS), v = nI i ∧ (zPs C)[i]? = some r ∧ ¬ (zKs C).length < 24)))) noX := by
  refine Ct.ofW "KeygroveLaw" [some (.ref x), some (.int v), some (.ref o), none] rfl (by decide) rfl (Nat.le_of_ble_eq_true rfl) rfl ?_
  intro κ B E tb
  refine g_aload_n (q := 1) B dX0_pack_0 rfl rfl (rv_r _) ?_
  refine g_iconst (v := nI 0) (q := 2) B dX0_pack_1 rfl (by decide) ?_
  refine g_aload_n (q := 3) B dX0_pack_2 rfl rfl (rv_r _) ?_
  refine g_iload_n (q := 4) B dX0_pack_3 rfl rfl ?_
  refine g_callV (q := 7) (is := [0]) (kc2 := 0) (ks2 := (900 + 4 * (PhS (zSs C ++ [drw (zZz C)] ++ [drw (lcg (zZz C))]) - PhS (zSs C))) - (900 + 4 * (PhS (zSs C ++ [drw (zZz C)] ++ [drw (lcg (zZz C))]) - PhS (zSs C)))) B [.int v] (ct_X1_pack g J (x := x) (C := C) (v := v) hw0 (hC) (hpk30)) dX0_pack_4 rfl (rc_in B (ci := 0) rfl (k := 0) rfl (KgP.hm hw0)) rfl q1957 q1958 q1959 q77 q1960 rfl rfl moX1_pack rfl rfl (by decide) (by decide) (Nat.le_of_ble_eq_true rfl) (Nat.le_of_ble_eq_true rfl) (by omega) (fun E4 L1 hx4 => ?_) (fun v4 L1 hp4 => ?_)
  · skip
    obtain ⟨rfl, hx4⟩ := hx4
    rcases hx4 with ⟨rfl, hx4⟩ | ⟨rfl, hx4⟩
    · skip
      refine g_catch B tb (nm := "java/lang/IndexOutOfBoundsException") [] (⟨0, 9, 12, 19⟩ : ExceptionTableEntry) [(⟨0, 9, 15, 13⟩ : ExceptionTableEntry)] rfl (fun z hz => by cases hz) (by decide) (by decide) q1941 q341 (fun z4_0 => ?_)
      refine (show Go g κ 12 [some (.ref x), some (.int v), some (.ref o), none] [.ref z4_0] [[(o, .inl (g.2.1 3, 1, .inr (.inl f)))], w0] 0 ((900 + 4 * (PhS (zSs C ++ [drw (zZz C)] ++ [drw (lcg (zZz C))]) - PhS (zSs C))) - (900 + 4 * (PhS (zSs C ++ [drw (zZz C)] ++ [drw (lcg (zZz C))]) - PhS (zSs C)))) from ?_)
      refine g_astore_n (q := 13) (lv2 := [some (.ref x), some (.int v), some (.ref o), some (.ref z4_0)]) B dX0_pack_12 rfl (Nat.le_of_ble_eq_true rfl) (rv_r _) rfl ?_
      refine g_iconst (v := nI 1) (q := 14) B dX0_pack_13 rfl (by decide) ?_
      refine g_pk [1, 0] rfl rfl ?_
      refine (show Go g κ 14 [some (.ref x), some (.int v), some (.ref o), some (.ref z4_0)] [.int (nI 1)] [w0, [(o, .inl (g.2.1 3, 1, .inr (.inl f)))]] 0 ((900 + 4 * (PhS (zSs C ++ [drw (zZz C)] ++ [drw (lcg (zZz C))]) - PhS (zSs C))) - (900 + 4 * (PhS (zSs C ++ [drw (zZz C)] ++ [drw (lcg (zZz C))]) - PhS (zSs C)))) from ?_)
      exact g_iret B E dX0_pack_14 (⟨1, C, f, w0, rfl, rfl, hw0, (Or.inr (Or.inl (⟨rfl, rfl, hx4⟩)))⟩)
    · skip
      refine g_catch B tb (nm := "java/lang/IllegalStateException") [(⟨0, 9, 12, 19⟩ : ExceptionTableEntry)] (⟨0, 9, 15, 13⟩ : ExceptionTableEntry) [] rfl (fun z hz => by simp only [List.mem_cons, List.not_mem_nil, or_false] at hz; rcases hz with rfl; exact Or.inr ⟨by decide, "java/lang/IndexOutOfBoundsException", q1941, nc_299⟩) (by decide) (by decide) q1834 q1844 (fun z4_1 => ?_)
      refine (show Go g κ 15 [some (.ref x), some (.int v), some (.ref o), none] [.ref z4_1] [[(o, .inl (g.2.1 3, 1, .inr (.inl f)))], w0] 0 ((900 + 4 * (PhS (zSs C ++ [drw (zZz C)] ++ [drw (lcg (zZz C))]) - PhS (zSs C))) - (900 + 4 * (PhS (zSs C ++ [drw (zZz C)] ++ [drw (lcg (zZz C))]) - PhS (zSs C)))) from ?_)
      refine g_astore_n (q := 16) (lv2 := [some (.ref x), some (.int v), some (.ref o), some (.ref z4_1)]) B dX0_pack_15 rfl (Nat.le_of_ble_eq_true rfl) (rv_r _) rfl ?_
      refine g_iconst (v := nI 2) (q := 17) B dX0_pack_16 rfl (by decide) ?_
      refine g_pk [1, 0] rfl rfl ?_
      refine (show Go g κ 17 [some (.ref x), some (.int v), some (.ref o), some (.ref z4_1)] [.int (nI 2)] [w0, [(o, .inl (g.2.1 3, 1, .inr (.inl f)))]] 0 ((900 + 4 * (PhS (zSs C ++ [drw (zZz C)] ++ [drw (lcg (zZz C))]) - PhS (zSs C))) - (900 + 4 * (PhS (zSs C ++ [drw (zZz C)] ++ [drw (lcg (zZz C))]) - PhS (zSs C)))) from ?_)
      exact g_iret B E dX0_pack_17 (⟨2, C, f, w0, rfl, rfl, hw0, (Or.inr (Or.inr (⟨rfl, rfl, hx4⟩)))⟩)
  obtain ⟨i4, r4, E4, u0_4, rfl, rfl, hu0_4, hv_4, hr_4, hl24_4, hE_4⟩ := hp4
  refine (show Go g κ 7 [some (.ref x), some (.int v), some (.ref o), none] [.int (nI ((zKs C).length)), .int (nI 0), .ref o] [[(o, .inl (g.2.1 3, 1, .inr (.inl f)))], u0_4] 0 ((900 + 4 * (PhS (zSs C ++ [drw (zZz C)] ++ [drw (lcg (zZz C))]) - PhS (zSs C))) - (900 + 4 * (PhS (zSs C ++ [drw (zZz C)] ++ [drw (lcg (zZz C))]) - PhS (zSs C)))) from ?_)
  refine g_i2l (v := (nI ((zKs C).length)).toInt64) (q := 8) B dX0_pack_7 rfl rfl ?_
  refine g_last (q := 9) (L2 := [[(o, .inl (g.2.1 3, 1, .inr (.inl (vp_updL f 0 ((nI ((zKs C).length)).toInt64)))))], u0_4]) B (k := 0) dX0_pack_8 rfl rfl (vp_in_nI (by omega) (by omega)) (by rw [nI_clamp (by omega)] <;> rfl) ?_
  refine g_goto (tgt := 18) B dX0_pack_9 (by decide) ?_
  refine g_iconst (v := nI 0) (q := 19) B dX0_pack_18 rfl (by decide) ?_
  refine g_pk [1, 0] rfl rfl ?_
  refine (show Go g κ 19 [some (.ref x), some (.int v), some (.ref o), none] [.int (nI 0)] [u0_4, [(o, .inl (g.2.1 3, 1, .inr (.inl (vp_updL f 0 ((nI ((zKs C).length)).toInt64)))))]] 0 ((900 + 4 * (PhS (zSs C ++ [drw (zZz C)] ++ [drw (lcg (zZz C))]) - PhS (zSs C))) - (900 + 4 * (PhS (zSs C ++ [drw (zZz C)] ++ [drw (lcg (zZz C))]) - PhS (zSs C)))) from ?_)
  exact g_iret B E dX0_pack_19 (⟨0, (((zSs C ++ [drw (zZz C)] ++ [drw (lcg (zZz C))]), zBx C, lcg (lcg (zZz C)), (zPs C).set i4 ((pNo r4, E4, pPk r4 ++ [(zKs C).length], pEp r4, pLf r4, pNd r4, pOn r4, pKy r4, pCh r4, pRn r4) : PeS), zKs C ++ [((i4, (zSs C).length, (zSs C).length + 1, false, none, false) : PkS)], zRs C, zTs C, zSt C, zMs C, zSo C, zBn C) : KsS), vp_updL f 0 ((nI ((zKs C).length)).toInt64), u0_4, rfl, rfl, hu0_4, (Or.inl (⟨rfl, i4, r4, E4, rfl, rfl, hv_4, hr_4, hl24_4, hE_4⟩))⟩)
theorem moX1_create : Mo yX1_create 1 := by
  refine ⟨by decide, by decide, by decide +kernel⟩
theorem ct_X0_create (g : Gv) (J : Jd g) {x : Nat} {C : KsS} {v : Int32} {i : Nat} {q1 : List Sec} {on1 : Nat} {q2 : List Sec} {ky1 : Nat} {q3 : List Sec} {on2 : Nat} {q4 : List Sec} {ky2 : Nat} {TA : Nat} {o : Nat} {f : Nat → Int64} {w0 : va_W} (hw0 : KgP g x C w0) (hC : KsB C) (hvi : inR v (zPs C).length = true → v = nI i) (hi31 : i < 2 ^ 31) (hf1 : frm (zSs C ++ [drw (zZz C)] ++ [drw (lcg (zZz C))]) (((zSs C).length + 1), none, 5) = (q1, on1)) (hf2 : frm q1 (((zSs C).length + 1), none, 6) = (q2, ky1)) (hf3 : frm (chS ((0, fup (fun _ => none) 0 (some (zSs C).length), fun _ => 0, fup (fun _ => none) 0 (some i)) : TrS) ((zSs C).length + 1) q2 (2 ^ 0)).1 (((zSs C).length + 1), none, 5) = (q3, on2)) (hf4 : frm q3 (((zSs C).length + 1), none, 6) = (q4, ky2)) (hTA : PhS (chS ((0, fup (fun _ => none) 0 (some (zSs C).length), fun _ => 0, fup (fun _ => none) 0 (some i)) : TrS) ((zSs C).length + 1) q4 (2 ^ 0)).1 ≤ TA) : Ct g yX0_create (wsW_ yX0_create cX0_create 4 (some .int) [(0, 9, 12, 19), (0, 9, 15, 13)]) 16 (1500 + 13 * (TA - PhS (zSs C))) (14000 + 55 * (TA - PhS (zSs C))) [.ref x, .int v, .ref o] [w0, [(o, .inl (g.2.1 3, 1, .inr (.inl f)))]] (fun (rv_ : Option Value) (rL_ : List va_W) => ∃ (kx : Nat) (C9 : KsS) (f9 : Nat → Int64) (u0 : va_W), rv_ = some (.int (nI kx)) ∧ rL_ = [u0, [(o, .inl (g.2.1 3, 1, .inr (.inl f9)))]] ∧ KgP g x C9 u0 ∧ ((kx = 0 ∧ ∃ (r : PeS) (E : Nat → Bool), C9 = (((chS ((0, fup (fun _ => none) 0 (some (zSs C).length), fun _ => 0, fup (fun _ => none) 0 (some i)) : TrS) ((zSs C).length + 1) q4 (2 ^ 0)).1, zBx C, lcg (lcg (zZz C)), (zPs C).set i ((pNo r, E, pPk r, some 0, 0, drpF ((0, fup (fun _ => none) 0 (some (zSs C).length), fun _ => 0, fup (fun _ => none) 0 (some i)) : TrS) (fup (pNd r) 0 (some (zSs C).length)), on2, ky2, (chS ((0, fup (fun _ => none) 0 (some (zSs C).length), fun _ => 0, fup (fun _ => none) 0 (some i)) : TrS) ((zSs C).length + 1) q4 (2 ^ 0)).2, none) : PeS), zKs C, zRs C, zTs C ++ [((0, fup (fun _ => none) 0 (some (zSs C).length), fun _ => 0, fup (fun _ => none) 0 (some i)) : TrS)], zSt C ++ [((0, none, (zSs C).length + 1, fun _ => none, fun _ => none) : StS)], zMs C, zSo C, zBn C) : KsS) ∧ (f9 0 = (nI 0).toInt64) ∧ ((zPs C)[i]? = some r) ∧ (zTs C = []) ∧ (∀ y, E y = true ↔ pEv r y = true ∨ helP (zKs C) ((pNo r, pEv r, pPk r, some 0, 0, drpF ((0, fup (fun _ => none) 0 (some (zSs C).length), fun _ => 0, fup (fun _ => none) 0 (some i)) : TrS) (fup (pNd r) 0 (some (zSs C).length)), on2, ky2, (chS ((0, fup (fun _ => none) 0 (some (zSs C).length), fun _ => 0, fup (fun _ => none) 0 (some i)) : TrS) ((zSs C).length + 1) q4 (2 ^ 0)).2, none) : PeS) y)) ∨ (kx = 1 ∧ C9 = C ∧ (¬ inR v (zPs C).length = true)) ∨ (kx = 2 ∧ C9 = C ∧ (inR v (zPs C).length = true ∧ ¬ zTs C = [])))) noX := by
  refine Ct.ofW "KeygroveLaw" [some (.ref x), some (.int v), some (.ref o), none] rfl (by decide) rfl (Nat.le_of_ble_eq_true rfl) rfl ?_
  intro κ B E tb
  refine g_aload_n (q := 1) B dX0_create_0 rfl rfl (rv_r _) ?_
  refine g_iconst (v := nI 0) (q := 2) B dX0_create_1 rfl (by decide) ?_
  refine g_aload_n (q := 3) B dX0_create_2 rfl rfl (rv_r _) ?_
  refine g_iload_n (q := 4) B dX0_create_3 rfl rfl ?_
  refine g_callV (q := 7) (is := [0]) (kc2 := (1500 + 13 * (TA - PhS (zSs C))) - (1500 + 13 * (TA - PhS (zSs C)))) (ks2 := (14000 + 55 * (TA - PhS (zSs C))) - (14000 + 55 * (TA - PhS (zSs C)))) B [.int v] (ct_X1_create g J (x := x) (C := C) (v := v) (i := i) (q1 := q1) (on1 := on1) (q2 := q2) (ky1 := ky1) (q3 := q3) (on2 := on2) (q4 := q4) (ky2 := ky2) (TA := TA) hw0 (hC) (hvi) (hi31) (hf1) (hf2) (hf3) (hf4) (hTA)) dX0_create_4 rfl (rc_in B (ci := 0) rfl (k := 0) rfl (KgP.hm hw0)) rfl q2026 q2027 q2028 q77 q2029 rfl rfl moX1_create rfl rfl (by decide) (by decide) (Nat.le_of_ble_eq_true rfl) (by omega) (by omega) (fun E4 L1 hx4 => ?_) (fun v4 L1 hp4 => ?_)
  · skip
    obtain ⟨rfl, hx4⟩ := hx4
    rcases hx4 with ⟨rfl, hx4⟩ | ⟨rfl, hx4⟩
    · skip
      refine g_catch B tb (nm := "java/lang/IndexOutOfBoundsException") [] (⟨0, 9, 12, 19⟩ : ExceptionTableEntry) [(⟨0, 9, 15, 13⟩ : ExceptionTableEntry)] rfl (fun z hz => by cases hz) (by decide) (by decide) q1941 q341 (fun z4_0 => ?_)
      refine (show Go g κ 12 [some (.ref x), some (.int v), some (.ref o), none] [.ref z4_0] [[(o, .inl (g.2.1 3, 1, .inr (.inl f)))], w0] ((1500 + 13 * (TA - PhS (zSs C))) - (1500 + 13 * (TA - PhS (zSs C)))) ((14000 + 55 * (TA - PhS (zSs C))) - (14000 + 55 * (TA - PhS (zSs C)))) from ?_)
      refine g_astore_n (q := 13) (lv2 := [some (.ref x), some (.int v), some (.ref o), some (.ref z4_0)]) B dX0_create_12 rfl (Nat.le_of_ble_eq_true rfl) (rv_r _) rfl ?_
      refine g_iconst (v := nI 1) (q := 14) B dX0_create_13 rfl (by decide) ?_
      refine g_pk [1, 0] rfl rfl ?_
      refine (show Go g κ 14 [some (.ref x), some (.int v), some (.ref o), some (.ref z4_0)] [.int (nI 1)] [w0, [(o, .inl (g.2.1 3, 1, .inr (.inl f)))]] ((1500 + 13 * (TA - PhS (zSs C))) - (1500 + 13 * (TA - PhS (zSs C)))) ((14000 + 55 * (TA - PhS (zSs C))) - (14000 + 55 * (TA - PhS (zSs C)))) from ?_)
      exact g_iret B E dX0_create_14 (⟨1, C, f, w0, rfl, rfl, hw0, (Or.inr (Or.inl (⟨rfl, rfl, hx4⟩)))⟩)
    · skip
      refine g_catch B tb (nm := "java/lang/IllegalStateException") [(⟨0, 9, 12, 19⟩ : ExceptionTableEntry)] (⟨0, 9, 15, 13⟩ : ExceptionTableEntry) [] rfl (fun z hz => by simp only [List.mem_cons, List.not_mem_nil, or_false] at hz; rcases hz with rfl; exact Or.inr ⟨by decide, "java/lang/IndexOutOfBoundsException", q1941, nc_299⟩) (by decide) (by decide) q1834 q1844 (fun z4_1 => ?_)
      refine (show Go g κ 15 [some (.ref x), some (.int v), some (.ref o), none] [.ref z4_1] [[(o, .inl (g.2.1 3, 1, .inr (.inl f)))], w0] ((1500 + 13 * (TA - PhS (zSs C))) - (1500 + 13 * (TA - PhS (zSs C)))) ((14000 + 55 * (TA - PhS (zSs C))) - (14000 + 55 * (TA - PhS (zSs C)))) from ?_)
      refine g_astore_n (q := 16) (lv2 := [some (.ref x), some (.int v), some (.ref o), some (.ref z4_1)]) B dX0_create_15 rfl (Nat.le_of_ble_eq_true rfl) (rv_r _) rfl ?_
      refine g_iconst (v := nI 2) (q := 17) B dX0_create_16 rfl (by decide) ?_
      refine g_pk [1, 0] rfl rfl ?_
      refine (show Go g κ 17 [some (.ref x), some (.int v), some (.ref o), some (.ref z4_1)] [.int (nI 2)] [w0, [(o, .inl (g.2.1 3, 1, .inr (.inl f)))]] ((1500 + 13 * (TA - PhS (zSs C))) - (1500 + 13 * (TA - PhS (zSs C)))) ((14000 + 55 * (TA - PhS (zSs C))) - (14000 + 55 * (TA - PhS (zSs C)))) from ?_)
      exact g_iret B E dX0_create_17 (⟨2, C, f, w0, rfl, rfl, hw0, (Or.inr (Or.inr (⟨rfl, rfl, hx4⟩)))⟩)
  obtain ⟨r4, E4, u0_4, rfl, rfl, hu0_4, hr_4, htn_4, hE_4⟩ := hp4
  refine (show Go g κ 7 [some (.ref x), some (.int v), some (.ref o), none] [.int (nI 0), .int (nI 0), .ref o] [[(o, .inl (g.2.1 3, 1, .inr (.inl f)))], u0_4] ((1500 + 13 * (TA - PhS (zSs C))) - (1500 + 13 * (TA - PhS (zSs C)))) ((14000 + 55 * (TA - PhS (zSs C))) - (14000 + 55 * (TA - PhS (zSs C)))) from ?_)
  refine g_i2l (v := (nI 0).toInt64) (q := 8) B dX0_create_7 rfl rfl ?_
  refine g_last (q := 9) (L2 := [[(o, .inl (g.2.1 3, 1, .inr (.inl (vp_updL f 0 ((nI 0).toInt64)))))], u0_4]) B (k := 0) dX0_create_8 rfl rfl (vp_in_nI (by omega) (by omega)) (by rw [nI_clamp (by omega)] <;> rfl) ?_
  refine g_goto (tgt := 18) B dX0_create_9 (by decide) ?_
  refine g_iconst (v := nI 0) (q := 19) B dX0_create_18 rfl (by decide) ?_
  refine g_pk [1, 0] rfl rfl ?_
  refine (show Go g κ 19 [some (.ref x), some (.int v), some (.ref o), none] [.int (nI 0)] [u0_4, [(o, .inl (g.2.1 3, 1, .inr (.inl (vp_updL f 0 ((nI 0).toInt64)))))]] ((1500 + 13 * (TA - PhS (zSs C))) - (1500 + 13 * (TA - PhS (zSs C)))) ((14000 + 55 * (TA - PhS (zSs C))) - (14000 + 55 * (TA - PhS (zSs C)))) from ?_)
  exact g_iret B E dX0_create_19 (⟨0, (((chS ((0, fup (fun _ => none) 0 (some (zSs C).length), fun _ => 0, fup (fun _ => none) 0 (some i)) : TrS) ((zSs C).length + 1) q4 (2 ^ 0)).1, zBx C, lcg (lcg (zZz C)), (zPs C).set i ((pNo r4, E4, pPk r4, some 0, 0, drpF ((0, fup (fun _ => none) 0 (some (zSs C).length), fun _ => 0, fup (fun _ => none) 0 (some i)) : TrS) (fup (pNd r4) 0 (some (zSs C).length)), on2, ky2, (chS ((0, fup (fun _ => none) 0 (some (zSs C).length), fun _ => 0, fup (fun _ => none) 0 (some i)) : TrS) ((zSs C).length + 1) q4 (2 ^ 0)).2, none) : PeS), zKs C, zRs C, zTs C ++ [((0, fup (fun _ => none) 0 (some (zSs C).length), fun _ => 0, fup (fun _ => none) 0 (some i)) : TrS)], zSt C ++ [((0, none, (zSs C).length + 1, fun _ => none, fun _ => none) : StS)], zMs C, zSo C, zBn C) : KsS), vp_updL f 0 ((nI 0).toInt64), u0_4, rfl, rfl, hu0_4, (Or.inl (⟨rfl, r4, E4, rfl, rfl, hr_4, htn_4, hE_4⟩))⟩)
theorem moX1_epoch : Mo yX1_epoch 0 := by
  refine ⟨by decide, by decide, by decide +kernel⟩
theorem ct_X0_epoch (g : Gv) (J : Jd g) {x : Nat} {C : KsS} {o : Nat} {f : Nat → Int64} {w0 : va_W} (hw0 : KgP g x C w0) (hC : KsB C) : Ct g yX0_epoch (wsW_ yX0_epoch cX0_epoch 3 (some .int) [(0, 8, 11, 27)]) 11 1 6 [.ref x, .ref o] [w0, [(o, .inl (g.2.1 3, 1, .inr (.inl f)))]] (fun (rv_ : Option Value) (rL_ : List va_W) => ∃ (kx : Nat) (C9 : KsS) (f9 : Nat → Int64) (u0 : va_W), rv_ = some (.int (nI kx)) ∧ rL_ = [u0, [(o, .inl (g.2.1 3, 1, .inr (.inl f9)))]] ∧ KgP g x C9 u0 ∧ ((kx = 0 ∧ C9 = C ∧ (f9 0 = (nI (zTs C).length - nI 1).toInt64) ∧ (zTs C ≠ [])) ∨ (kx = 1 ∧ C9 = C ∧ (¬ zTs C ≠ [])))) noX := by
  refine Ct.ofW "KeygroveLaw" [some (.ref x), some (.ref o), none] rfl (by decide) rfl (Nat.le_of_ble_eq_true rfl) rfl ?_
  intro κ B E tb
  refine g_aload_n (q := 1) B dX0_epoch_0 rfl rfl (rv_r _) ?_
  refine g_iconst (v := nI 0) (q := 2) B dX0_epoch_1 rfl (by decide) ?_
  refine g_aload_n (q := 3) B dX0_epoch_2 rfl rfl (rv_r _) ?_
  refine g_callV (q := 6) (is := [0]) (kc2 := 0) (ks2 := 0) B [] (ct_X1_epoch g J (x := x) (C := C) hw0 (hC)) dX0_epoch_3 rfl (rc_in B (ci := 0) rfl (k := 0) rfl (KgP.hm hw0)) rfl q2323 q2324 q2325 q77 q2326 rfl rfl moX1_epoch rfl rfl (by decide) (by decide) (Nat.le_of_ble_eq_true rfl) (Nat.le_of_ble_eq_true rfl) (Nat.le_of_ble_eq_true rfl) (fun E3 L1 hx3 => ?_) (fun v3 L1 hp3 => ?_)
  · skip
    obtain ⟨rfl, hx3⟩ := hx3
    obtain ⟨rfl, hx3⟩ := hx3
    refine g_catch B tb (nm := "java/lang/UnsupportedOperationException") [] (⟨0, 8, 11, 27⟩ : ExceptionTableEntry) [] rfl (fun z hz => by cases hz) (by decide) (by decide) q2322 q2336 (fun z3_0 => ?_)
    refine (show Go g κ 11 [some (.ref x), some (.ref o), none] [.ref z3_0] [[(o, .inl (g.2.1 3, 1, .inr (.inl f)))], w0] 0 0 from ?_)
    refine g_astore_n (q := 12) (lv2 := [some (.ref x), some (.ref o), some (.ref z3_0)]) B dX0_epoch_11 rfl (Nat.le_of_ble_eq_true rfl) (rv_r _) rfl ?_
    refine g_iconst (v := nI 1) (q := 13) B dX0_epoch_12 rfl (by decide) ?_
    refine g_pk [1, 0] rfl rfl ?_
    refine (show Go g κ 13 [some (.ref x), some (.ref o), some (.ref z3_0)] [.int (nI 1)] [w0, [(o, .inl (g.2.1 3, 1, .inr (.inl f)))]] 0 0 from ?_)
    exact g_iret B E dX0_epoch_13 (⟨1, C, f, w0, rfl, rfl, hw0, (Or.inr (⟨rfl, rfl, hx3⟩))⟩)
  obtain ⟨u0_3, rfl, rfl, hu0_3, hne_3⟩ := hp3
  refine (show Go g κ 6 [some (.ref x), some (.ref o), none] [.int (nI (zTs C).length - nI 1), .int (nI 0), .ref o] [[(o, .inl (g.2.1 3, 1, .inr (.inl f)))], u0_3] 0 0 from ?_)
  refine g_i2l (v := (nI (zTs C).length - nI 1).toInt64) (q := 7) B dX0_epoch_6 rfl rfl ?_
  refine g_last (q := 8) (L2 := [[(o, .inl (g.2.1 3, 1, .inr (.inl (vp_updL f 0 ((nI (zTs C).length - nI 1).toInt64)))))], u0_3]) B (k := 0) dX0_epoch_7 rfl rfl (vp_in_nI (by omega) (by omega)) (by rw [nI_clamp (by omega)] <;> rfl) ?_
  refine g_goto (tgt := 14) B dX0_epoch_8 (by decide) ?_
  refine g_iconst (v := nI 0) (q := 15) B dX0_epoch_14 rfl (by decide) ?_
  refine g_pk [1, 0] rfl rfl ?_
  refine (show Go g κ 15 [some (.ref x), some (.ref o), none] [.int (nI 0)] [u0_3, [(o, .inl (g.2.1 3, 1, .inr (.inl (vp_updL f 0 ((nI (zTs C).length - nI 1).toInt64)))))]] 0 0 from ?_)
  exact g_iret B E dX0_epoch_15 (⟨0, C, vp_updL f 0 ((nI (zTs C).length - nI 1).toInt64), u0_3, rfl, rfl, hu0_3, (Or.inl (⟨rfl, rfl, rfl, hne_3⟩))⟩)
theorem moX1_epochOf : Mo yX1_epochOf 1 := by
  refine ⟨by decide, by decide, by decide +kernel⟩
theorem nc_306 : Cond.not (.castable "java/util/NoSuchElementException" "java/lang/IndexOutOfBoundsException") ∈ gNc := List.mem_of_getElem? (i := 306) (by decide +kernel)
theorem ct_X0_epochOf (g : Gv) (J : Jd g) {x : Nat} {C : KsS} {v : Int32} {o : Nat} {f : Nat → Int64} {w0 : va_W} (hw0 : KgP g x C w0) (hC : KsB C) : Ct g yX0_epochOf (wsW_ yX0_epochOf cX0_epochOf 4 (some .int) [(0, 9, 12, 19), (0, 9, 15, 32)]) 11 10 60 [.ref x, .int v, .ref o] [w0, [(o, .inl (g.2.1 3, 1, .inr (.inl f)))]] (fun (rv_ : Option Value) (rL_ : List va_W) => ∃ (kx : Nat) (C9 : KsS) (f9 : Nat → Int64) (u0 : va_W), rv_ = some (.int (nI kx)) ∧ rL_ = [u0, [(o, .inl (g.2.1 3, 1, .inr (.inl f9)))]] ∧ KgP g x C9 u0 ∧ ((kx = 0 ∧ ∃ (i : Nat) (r : PeS), C9 = C ∧ (f9 0 = (oI (pEp r)).toInt64) ∧ (v = nI i) ∧ ((zPs C)[i]? = some r) ∧ (¬ pEp r = none)) ∨ (kx = 1 ∧ C9 = C ∧ (¬ inR v (zPs C).length = true)) ∨ (kx = 2 ∧ C9 = C ∧ (∃ (i : Nat) (r : PeS), v = nI i ∧ (zPs C)[i]? = some r ∧ pEp r = none)))) noX := by
  refine Ct.ofW "KeygroveLaw" [some (.ref x), some (.int v), some (.ref o), none] rfl (by decide) rfl (Nat.le_of_ble_eq_true rfl) rfl ?_
  intro κ B E tb
  refine g_aload_n (q := 1) B dX0_epochOf_0 rfl rfl (rv_r _) ?_
  refine g_iconst (v := nI 0) (q := 2) B dX0_epochOf_1 rfl (by decide) ?_
  refine g_aload_n (q := 3) B dX0_epochOf_2 rfl rfl (rv_r _) ?_
  refine g_iload_n (q := 4) B dX0_epochOf_3 rfl rfl ?_
  refine g_callV (q := 7) (is := [0]) (kc2 := 0) (ks2 := 0) B [.int v] (ct_X1_epochOf g J (x := x) (C := C) (v := v) hw0 (hC)) dX0_epochOf_4 rfl (rc_in B (ci := 0) rfl (k := 0) rfl (KgP.hm hw0)) rfl q2353 q2354 q2355 q77 q2356 rfl rfl moX1_epochOf rfl rfl (by decide) (by decide) (Nat.le_of_ble_eq_true rfl) (Nat.le_of_ble_eq_true rfl) (Nat.le_of_ble_eq_true rfl) (fun E4 L1 hx4 => ?_) (fun v4 L1 hp4 => ?_)
  · skip
    obtain ⟨rfl, hx4⟩ := hx4
    rcases hx4 with ⟨rfl, hx4⟩ | ⟨rfl, hx4⟩
    · skip
      refine g_catch B tb (nm := "java/lang/IndexOutOfBoundsException") [] (⟨0, 9, 12, 19⟩ : ExceptionTableEntry) [(⟨0, 9, 15, 32⟩ : ExceptionTableEntry)] rfl (fun z hz => by cases hz) (by decide) (by decide) q1941 q341 (fun z4_0 => ?_)
      refine (show Go g κ 12 [some (.ref x), some (.int v), some (.ref o), none] [.ref z4_0] [[(o, .inl (g.2.1 3, 1, .inr (.inl f)))], w0] 0 0 from ?_)
      refine g_astore_n (q := 13) (lv2 := [some (.ref x), some (.int v), some (.ref o), some (.ref z4_0)]) B dX0_epochOf_12 rfl (Nat.le_of_ble_eq_true rfl) (rv_r _) rfl ?_
      refine g_iconst (v := nI 1) (q := 14) B dX0_epochOf_13 rfl (by decide) ?_
      refine g_pk [1, 0] rfl rfl ?_
      refine (show Go g κ 14 [some (.ref x), some (.int v), some (.ref o), some (.ref z4_0)] [.int (nI 1)] [w0, [(o, .inl (g.2.1 3, 1, .inr (.inl f)))]] 0 0 from ?_)
      exact g_iret B E dX0_epochOf_14 (⟨1, C, f, w0, rfl, rfl, hw0, (Or.inr (Or.inl (⟨rfl, rfl, hx4⟩)))⟩)
    · skip
      refine g_catch B tb (nm := "java/util/NoSuchElementException") [(⟨0, 9, 12, 19⟩ : ExceptionTableEntry)] (⟨0, 9, 15, 32⟩ : ExceptionTableEntry) [] rfl (fun z hz => by simp only [List.mem_cons, List.not_mem_nil, or_false] at hz; rcases hz with rfl; exact Or.inr ⟨by decide, "java/lang/IndexOutOfBoundsException", q1941, nc_306⟩) (by decide) (by decide) q2352 q978 (fun z4_1 => ?_)
      refine (show Go g κ 15 [some (.ref x), some (.int v), some (.ref o), none] [.ref z4_1] [[(o, .inl (g.2.1 3, 1, .inr (.inl f)))], w0] 0 0 from ?_)
      refine g_astore_n (q := 16) (lv2 := [some (.ref x), some (.int v), some (.ref o), some (.ref z4_1)]) B dX0_epochOf_15 rfl (Nat.le_of_ble_eq_true rfl) (rv_r _) rfl ?_
      refine g_iconst (v := nI 2) (q := 17) B dX0_epochOf_16 rfl (by decide) ?_
      refine g_pk [1, 0] rfl rfl ?_
      refine (show Go g κ 17 [some (.ref x), some (.int v), some (.ref o), some (.ref z4_1)] [.int (nI 2)] [w0, [(o, .inl (g.2.1 3, 1, .inr (.inl f)))]] 0 0 from ?_)
      exact g_iret B E dX0_epochOf_17 (⟨2, C, f, w0, rfl, rfl, hw0, (Or.inr (Or.inr (⟨rfl, rfl, hx4⟩)))⟩)
  obtain ⟨i4, r4, u0_4, rfl, rfl, hu0_4, hv_4, hr_4, hin_4⟩ := hp4
  refine (show Go g κ 7 [some (.ref x), some (.int v), some (.ref o), none] [.int (oI (pEp r4)), .int (nI 0), .ref o] [[(o, .inl (g.2.1 3, 1, .inr (.inl f)))], u0_4] 0 0 from ?_)
  refine g_i2l (v := (oI (pEp r4)).toInt64) (q := 8) B dX0_epochOf_7 rfl rfl ?_
  refine g_last (q := 9) (L2 := [[(o, .inl (g.2.1 3, 1, .inr (.inl (vp_updL f 0 ((oI (pEp r4)).toInt64)))))], u0_4]) B (k := 0) dX0_epochOf_8 rfl rfl (vp_in_nI (by omega) (by omega)) (by rw [nI_clamp (by omega)] <;> rfl) ?_
  refine g_goto (tgt := 18) B dX0_epochOf_9 (by decide) ?_
  refine g_iconst (v := nI 0) (q := 19) B dX0_epochOf_18 rfl (by decide) ?_
  refine g_pk [1, 0] rfl rfl ?_
  refine (show Go g κ 19 [some (.ref x), some (.int v), some (.ref o), none] [.int (nI 0)] [u0_4, [(o, .inl (g.2.1 3, 1, .inr (.inl (vp_updL f 0 ((oI (pEp r4)).toInt64)))))]] 0 0 from ?_)
  exact g_iret B E dX0_epochOf_19 (⟨0, C, vp_updL f 0 ((oI (pEp r4)).toInt64), u0_4, rfl, rfl, hu0_4, (Or.inl (⟨rfl, i4, r4, rfl, rfl, hv_4, hr_4, hin_4⟩))⟩)
theorem moX1_leafOf : Mo yX1_leafOf 1 := by
  refine ⟨by decide, by decide, by decide +kernel⟩
theorem ct_X0_leafOf (g : Gv) (J : Jd g) {x : Nat} {C : KsS} {v : Int32} {o : Nat} {f : Nat → Int64} {w0 : va_W} (hw0 : KgP g x C w0) (hC : KsB C) : Ct g yX0_leafOf (wsW_ yX0_leafOf cX0_leafOf 4 (some .int) [(0, 9, 12, 19), (0, 9, 15, 32)]) 11 10 60 [.ref x, .int v, .ref o] [w0, [(o, .inl (g.2.1 3, 1, .inr (.inl f)))]] (fun (rv_ : Option Value) (rL_ : List va_W) => ∃ (kx : Nat) (C9 : KsS) (f9 : Nat → Int64) (u0 : va_W), rv_ = some (.int (nI kx)) ∧ rL_ = [u0, [(o, .inl (g.2.1 3, 1, .inr (.inl f9)))]] ∧ KgP g x C9 u0 ∧ ((kx = 0 ∧ ∃ (i : Nat) (r : PeS), C9 = C ∧ (f9 0 = (nI (pLf r)).toInt64) ∧ (v = nI i) ∧ ((zPs C)[i]? = some r) ∧ (¬ pEp r = none)) ∨ (kx = 1 ∧ C9 = C ∧ (¬ inR v (zPs C).length = true)) ∨ (kx = 2 ∧ C9 = C ∧ (∃ (i : Nat) (r : PeS), v = nI i ∧ (zPs C)[i]? = some r ∧ pEp r = none)))) noX := by
  refine Ct.ofW "KeygroveLaw" [some (.ref x), some (.int v), some (.ref o), none] rfl (by decide) rfl (Nat.le_of_ble_eq_true rfl) rfl ?_
  intro κ B E tb
  refine g_aload_n (q := 1) B dX0_leafOf_0 rfl rfl (rv_r _) ?_
  refine g_iconst (v := nI 0) (q := 2) B dX0_leafOf_1 rfl (by decide) ?_
  refine g_aload_n (q := 3) B dX0_leafOf_2 rfl rfl (rv_r _) ?_
  refine g_iload_n (q := 4) B dX0_leafOf_3 rfl rfl ?_
  refine g_callV (q := 7) (is := [0]) (kc2 := 0) (ks2 := 0) B [.int v] (ct_X1_leafOf g J (x := x) (C := C) (v := v) hw0 (hC)) dX0_leafOf_4 rfl (rc_in B (ci := 0) rfl (k := 0) rfl (KgP.hm hw0)) rfl q2365 q2366 q2367 q77 q2368 rfl rfl moX1_leafOf rfl rfl (by decide) (by decide) (Nat.le_of_ble_eq_true rfl) (Nat.le_of_ble_eq_true rfl) (Nat.le_of_ble_eq_true rfl) (fun E4 L1 hx4 => ?_) (fun v4 L1 hp4 => ?_)
  · skip
    obtain ⟨rfl, hx4⟩ := hx4
    rcases hx4 with ⟨rfl, hx4⟩ | ⟨rfl, hx4⟩
    · skip
      refine g_catch B tb (nm := "java/lang/IndexOutOfBoundsException") [] (⟨0, 9, 12, 19⟩ : ExceptionTableEntry) [(⟨0, 9, 15, 32⟩ : ExceptionTableEntry)] rfl (fun z hz => by cases hz) (by decide) (by decide) q1941 q341 (fun z4_0 => ?_)
      refine (show Go g κ 12 [some (.ref x), some (.int v), some (.ref o), none] [.ref z4_0] [[(o, .inl (g.2.1 3, 1, .inr (.inl f)))], w0] 0 0 from ?_)
      refine g_astore_n (q := 13) (lv2 := [some (.ref x), some (.int v), some (.ref o), some (.ref z4_0)]) B dX0_leafOf_12 rfl (Nat.le_of_ble_eq_true rfl) (rv_r _) rfl ?_
      refine g_iconst (v := nI 1) (q := 14) B dX0_leafOf_13 rfl (by decide) ?_
      refine g_pk [1, 0] rfl rfl ?_
      refine (show Go g κ 14 [some (.ref x), some (.int v), some (.ref o), some (.ref z4_0)] [.int (nI 1)] [w0, [(o, .inl (g.2.1 3, 1, .inr (.inl f)))]] 0 0 from ?_)
      exact g_iret B E dX0_leafOf_14 (⟨1, C, f, w0, rfl, rfl, hw0, (Or.inr (Or.inl (⟨rfl, rfl, hx4⟩)))⟩)
    · skip
      refine g_catch B tb (nm := "java/util/NoSuchElementException") [(⟨0, 9, 12, 19⟩ : ExceptionTableEntry)] (⟨0, 9, 15, 32⟩ : ExceptionTableEntry) [] rfl (fun z hz => by simp only [List.mem_cons, List.not_mem_nil, or_false] at hz; rcases hz with rfl; exact Or.inr ⟨by decide, "java/lang/IndexOutOfBoundsException", q1941, nc_306⟩) (by decide) (by decide) q2352 q978 (fun z4_1 => ?_)
      refine (show Go g κ 15 [some (.ref x), some (.int v), some (.ref o), none] [.ref z4_1] [[(o, .inl (g.2.1 3, 1, .inr (.inl f)))], w0] 0 0 from ?_)
      refine g_astore_n (q := 16) (lv2 := [some (.ref x), some (.int v), some (.ref o), some (.ref z4_1)]) B dX0_leafOf_15 rfl (Nat.le_of_ble_eq_true rfl) (rv_r _) rfl ?_
      refine g_iconst (v := nI 2) (q := 17) B dX0_leafOf_16 rfl (by decide) ?_
      refine g_pk [1, 0] rfl rfl ?_
      refine (show Go g κ 17 [some (.ref x), some (.int v), some (.ref o), some (.ref z4_1)] [.int (nI 2)] [w0, [(o, .inl (g.2.1 3, 1, .inr (.inl f)))]] 0 0 from ?_)
      exact g_iret B E dX0_leafOf_17 (⟨2, C, f, w0, rfl, rfl, hw0, (Or.inr (Or.inr (⟨rfl, rfl, hx4⟩)))⟩)
  obtain ⟨i4, r4, u0_4, rfl, rfl, hu0_4, hv_4, hr_4, hin_4⟩ := hp4
  refine (show Go g κ 7 [some (.ref x), some (.int v), some (.ref o), none] [.int (nI (pLf r4)), .int (nI 0), .ref o] [[(o, .inl (g.2.1 3, 1, .inr (.inl f)))], u0_4] 0 0 from ?_)
  refine g_i2l (v := (nI (pLf r4)).toInt64) (q := 8) B dX0_leafOf_7 rfl rfl ?_
  refine g_last (q := 9) (L2 := [[(o, .inl (g.2.1 3, 1, .inr (.inl (vp_updL f 0 ((nI (pLf r4)).toInt64)))))], u0_4]) B (k := 0) dX0_leafOf_8 rfl rfl (vp_in_nI (by omega) (by omega)) (by rw [nI_clamp (by omega)] <;> rfl) ?_
  refine g_goto (tgt := 18) B dX0_leafOf_9 (by decide) ?_
  refine g_iconst (v := nI 0) (q := 19) B dX0_leafOf_18 rfl (by decide) ?_
  refine g_pk [1, 0] rfl rfl ?_
  refine (show Go g κ 19 [some (.ref x), some (.int v), some (.ref o), none] [.int (nI 0)] [u0_4, [(o, .inl (g.2.1 3, 1, .inr (.inl (vp_updL f 0 ((nI (pLf r4)).toInt64)))))]] 0 0 from ?_)
  exact g_iret B E dX0_leafOf_19 (⟨0, C, vp_updL f 0 ((nI (pLf r4)).toInt64), u0_4, rfl, rfl, hu0_4, (Or.inl (⟨rfl, i4, r4, rfl, rfl, hv_4, hr_4, hin_4⟩))⟩)
theorem moX1_isMember : Mo yX1_isMember 2 := by
  refine ⟨by decide, by decide, by decide +kernel⟩
theorem ct_X0_isMember (g : Gv) (J : Jd g) {x : Nat} {C : KsS} {v : Int32} {u : Int32} {o : Nat} {f : Nat → Int64} {w0 : va_W} (hw0 : KgP g x C w0) (hC : KsB C) : Ct g yX0_isMember (wsW_ yX0_isMember cX0_isMember 5 (some .int) [(0, 17, 20, 19)]) 11 10 60 [.ref x, .int v, .int u, .ref o] [w0, [(o, .inl (g.2.1 3, 1, .inr (.inl f)))]] (fun (rv_ : Option Value) (rL_ : List va_W) => ∃ (kx : Nat) (C9 : KsS) (f9 : Nat → Int64) (u0 : va_W), rv_ = some (.int (nI kx)) ∧ rL_ = [u0, [(o, .inl (g.2.1 3, 1, .inr (.inl f9)))]] ∧ KgP g x C9 u0 ∧ ((kx = 0 ∧ ∃ (i : Nat) (r : PeS) (j : Nat) (T : TrS), C9 = C ∧ (((¬ lof T (pNo r) = none) → f9 0 = 1) ∧ (¬ (¬ lof T (pNo r) = none) → f9 0 = 0)) ∧ (v = nI i) ∧ ((zPs C)[i]? = some r) ∧ (u = nI j) ∧ ((zTs C)[j]? = some T)) ∨ (kx = 1 ∧ C9 = C ∧ (¬ (inR v (zPs C).length = true ∧ inR u (zTs C).length = true))))) noX := by
  refine Ct.ofW "KeygroveLaw" [some (.ref x), some (.int v), some (.int u), some (.ref o), none] rfl (by decide) rfl (Nat.le_of_ble_eq_true rfl) rfl ?_
  intro κ B E tb
  refine g_aload_n (q := 1) B dX0_isMember_0 rfl rfl (rv_r _) ?_
  refine g_iconst (v := nI 0) (q := 2) B dX0_isMember_1 rfl (by decide) ?_
  refine g_aload_n (q := 3) B dX0_isMember_2 rfl rfl (rv_r _) ?_
  refine g_iload_n (q := 4) B dX0_isMember_3 rfl rfl ?_
  refine g_iload_n (q := 5) B dX0_isMember_4 rfl rfl ?_
  refine g_callV (q := 8) (is := [0]) (kc2 := 0) (ks2 := 0) B [.int v, .int u] (ct_X1_isMember g J (x := x) (C := C) (v := v) (u := u) hw0 (hC)) dX0_isMember_5 rfl (rc_in B (ci := 0) rfl (k := 0) rfl (KgP.hm hw0)) rfl q2372 q2373 q2374 q77 q2375 rfl rfl moX1_isMember rfl rfl (by decide) (by decide) (Nat.le_of_ble_eq_true rfl) (Nat.le_of_ble_eq_true rfl) (Nat.le_of_ble_eq_true rfl) (fun E5 L1 hx5 => ?_) (fun v5 L1 hp5 => ?_)
  · skip
    obtain ⟨rfl, hx5⟩ := hx5
    obtain ⟨rfl, hx5⟩ := hx5
    refine g_catch B tb (nm := "java/lang/IndexOutOfBoundsException") [] (⟨0, 17, 20, 19⟩ : ExceptionTableEntry) [] rfl (fun z hz => by cases hz) (by decide) (by decide) q1941 q341 (fun z5_0 => ?_)
    refine (show Go g κ 20 [some (.ref x), some (.int v), some (.int u), some (.ref o), none] [.ref z5_0] [[(o, .inl (g.2.1 3, 1, .inr (.inl f)))], w0] 0 0 from ?_)
    refine g_astore (q := 22) (lv2 := [some (.ref x), some (.int v), some (.int u), some (.ref o), some (.ref z5_0)]) B dX0_isMember_20 rfl (Nat.le_of_ble_eq_true rfl) (rv_r _) rfl ?_
    refine g_iconst (v := nI 1) (q := 23) B dX0_isMember_22 rfl (by decide) ?_
    refine g_pk [1, 0] rfl rfl ?_
    refine (show Go g κ 23 [some (.ref x), some (.int v), some (.int u), some (.ref o), some (.ref z5_0)] [.int (nI 1)] [w0, [(o, .inl (g.2.1 3, 1, .inr (.inl f)))]] 0 0 from ?_)
    exact g_iret B E dX0_isMember_23 (⟨1, C, f, w0, rfl, rfl, hw0, (Or.inr (⟨rfl, rfl, hx5⟩))⟩)
  obtain ⟨i5, r5, j5, T5, u0_5, rfl, rfl, hu0_5, hv_5, hr_5, hu_5, hT_5⟩ := hp5
  refine (show Go g κ 8 [some (.ref x), some (.int v), some (.int u), some (.ref o), none] [.int (nI (if ¬ lof T5 (pNo r5) = none then 1 else 0)), .int (nI 0), .ref o] [[(o, .inl (g.2.1 3, 1, .inr (.inl f)))], u0_5] 0 0 from ?_)
  refine g_if_eq (tgt := 15) (q := 11) B dX0_isMember_8 rfl (by decide) (bo_eq) (fun c8 => ?_) (fun c8 => ?_)
  · skip
    refine g_lconst (v := 0) (q := 16) B dX0_isMember_15 rfl (by decide) ?_
    refine g_last (q := 17) (L2 := [[(o, .inl (g.2.1 3, 1, .inr (.inl (vp_updL f 0 0))))], u0_5]) B (k := 0) dX0_isMember_16 rfl rfl (vp_in_nI (by omega) (by omega)) (by rw [nI_clamp (by omega)] <;> rfl) ?_
    refine g_goto (tgt := 24) B dX0_isMember_17 (by decide) ?_
    refine g_iconst (v := nI 0) (q := 25) B dX0_isMember_24 rfl (by decide) ?_
    refine g_pk [1, 0] rfl rfl ?_
    refine (show Go g κ 25 [some (.ref x), some (.int v), some (.int u), some (.ref o), none] [.int (nI 0)] [u0_5, [(o, .inl (g.2.1 3, 1, .inr (.inl (vp_updL f 0 0))))]] 0 0 from ?_)
    exact g_iret B E dX0_isMember_25 (⟨0, C, vp_updL f 0 0, u0_5, rfl, rfl, hu0_5, (Or.inl (⟨rfl, i5, r5, j5, T5, rfl, ⟨fun z => absurd z c8, fun _ => rfl⟩, hv_5, hr_5, hu_5, hT_5⟩))⟩)
  · skip
    have c8 := Classical.not_not.mp c8
    refine g_lconst (v := 1) (q := 12) B dX0_isMember_11 rfl (by decide) ?_
    refine g_goto (tgt := 16) B dX0_isMember_12 (by decide) ?_
    refine g_last (q := 17) (L2 := [[(o, .inl (g.2.1 3, 1, .inr (.inl (vp_updL f 0 1))))], u0_5]) B (k := 0) dX0_isMember_16 rfl rfl (vp_in_nI (by omega) (by omega)) (by rw [nI_clamp (by omega)] <;> rfl) ?_
    refine g_goto (tgt := 24) B dX0_isMember_17 (by decide) ?_
    refine g_iconst (v := nI 0) (q := 25) B dX0_isMember_24 rfl (by decide) ?_
    refine g_pk [1, 0] rfl rfl ?_
    refine (show Go g κ 25 [some (.ref x), some (.int v), some (.int u), some (.ref o), none] [.int (nI 0)] [u0_5, [(o, .inl (g.2.1 3, 1, .inr (.inl (vp_updL f 0 1))))]] 0 0 from ?_)
    exact g_iret B E dX0_isMember_25 (⟨0, C, vp_updL f 0 1, u0_5, rfl, rfl, hu0_5, (Or.inl (⟨rfl, i5, r5, j5, T5, rfl, ⟨fun _ => rfl, fun z => absurd c8 z⟩, hv_5, hr_5, hu_5, hT_5⟩))⟩)
theorem moX1_add : Mo yX1_add 2 := by
  refine ⟨by decide, by decide, by decide +kernel⟩
theorem nc_325 : Cond.not (.castable "java/lang/UnsupportedOperationException" "java/lang/IndexOutOfBoundsException") ∈ gNc := List.mem_of_getElem? (i := 325) (by decide +kernel)
theorem nc_347 : Cond.not (.castable "java/lang/IllegalStateException" "java/lang/UnsupportedOperationException") ∈ gNc := List.mem_of_getElem? (i := 347) (by decide +kernel)
theorem ct_X0_add (g : Gv) (J : Jd g) {x : Nat} {C : KsS} {T : TrS} {v : Int32} {u : Int32} {o : Nat} {f : Nat → Int64} {w0 : va_W} (hw0 : KgP g x C w0) (hC : KsB C) (hT : zTs C ≠ [] → (zTs C)[(zTs C).length - 1]? = some T) (hkp : ∀ q ∈ zKs C, q.1 < (zPs C).length) : Ct g yX0_add (wsW_ yX0_add cX0_add 5 (some .int) [(0, 10, 13, 19), (0, 10, 17, 27), (0, 10, 21, 13)]) 11 20 200 [.ref x, .int v, .int u, .ref o] [w0, [(o, .inl (g.2.1 3, 1, .inr (.inl f)))]] (fun (rv_ : Option Value) (rL_ : List va_W) => ∃ (kx : Nat) (C9 : KsS) (f9 : Nat → Int64) (u0 : va_W), rv_ = some (.int (nI kx)) ∧ rL_ = [u0, [(o, .inl (g.2.1 3, 1, .inr (.inl f9)))]] ∧ KgP g x C9 u0 ∧ ((kx = 0 ∧ ∃ (i : Nat) (r : PeS) (j : Nat) (q : PkS) (r2 : PeS), C9 = ((zSs C, zBx C, zZz C, zPs C, zKs C, (zRs C ++ [(0, j, 0)]), zTs C, zSt C, zMs C, zSo C, zBn C) : KsS) ∧ (f9 0 = (nI ((zRs C).length + 1)).toInt64) ∧ (v = nI i) ∧ ((zPs C)[i]? = some r) ∧ (u = nI j) ∧ ((zKs C)[j]? = some q) ∧ ((zPs C)[q.1]? = some r2) ∧ (adCan C T r q r2) ∧ ((zRs C).length < 8)) ∨ (kx = 1 ∧ C9 = C ∧ (¬ (inR v (zPs C).length = true ∧ inR u (zKs C).length = true))) ∨ (kx = 2 ∧ C9 = C ∧ (∃ (i : Nat) (r : PeS) (j : Nat) (q : PkS) (r2 : PeS), v = nI i ∧ (zPs C)[i]? = some r ∧ u = nI j ∧ (zKs C)[j]? = some q ∧ (zPs C)[q.1]? = some r2 ∧ ¬ adCan C T r q r2)) ∨ (kx = 3 ∧ C9 = C ∧ (∃ (i : Nat) (r : PeS) (j : Nat) (q : PkS) (r2 : PeS), v = nI i ∧ (zPs C)[i]? = some r ∧ u = nI j ∧ (zKs C)[j]? = some q ∧ (zPs C)[q.1]? = some r2 ∧ adCan C T r q r2 ∧ ¬ (zRs C).length < 8)))) noX := by
  refine Ct.ofW "KeygroveLaw" [some (.ref x), some (.int v), some (.int u), some (.ref o), none] rfl (by decide) rfl (Nat.le_of_ble_eq_true rfl) rfl ?_
  intro κ B E tb
  refine g_aload_n (q := 1) B dX0_add_0 rfl rfl (rv_r _) ?_
  refine g_iconst (v := nI 0) (q := 2) B dX0_add_1 rfl (by decide) ?_
  refine g_aload_n (q := 3) B dX0_add_2 rfl rfl (rv_r _) ?_
  refine g_iload_n (q := 4) B dX0_add_3 rfl rfl ?_
  refine g_iload_n (q := 5) B dX0_add_4 rfl rfl ?_
  refine g_callV (q := 8) (is := [0]) (kc2 := 0) (ks2 := 0) B [.int v, .int u] (ct_X1_add g J (x := x) (C := C) (T := T) (v := v) (u := u) hw0 (hC) (hT) (hkp)) dX0_add_5 rfl (rc_in B (ci := 0) rfl (k := 0) rfl (KgP.hm hw0)) rfl q2383 q2384 q2385 q77 q2386 rfl rfl moX1_add rfl rfl (by decide) (by decide) (Nat.le_of_ble_eq_true rfl) (Nat.le_of_ble_eq_true rfl) (Nat.le_of_ble_eq_true rfl) (fun E5 L1 hx5 => ?_) (fun v5 L1 hp5 => ?_)
  · skip
    obtain ⟨rfl, hx5⟩ := hx5
    rcases hx5 with ⟨rfl, hx5⟩ | ⟨rfl, hx5⟩ | ⟨rfl, hx5⟩
    · skip
      refine g_catch B tb (nm := "java/lang/IndexOutOfBoundsException") [] (⟨0, 10, 13, 19⟩ : ExceptionTableEntry) [(⟨0, 10, 17, 27⟩ : ExceptionTableEntry), (⟨0, 10, 21, 13⟩ : ExceptionTableEntry)] rfl (fun z hz => by cases hz) (by decide) (by decide) q1941 q341 (fun z5_0 => ?_)
      refine (show Go g κ 13 [some (.ref x), some (.int v), some (.int u), some (.ref o), none] [.ref z5_0] [[(o, .inl (g.2.1 3, 1, .inr (.inl f)))], w0] 0 0 from ?_)
      refine g_astore (q := 15) (lv2 := [some (.ref x), some (.int v), some (.int u), some (.ref o), some (.ref z5_0)]) B dX0_add_13 rfl (Nat.le_of_ble_eq_true rfl) (rv_r _) rfl ?_
      refine g_iconst (v := nI 1) (q := 16) B dX0_add_15 rfl (by decide) ?_
      refine g_pk [1, 0] rfl rfl ?_
      refine (show Go g κ 16 [some (.ref x), some (.int v), some (.int u), some (.ref o), some (.ref z5_0)] [.int (nI 1)] [w0, [(o, .inl (g.2.1 3, 1, .inr (.inl f)))]] 0 0 from ?_)
      exact g_iret B E dX0_add_16 (⟨1, C, f, w0, rfl, rfl, hw0, (Or.inr (Or.inl (⟨rfl, rfl, hx5⟩)))⟩)
    · skip
      refine g_catch B tb (nm := "java/lang/UnsupportedOperationException") [(⟨0, 10, 13, 19⟩ : ExceptionTableEntry)] (⟨0, 10, 17, 27⟩ : ExceptionTableEntry) [(⟨0, 10, 21, 13⟩ : ExceptionTableEntry)] rfl (fun z hz => by simp only [List.mem_cons, List.not_mem_nil, or_false] at hz; rcases hz with rfl; exact Or.inr ⟨by decide, "java/lang/IndexOutOfBoundsException", q1941, nc_325⟩) (by decide) (by decide) q2322 q2336 (fun z5_1 => ?_)
      refine (show Go g κ 17 [some (.ref x), some (.int v), some (.int u), some (.ref o), none] [.ref z5_1] [[(o, .inl (g.2.1 3, 1, .inr (.inl f)))], w0] 0 0 from ?_)
      refine g_astore (q := 19) (lv2 := [some (.ref x), some (.int v), some (.int u), some (.ref o), some (.ref z5_1)]) B dX0_add_17 rfl (Nat.le_of_ble_eq_true rfl) (rv_r _) rfl ?_
      refine g_iconst (v := nI 2) (q := 20) B dX0_add_19 rfl (by decide) ?_
      refine g_pk [1, 0] rfl rfl ?_
      refine (show Go g κ 20 [some (.ref x), some (.int v), some (.int u), some (.ref o), some (.ref z5_1)] [.int (nI 2)] [w0, [(o, .inl (g.2.1 3, 1, .inr (.inl f)))]] 0 0 from ?_)
      exact g_iret B E dX0_add_20 (⟨2, C, f, w0, rfl, rfl, hw0, (Or.inr (Or.inr (Or.inl (⟨rfl, rfl, hx5⟩))))⟩)
    · skip
      refine g_catch B tb (nm := "java/lang/IllegalStateException") [(⟨0, 10, 13, 19⟩ : ExceptionTableEntry), (⟨0, 10, 17, 27⟩ : ExceptionTableEntry)] (⟨0, 10, 21, 13⟩ : ExceptionTableEntry) [] rfl (fun z hz => by simp only [List.mem_cons, List.not_mem_nil, or_false] at hz; rcases hz with rfl | rfl; exact Or.inr ⟨by decide, "java/lang/IndexOutOfBoundsException", q1941, nc_299⟩; exact Or.inr ⟨by decide, "java/lang/UnsupportedOperationException", q2322, nc_347⟩) (by decide) (by decide) q1834 q1844 (fun z5_2 => ?_)
      refine (show Go g κ 21 [some (.ref x), some (.int v), some (.int u), some (.ref o), none] [.ref z5_2] [[(o, .inl (g.2.1 3, 1, .inr (.inl f)))], w0] 0 0 from ?_)
      refine g_astore (q := 23) (lv2 := [some (.ref x), some (.int v), some (.int u), some (.ref o), some (.ref z5_2)]) B dX0_add_21 rfl (Nat.le_of_ble_eq_true rfl) (rv_r _) rfl ?_
      refine g_iconst (v := nI 3) (q := 24) B dX0_add_23 rfl (by decide) ?_
      refine g_pk [1, 0] rfl rfl ?_
      refine (show Go g κ 24 [some (.ref x), some (.int v), some (.int u), some (.ref o), some (.ref z5_2)] [.int (nI 3)] [w0, [(o, .inl (g.2.1 3, 1, .inr (.inl f)))]] 0 0 from ?_)
      exact g_iret B E dX0_add_24 (⟨3, C, f, w0, rfl, rfl, hw0, (Or.inr (Or.inr (Or.inr (⟨rfl, rfl, hx5⟩))))⟩)
  obtain ⟨i5, r5, j5, q5, r25, u0_5, rfl, rfl, hu0_5, hv_5, hr_5, hu_5, hq_5, hr2_5, hcan_5, hl8_5⟩ := hp5
  refine (show Go g κ 8 [some (.ref x), some (.int v), some (.int u), some (.ref o), none] [.int (nI ((zRs C).length + 1)), .int (nI 0), .ref o] [[(o, .inl (g.2.1 3, 1, .inr (.inl f)))], u0_5] 0 0 from ?_)
  refine g_i2l (v := (nI ((zRs C).length + 1)).toInt64) (q := 9) B dX0_add_8 rfl rfl ?_
  refine g_last (q := 10) (L2 := [[(o, .inl (g.2.1 3, 1, .inr (.inl (vp_updL f 0 ((nI ((zRs C).length + 1)).toInt64)))))], u0_5]) B (k := 0) dX0_add_9 rfl rfl (vp_in_nI (by omega) (by omega)) (by rw [nI_clamp (by omega)] <;> rfl) ?_
  refine g_goto (tgt := 25) B dX0_add_10 (by decide) ?_
  refine g_iconst (v := nI 0) (q := 26) B dX0_add_25 rfl (by decide) ?_
  refine g_pk [1, 0] rfl rfl ?_
  refine (show Go g κ 26 [some (.ref x), some (.int v), some (.int u), some (.ref o), none] [.int (nI 0)] [u0_5, [(o, .inl (g.2.1 3, 1, .inr (.inl (vp_updL f 0 ((nI ((zRs C).length + 1)).toInt64)))))]] 0 0 from ?_)
  exact g_iret B E dX0_add_26 (⟨0, ((zSs C, zBx C, zZz C, zPs C, zKs C, (zRs C ++ [(0, j5, 0)]), zTs C, zSt C, zMs C, zSo C, zBn C) : KsS), vp_updL f 0 ((nI ((zRs C).length + 1)).toInt64), u0_5, rfl, rfl, hu0_5, (Or.inl (⟨rfl, i5, r5, j5, q5, r25, rfl, rfl, hv_5, hr_5, hu_5, hq_5, hr2_5, hcan_5, hl8_5⟩))⟩)
theorem moX1_remove : Mo yX1_remove 2 := by
  refine ⟨by decide, by decide, by decide +kernel⟩
theorem ct_X0_remove (g : Gv) (J : Jd g) {x : Nat} {C : KsS} {T : TrS} {v : Int32} {u : Int32} {o : Nat} {f : Nat → Int64} {w0 : va_W} (hw0 : KgP g x C w0) (hC : KsB C) (hT : zTs C ≠ [] → (zTs C)[(zTs C).length - 1]? = some T) (hrb : ∀ r ∈ zRs C, r.2.1 < 1000) : Ct g yX0_remove (wsW_ yX0_remove cX0_remove 5 (some .int) [(0, 10, 13, 19), (0, 10, 17, 27), (0, 10, 21, 13)]) 11 20 200 [.ref x, .int v, .int u, .ref o] [w0, [(o, .inl (g.2.1 3, 1, .inr (.inl f)))]] (fun (rv_ : Option Value) (rL_ : List va_W) => ∃ (kx : Nat) (C9 : KsS) (f9 : Nat → Int64) (u0 : va_W), rv_ = some (.int (nI kx)) ∧ rL_ = [u0, [(o, .inl (g.2.1 3, 1, .inr (.inl f9)))]] ∧ KgP g x C9 u0 ∧ ((kx = 0 ∧ ∃ (i : Nat) (r : PeS) (j : Nat), C9 = ((zSs C, zBx C, zZz C, zPs C, zKs C, (zRs C ++ [(1, j, 0)]), zTs C, zSt C, zMs C, zSo C, zBn C) : KsS) ∧ (f9 0 = (nI ((zRs C).length + 1)).toInt64) ∧ (v = nI i) ∧ ((zPs C)[i]? = some r) ∧ (u = nI j) ∧ (j < 2 ^ T.1) ∧ (zTs C ≠ []) ∧ (rmCan C T r j) ∧ ((zRs C).length < 8)) ∨ (kx = 1 ∧ C9 = C ∧ (¬ (inR v (zPs C).length = true ∧ zTs C ≠ [] ∧ inR u (2 ^ T.1) = true))) ∨ (kx = 2 ∧ C9 = C ∧ (∃ (i : Nat) (r : PeS) (j : Nat), v = nI i ∧ (zPs C)[i]? = some r ∧ u = nI j ∧ j < 2 ^ T.1 ∧ zTs C ≠ [] ∧ ¬ rmCan C T r j)) ∨ (kx = 3 ∧ C9 = C ∧ (∃ (i : Nat) (r : PeS) (j : Nat), v = nI i ∧ (zPs C)[i]? = some r ∧ u = nI j ∧ j < 2 ^ T.1 ∧ zTs C ≠ [] ∧ rmCan C T r j ∧ ¬ (zRs C).length < 8)))) noX := by
  refine Ct.ofW "KeygroveLaw" [some (.ref x), some (.int v), some (.int u), some (.ref o), none] rfl (by decide) rfl (Nat.le_of_ble_eq_true rfl) rfl ?_
  intro κ B E tb
  refine g_aload_n (q := 1) B dX0_remove_0 rfl rfl (rv_r _) ?_
  refine g_iconst (v := nI 0) (q := 2) B dX0_remove_1 rfl (by decide) ?_
  refine g_aload_n (q := 3) B dX0_remove_2 rfl rfl (rv_r _) ?_
  refine g_iload_n (q := 4) B dX0_remove_3 rfl rfl ?_
  refine g_iload_n (q := 5) B dX0_remove_4 rfl rfl ?_
  refine g_callV (q := 8) (is := [0]) (kc2 := 0) (ks2 := 0) B [.int v, .int u] (ct_X1_remove g J (x := x) (C := C) (T := T) (v := v) (u := u) hw0 (hC) (hT) (hrb)) dX0_remove_5 rfl (rc_in B (ci := 0) rfl (k := 0) rfl (KgP.hm hw0)) rfl q2413 q2414 q2415 q77 q2416 rfl rfl moX1_remove rfl rfl (by decide) (by decide) (Nat.le_of_ble_eq_true rfl) (Nat.le_of_ble_eq_true rfl) (Nat.le_of_ble_eq_true rfl) (fun E5 L1 hx5 => ?_) (fun v5 L1 hp5 => ?_)
  · skip
    obtain ⟨rfl, hx5⟩ := hx5
    rcases hx5 with ⟨rfl, hx5⟩ | ⟨rfl, hx5⟩ | ⟨rfl, hx5⟩
    · skip
      refine g_catch B tb (nm := "java/lang/IndexOutOfBoundsException") [] (⟨0, 10, 13, 19⟩ : ExceptionTableEntry) [(⟨0, 10, 17, 27⟩ : ExceptionTableEntry), (⟨0, 10, 21, 13⟩ : ExceptionTableEntry)] rfl (fun z hz => by cases hz) (by decide) (by decide) q1941 q341 (fun z5_0 => ?_)
      refine (show Go g κ 13 [some (.ref x), some (.int v), some (.int u), some (.ref o), none] [.ref z5_0] [[(o, .inl (g.2.1 3, 1, .inr (.inl f)))], w0] 0 0 from ?_)
      refine g_astore (q := 15) (lv2 := [some (.ref x), some (.int v), some (.int u), some (.ref o), some (.ref z5_0)]) B dX0_remove_13 rfl (Nat.le_of_ble_eq_true rfl) (rv_r _) rfl ?_
      refine g_iconst (v := nI 1) (q := 16) B dX0_remove_15 rfl (by decide) ?_
      refine g_pk [1, 0] rfl rfl ?_
      refine (show Go g κ 16 [some (.ref x), some (.int v), some (.int u), some (.ref o), some (.ref z5_0)] [.int (nI 1)] [w0, [(o, .inl (g.2.1 3, 1, .inr (.inl f)))]] 0 0 from ?_)
      exact g_iret B E dX0_remove_16 (⟨1, C, f, w0, rfl, rfl, hw0, (Or.inr (Or.inl (⟨rfl, rfl, hx5⟩)))⟩)
    · skip
      refine g_catch B tb (nm := "java/lang/UnsupportedOperationException") [(⟨0, 10, 13, 19⟩ : ExceptionTableEntry)] (⟨0, 10, 17, 27⟩ : ExceptionTableEntry) [(⟨0, 10, 21, 13⟩ : ExceptionTableEntry)] rfl (fun z hz => by simp only [List.mem_cons, List.not_mem_nil, or_false] at hz; rcases hz with rfl; exact Or.inr ⟨by decide, "java/lang/IndexOutOfBoundsException", q1941, nc_325⟩) (by decide) (by decide) q2322 q2336 (fun z5_1 => ?_)
      refine (show Go g κ 17 [some (.ref x), some (.int v), some (.int u), some (.ref o), none] [.ref z5_1] [[(o, .inl (g.2.1 3, 1, .inr (.inl f)))], w0] 0 0 from ?_)
      refine g_astore (q := 19) (lv2 := [some (.ref x), some (.int v), some (.int u), some (.ref o), some (.ref z5_1)]) B dX0_remove_17 rfl (Nat.le_of_ble_eq_true rfl) (rv_r _) rfl ?_
      refine g_iconst (v := nI 2) (q := 20) B dX0_remove_19 rfl (by decide) ?_
      refine g_pk [1, 0] rfl rfl ?_
      refine (show Go g κ 20 [some (.ref x), some (.int v), some (.int u), some (.ref o), some (.ref z5_1)] [.int (nI 2)] [w0, [(o, .inl (g.2.1 3, 1, .inr (.inl f)))]] 0 0 from ?_)
      exact g_iret B E dX0_remove_20 (⟨2, C, f, w0, rfl, rfl, hw0, (Or.inr (Or.inr (Or.inl (⟨rfl, rfl, hx5⟩))))⟩)
    · skip
      refine g_catch B tb (nm := "java/lang/IllegalStateException") [(⟨0, 10, 13, 19⟩ : ExceptionTableEntry), (⟨0, 10, 17, 27⟩ : ExceptionTableEntry)] (⟨0, 10, 21, 13⟩ : ExceptionTableEntry) [] rfl (fun z hz => by simp only [List.mem_cons, List.not_mem_nil, or_false] at hz; rcases hz with rfl | rfl; exact Or.inr ⟨by decide, "java/lang/IndexOutOfBoundsException", q1941, nc_299⟩; exact Or.inr ⟨by decide, "java/lang/UnsupportedOperationException", q2322, nc_347⟩) (by decide) (by decide) q1834 q1844 (fun z5_2 => ?_)
      refine (show Go g κ 21 [some (.ref x), some (.int v), some (.int u), some (.ref o), none] [.ref z5_2] [[(o, .inl (g.2.1 3, 1, .inr (.inl f)))], w0] 0 0 from ?_)
      refine g_astore (q := 23) (lv2 := [some (.ref x), some (.int v), some (.int u), some (.ref o), some (.ref z5_2)]) B dX0_remove_21 rfl (Nat.le_of_ble_eq_true rfl) (rv_r _) rfl ?_
      refine g_iconst (v := nI 3) (q := 24) B dX0_remove_23 rfl (by decide) ?_
      refine g_pk [1, 0] rfl rfl ?_
      refine (show Go g κ 24 [some (.ref x), some (.int v), some (.int u), some (.ref o), some (.ref z5_2)] [.int (nI 3)] [w0, [(o, .inl (g.2.1 3, 1, .inr (.inl f)))]] 0 0 from ?_)
      exact g_iret B E dX0_remove_24 (⟨3, C, f, w0, rfl, rfl, hw0, (Or.inr (Or.inr (Or.inr (⟨rfl, rfl, hx5⟩))))⟩)
  obtain ⟨i5, r5, j5, u0_5, rfl, rfl, hu0_5, hv_5, hr_5, hu_5, hj_5, hne_5, hcan_5, hl8_5⟩ := hp5
  refine (show Go g κ 8 [some (.ref x), some (.int v), some (.int u), some (.ref o), none] [.int (nI ((zRs C).length + 1)), .int (nI 0), .ref o] [[(o, .inl (g.2.1 3, 1, .inr (.inl f)))], u0_5] 0 0 from ?_)
  refine g_i2l (v := (nI ((zRs C).length + 1)).toInt64) (q := 9) B dX0_remove_8 rfl rfl ?_
  refine g_last (q := 10) (L2 := [[(o, .inl (g.2.1 3, 1, .inr (.inl (vp_updL f 0 ((nI ((zRs C).length + 1)).toInt64)))))], u0_5]) B (k := 0) dX0_remove_9 rfl rfl (vp_in_nI (by omega) (by omega)) (by rw [nI_clamp (by omega)] <;> rfl) ?_
  refine g_goto (tgt := 25) B dX0_remove_10 (by decide) ?_
  refine g_iconst (v := nI 0) (q := 26) B dX0_remove_25 rfl (by decide) ?_
  refine g_pk [1, 0] rfl rfl ?_
  refine (show Go g κ 26 [some (.ref x), some (.int v), some (.int u), some (.ref o), none] [.int (nI 0)] [u0_5, [(o, .inl (g.2.1 3, 1, .inr (.inl (vp_updL f 0 ((nI ((zRs C).length + 1)).toInt64)))))]] 0 0 from ?_)
  exact g_iret B E dX0_remove_26 (⟨0, ((zSs C, zBx C, zZz C, zPs C, zKs C, (zRs C ++ [(1, j5, 0)]), zTs C, zSt C, zMs C, zSo C, zBn C) : KsS), vp_updL f 0 ((nI ((zRs C).length + 1)).toInt64), u0_5, rfl, rfl, hu0_5, (Or.inl (⟨rfl, i5, r5, j5, rfl, rfl, hv_5, hr_5, hu_5, hj_5, hne_5, hcan_5, hl8_5⟩))⟩)
theorem moX1_renew : Mo yX1_renew 1 := by
  refine ⟨by decide, by decide, by decide +kernel⟩
theorem ct_X0_renew (g : Gv) (J : Jd g) {x : Nat} {C : KsS} {v : Int32} {o : Nat} {f : Nat → Int64} {w0 : va_W} (hw0 : KgP g x C w0) (hC : KsB C) : Ct g yX0_renew (wsW_ yX0_renew cX0_renew 4 (some .int) [(0, 9, 12, 19), (0, 9, 15, 27), (0, 9, 18, 13)]) 11 120 (600 + 4 * (PhS (zSs C ++ [drw (zZz C)]) - PhS (zSs C))) [.ref x, .int v, .ref o] [w0, [(o, .inl (g.2.1 3, 1, .inr (.inl f)))]] (fun (rv_ : Option Value) (rL_ : List va_W) => ∃ (kx : Nat) (C9 : KsS) (f9 : Nat → Int64) (u0 : va_W), rv_ = some (.int (nI kx)) ∧ rL_ = [u0, [(o, .inl (g.2.1 3, 1, .inr (.inl f9)))]] ∧ KgP g x C9 u0 ∧ ((kx = 0 ∧ ∃ (i : Nat) (r : PeS) (E : Nat → Bool), C9 = ((zSs C ++ [drw (zZz C)], zBx C, lcg (zZz C), (zPs C).set i ((pNo r, E, pPk r, pEp r, pLf r, pNd r, pOn r, pKy r, pCh r, some (zSs C).length) : PeS), zKs C, zRs C ++ [(2, pLf r, (zSs C).length)], zTs C, zSt C, zMs C, zSo C, zBn C) : KsS) ∧ (f9 0 = (nI ((zRs C).length + 1)).toInt64) ∧ (v = nI i) ∧ ((zPs C)[i]? = some r) ∧ ((isF (zTs C).length (pEp r) = true ∧ pRn r = none)) ∧ ((zRs C).length < 8) ∧ (∀ y, E y = true ↔ pEv r y = true ∨ helP (zKs C) ((pNo r, pEv r, pPk r, pEp r, pLf r, pNd r, pOn r, pKy r, pCh r, some (zSs C).length) : PeS) y)) ∨ (kx = 1 ∧ C9 = C ∧ (¬ inR v (zPs C).length = true)) ∨ (kx = 2 ∧ C9 = C ∧ (∃ (i : Nat) (r : PeS), v = nI i ∧ (zPs C)[i]? = some r ∧ ¬ (isF (zTs C).length (pEp r) = true ∧ pRn r = none))) ∨ (kx = 3 ∧ C9 = C ∧ (∃ (i : Nat) (r : PeS), v = nI i ∧ (zPs C)[i]? = some r ∧ (isF (zTs C).length (pEp r) = true ∧ pRn r = none) ∧ ¬ (zRs C).length < 8)))) noX := by
  refine Ct.ofW "KeygroveLaw" [some (.ref x), some (.int v), some (.ref o), none] rfl (by decide) rfl (Nat.le_of_ble_eq_true rfl) rfl ?_
  intro κ B E tb
  refine g_aload_n (q := 1) B dX0_renew_0 rfl rfl (rv_r _) ?_
  refine g_iconst (v := nI 0) (q := 2) B dX0_renew_1 rfl (by decide) ?_
  refine g_aload_n (q := 3) B dX0_renew_2 rfl rfl (rv_r _) ?_
  refine g_iload_n (q := 4) B dX0_renew_3 rfl rfl ?_
  refine g_callV (q := 7) (is := [0]) (kc2 := 0) (ks2 := (600 + 4 * (PhS (zSs C ++ [drw (zZz C)]) - PhS (zSs C))) - (600 + 4 * (PhS (zSs C ++ [drw (zZz C)]) - PhS (zSs C)))) B [.int v] (ct_X1_renew g J (x := x) (C := C) (v := v) hw0 (hC)) dX0_renew_4 rfl (rc_in B (ci := 0) rfl (k := 0) rfl (KgP.hm hw0)) rfl q2435 q2436 q2437 q77 q2438 rfl rfl moX1_renew rfl rfl (by decide) (by decide) (Nat.le_of_ble_eq_true rfl) (Nat.le_of_ble_eq_true rfl) (by omega) (fun E4 L1 hx4 => ?_) (fun v4 L1 hp4 => ?_)
  · skip
    obtain ⟨rfl, hx4⟩ := hx4
    rcases hx4 with ⟨rfl, hx4⟩ | ⟨rfl, hx4⟩ | ⟨rfl, hx4⟩
    · skip
      refine g_catch B tb (nm := "java/lang/IndexOutOfBoundsException") [] (⟨0, 9, 12, 19⟩ : ExceptionTableEntry) [(⟨0, 9, 15, 27⟩ : ExceptionTableEntry), (⟨0, 9, 18, 13⟩ : ExceptionTableEntry)] rfl (fun z hz => by cases hz) (by decide) (by decide) q1941 q341 (fun z4_0 => ?_)
      refine (show Go g κ 12 [some (.ref x), some (.int v), some (.ref o), none] [.ref z4_0] [[(o, .inl (g.2.1 3, 1, .inr (.inl f)))], w0] 0 ((600 + 4 * (PhS (zSs C ++ [drw (zZz C)]) - PhS (zSs C))) - (600 + 4 * (PhS (zSs C ++ [drw (zZz C)]) - PhS (zSs C)))) from ?_)
      refine g_astore_n (q := 13) (lv2 := [some (.ref x), some (.int v), some (.ref o), some (.ref z4_0)]) B dX0_renew_12 rfl (Nat.le_of_ble_eq_true rfl) (rv_r _) rfl ?_
      refine g_iconst (v := nI 1) (q := 14) B dX0_renew_13 rfl (by decide) ?_
      refine g_pk [1, 0] rfl rfl ?_
      refine (show Go g κ 14 [some (.ref x), some (.int v), some (.ref o), some (.ref z4_0)] [.int (nI 1)] [w0, [(o, .inl (g.2.1 3, 1, .inr (.inl f)))]] 0 ((600 + 4 * (PhS (zSs C ++ [drw (zZz C)]) - PhS (zSs C))) - (600 + 4 * (PhS (zSs C ++ [drw (zZz C)]) - PhS (zSs C)))) from ?_)
      exact g_iret B E dX0_renew_14 (⟨1, C, f, w0, rfl, rfl, hw0, (Or.inr (Or.inl (⟨rfl, rfl, hx4⟩)))⟩)
    · skip
      refine g_catch B tb (nm := "java/lang/UnsupportedOperationException") [(⟨0, 9, 12, 19⟩ : ExceptionTableEntry)] (⟨0, 9, 15, 27⟩ : ExceptionTableEntry) [(⟨0, 9, 18, 13⟩ : ExceptionTableEntry)] rfl (fun z hz => by simp only [List.mem_cons, List.not_mem_nil, or_false] at hz; rcases hz with rfl; exact Or.inr ⟨by decide, "java/lang/IndexOutOfBoundsException", q1941, nc_325⟩) (by decide) (by decide) q2322 q2336 (fun z4_1 => ?_)
      refine (show Go g κ 15 [some (.ref x), some (.int v), some (.ref o), none] [.ref z4_1] [[(o, .inl (g.2.1 3, 1, .inr (.inl f)))], w0] 0 ((600 + 4 * (PhS (zSs C ++ [drw (zZz C)]) - PhS (zSs C))) - (600 + 4 * (PhS (zSs C ++ [drw (zZz C)]) - PhS (zSs C)))) from ?_)
      refine g_astore_n (q := 16) (lv2 := [some (.ref x), some (.int v), some (.ref o), some (.ref z4_1)]) B dX0_renew_15 rfl (Nat.le_of_ble_eq_true rfl) (rv_r _) rfl ?_
      refine g_iconst (v := nI 2) (q := 17) B dX0_renew_16 rfl (by decide) ?_
      refine g_pk [1, 0] rfl rfl ?_
      refine (show Go g κ 17 [some (.ref x), some (.int v), some (.ref o), some (.ref z4_1)] [.int (nI 2)] [w0, [(o, .inl (g.2.1 3, 1, .inr (.inl f)))]] 0 ((600 + 4 * (PhS (zSs C ++ [drw (zZz C)]) - PhS (zSs C))) - (600 + 4 * (PhS (zSs C ++ [drw (zZz C)]) - PhS (zSs C)))) from ?_)
      exact g_iret B E dX0_renew_17 (⟨2, C, f, w0, rfl, rfl, hw0, (Or.inr (Or.inr (Or.inl (⟨rfl, rfl, hx4⟩))))⟩)
    · skip
      refine g_catch B tb (nm := "java/lang/IllegalStateException") [(⟨0, 9, 12, 19⟩ : ExceptionTableEntry), (⟨0, 9, 15, 27⟩ : ExceptionTableEntry)] (⟨0, 9, 18, 13⟩ : ExceptionTableEntry) [] rfl (fun z hz => by simp only [List.mem_cons, List.not_mem_nil, or_false] at hz; rcases hz with rfl | rfl; exact Or.inr ⟨by decide, "java/lang/IndexOutOfBoundsException", q1941, nc_299⟩; exact Or.inr ⟨by decide, "java/lang/UnsupportedOperationException", q2322, nc_347⟩) (by decide) (by decide) q1834 q1844 (fun z4_2 => ?_)
      refine (show Go g κ 18 [some (.ref x), some (.int v), some (.ref o), none] [.ref z4_2] [[(o, .inl (g.2.1 3, 1, .inr (.inl f)))], w0] 0 ((600 + 4 * (PhS (zSs C ++ [drw (zZz C)]) - PhS (zSs C))) - (600 + 4 * (PhS (zSs C ++ [drw (zZz C)]) - PhS (zSs C)))) from ?_)
      refine g_astore_n (q := 19) (lv2 := [some (.ref x), some (.int v), some (.ref o), some (.ref z4_2)]) B dX0_renew_18 rfl (Nat.le_of_ble_eq_true rfl) (rv_r _) rfl ?_
      refine g_iconst (v := nI 3) (q := 20) B dX0_renew_19 rfl (by decide) ?_
      refine g_pk [1, 0] rfl rfl ?_
      refine (show Go g κ 20 [some (.ref x), some (.int v), some (.ref o), some (.ref z4_2)] [.int (nI 3)] [w0, [(o, .inl (g.2.1 3, 1, .inr (.inl f)))]] 0 ((600 + 4 * (PhS (zSs C ++ [drw (zZz C)]) - PhS (zSs C))) - (600 + 4 * (PhS (zSs C ++ [drw (zZz C)]) - PhS (zSs C)))) from ?_)
      exact g_iret B E dX0_renew_20 (⟨3, C, f, w0, rfl, rfl, hw0, (Or.inr (Or.inr (Or.inr (⟨rfl, rfl, hx4⟩))))⟩)
  obtain ⟨i4, r4, E4, u0_4, rfl, rfl, hu0_4, hv_4, hr_4, hcan_4, hl8_4, hE_4⟩ := hp4
  refine (show Go g κ 7 [some (.ref x), some (.int v), some (.ref o), none] [.int (nI ((zRs C).length + 1)), .int (nI 0), .ref o] [[(o, .inl (g.2.1 3, 1, .inr (.inl f)))], u0_4] 0 ((600 + 4 * (PhS (zSs C ++ [drw (zZz C)]) - PhS (zSs C))) - (600 + 4 * (PhS (zSs C ++ [drw (zZz C)]) - PhS (zSs C)))) from ?_)
  refine g_i2l (v := (nI ((zRs C).length + 1)).toInt64) (q := 8) B dX0_renew_7 rfl rfl ?_
  refine g_last (q := 9) (L2 := [[(o, .inl (g.2.1 3, 1, .inr (.inl (vp_updL f 0 ((nI ((zRs C).length + 1)).toInt64)))))], u0_4]) B (k := 0) dX0_renew_8 rfl rfl (vp_in_nI (by omega) (by omega)) (by rw [nI_clamp (by omega)] <;> rfl) ?_
  refine g_goto (tgt := 21) B dX0_renew_9 (by decide) ?_
  refine g_iconst (v := nI 0) (q := 22) B dX0_renew_21 rfl (by decide) ?_
  refine g_pk [1, 0] rfl rfl ?_
  refine (show Go g κ 22 [some (.ref x), some (.int v), some (.ref o), none] [.int (nI 0)] [u0_4, [(o, .inl (g.2.1 3, 1, .inr (.inl (vp_updL f 0 ((nI ((zRs C).length + 1)).toInt64)))))]] 0 ((600 + 4 * (PhS (zSs C ++ [drw (zZz C)]) - PhS (zSs C))) - (600 + 4 * (PhS (zSs C ++ [drw (zZz C)]) - PhS (zSs C)))) from ?_)
  exact g_iret B E dX0_renew_22 (⟨0, ((zSs C ++ [drw (zZz C)], zBx C, lcg (zZz C), (zPs C).set i4 ((pNo r4, E4, pPk r4, pEp r4, pLf r4, pNd r4, pOn r4, pKy r4, pCh r4, some (zSs C).length) : PeS), zKs C, zRs C ++ [(2, pLf r4, (zSs C).length)], zTs C, zSt C, zMs C, zSo C, zBn C) : KsS), vp_updL f 0 ((nI ((zRs C).length + 1)).toInt64), u0_4, rfl, rfl, hu0_4, (Or.inl (⟨rfl, i4, r4, E4, rfl, rfl, hv_4, hr_4, hcan_4, hl8_4, hE_4⟩))⟩)
theorem moX1_proposal : Mo yX1_proposal 1 := by
  refine ⟨by decide, by decide, by decide +kernel⟩
theorem ct_X0_proposal (g : Gv) (J : Jd g) {x : Nat} {C : KsS} {v : Int32} {o : Nat} {f : Nat → Int64} {w0 : va_W} (hw0 : KgP g x C w0) (hC : KsB C) : Ct g yX0_proposal (wsW_ yX0_proposal cX0_proposal 4 (some .int) [(0, 9, 12, 32)]) 11 10 60 [.ref x, .int v, .ref o] [w0, [(o, .inl (g.2.1 3, 1, .inr (.inl f)))]] (fun (rv_ : Option Value) (rL_ : List va_W) => ∃ (kx : Nat) (C9 : KsS) (f9 : Nat → Int64) (u0 : va_W), rv_ = some (.int (nI kx)) ∧ rL_ = [u0, [(o, .inl (g.2.1 3, 1, .inr (.inl f9)))]] ∧ KgP g x C9 u0 ∧ ((kx = 0 ∧ ∃ (i : Nat) (r : PrS), C9 = C ∧ (f9 0 = (nI (prK r)).toInt64) ∧ (v = nI i) ∧ ((zRs C)[i]? = some r)) ∨ (kx = 1 ∧ C9 = C ∧ (¬ inR v (zRs C).length = true)))) noX := by
  refine Ct.ofW "KeygroveLaw" [some (.ref x), some (.int v), some (.ref o), none] rfl (by decide) rfl (Nat.le_of_ble_eq_true rfl) rfl ?_
  intro κ B E tb
  refine g_aload_n (q := 1) B dX0_proposal_0 rfl rfl (rv_r _) ?_
  refine g_iconst (v := nI 0) (q := 2) B dX0_proposal_1 rfl (by decide) ?_
  refine g_aload_n (q := 3) B dX0_proposal_2 rfl rfl (rv_r _) ?_
  refine g_iload_n (q := 4) B dX0_proposal_3 rfl rfl ?_
  refine g_callV (q := 7) (is := [0]) (kc2 := 0) (ks2 := 0) B [.int v] (ct_X1_proposal g J (x := x) (C := C) (v := v) hw0 (hC)) dX0_proposal_4 rfl (rc_in B (ci := 0) rfl (k := 0) rfl (KgP.hm hw0)) rfl q2457 q2458 q2459 q77 q2460 rfl rfl moX1_proposal rfl rfl (by decide) (by decide) (Nat.le_of_ble_eq_true rfl) (Nat.le_of_ble_eq_true rfl) (Nat.le_of_ble_eq_true rfl) (fun E4 L1 hx4 => ?_) (fun v4 L1 hp4 => ?_)
  · skip
    obtain ⟨rfl, hx4⟩ := hx4
    obtain ⟨rfl, hx4⟩ := hx4
    refine g_catch B tb (nm := "java/util/NoSuchElementException") [] (⟨0, 9, 12, 32⟩ : ExceptionTableEntry) [] rfl (fun z hz => by cases hz) (by decide) (by decide) q2352 q978 (fun z4_0 => ?_)
    refine (show Go g κ 12 [some (.ref x), some (.int v), some (.ref o), none] [.ref z4_0] [[(o, .inl (g.2.1 3, 1, .inr (.inl f)))], w0] 0 0 from ?_)
    refine g_astore_n (q := 13) (lv2 := [some (.ref x), some (.int v), some (.ref o), some (.ref z4_0)]) B dX0_proposal_12 rfl (Nat.le_of_ble_eq_true rfl) (rv_r _) rfl ?_
    refine g_iconst (v := nI 1) (q := 14) B dX0_proposal_13 rfl (by decide) ?_
    refine g_pk [1, 0] rfl rfl ?_
    refine (show Go g κ 14 [some (.ref x), some (.int v), some (.ref o), some (.ref z4_0)] [.int (nI 1)] [w0, [(o, .inl (g.2.1 3, 1, .inr (.inl f)))]] 0 0 from ?_)
    exact g_iret B E dX0_proposal_14 (⟨1, C, f, w0, rfl, rfl, hw0, (Or.inr (⟨rfl, rfl, hx4⟩))⟩)
  obtain ⟨i4, r4, u0_4, rfl, rfl, hu0_4, hv_4, hr_4⟩ := hp4
  refine (show Go g κ 7 [some (.ref x), some (.int v), some (.ref o), none] [.int (nI (prK r4)), .int (nI 0), .ref o] [[(o, .inl (g.2.1 3, 1, .inr (.inl f)))], u0_4] 0 0 from ?_)
  refine g_i2l (v := (nI (prK r4)).toInt64) (q := 8) B dX0_proposal_7 rfl rfl ?_
  refine g_last (q := 9) (L2 := [[(o, .inl (g.2.1 3, 1, .inr (.inl (vp_updL f 0 ((nI (prK r4)).toInt64)))))], u0_4]) B (k := 0) dX0_proposal_8 rfl rfl (vp_in_nI (by omega) (by omega)) (by rw [nI_clamp (by omega)] <;> rfl) ?_
  refine g_goto (tgt := 15) B dX0_proposal_9 (by decide) ?_
  refine g_iconst (v := nI 0) (q := 16) B dX0_proposal_15 rfl (by decide) ?_
  refine g_pk [1, 0] rfl rfl ?_
  refine (show Go g κ 16 [some (.ref x), some (.int v), some (.ref o), none] [.int (nI 0)] [u0_4, [(o, .inl (g.2.1 3, 1, .inr (.inl (vp_updL f 0 ((nI (prK r4)).toInt64)))))]] 0 0 from ?_)
  exact g_iret B E dX0_proposal_16 (⟨0, C, vp_updL f 0 ((nI (prK r4)).toInt64), u0_4, rfl, rfl, hu0_4, (Or.inl (⟨rfl, i4, r4, rfl, rfl, hv_4, hr_4⟩))⟩)
theorem moX1_commit : Mo yX1_commit 1 := by
  refine ⟨by decide, by decide, by decide +kernel⟩
theorem ct_X0_commit_x (g : Gv) (J : Jd g) {x : Nat} {C : KsS} {v : Int32} {o : Nat} {f : Nat → Int64} {w0 : va_W} (hw0 : KgP g x C w0) (hC : KsB C) (hrb : ∀ r ∈ zRs C, r.2.1 < 1000) (hno : ¬ (inR v (zPs C).length = true ∧ ∃ (i : Nat) (r : PeS), v = nI i ∧ (zPs C)[i]? = some r ∧ isF (zTs C).length (pEp r) = true ∧ ¬ rmB (zRs C) (pLf r) = true ∧ (zTs C).length < 24)) : Ct g yX0_commit (wsW_ yX0_commit cX0_commit 4 (some .int) [(0, 9, 12, 19), (0, 9, 15, 27), (0, 9, 18, 13)]) 16 10 60 [.ref x, .int v, .ref o] [w0, [(o, .inl (g.2.1 3, 1, .inr (.inl f)))]] (fun (rv_ : Option Value) (rL_ : List va_W) => ∃ (kx : Nat) (C9 : KsS) (f9 : Nat → Int64) (u0 : va_W), rv_ = some (.int (nI kx)) ∧ rL_ = [u0, [(o, .inl (g.2.1 3, 1, .inr (.inl f9)))]] ∧ KgP g x C9 u0 ∧ ((kx = 0 ∧ C9 = C ∧ (f9 0 = (0 : Int32).toInt64) ∧ (False)) ∨ (kx = 1 ∧ C9 = C ∧ (¬ inR v (zPs C).length = true)) ∨ (kx = 2 ∧ C9 = C ∧ (∃ (i : Nat) (r : PeS), v = nI i ∧ (zPs C)[i]? = some r ∧ ¬ (isF (zTs C).length (pEp r) = true ∧ ¬ rmB (zRs C) (pLf r) = true))) ∨ (kx = 3 ∧ C9 = C ∧ (∃ (i : Nat) (r : PeS), v = nI i ∧ (zPs C)[i]? = some r ∧ (isF (zTs C).length (pEp r) = true ∧ ¬ rmB (zRs C) (pLf r) = true) ∧ ¬ (zTs C).length < 24)))) noX := by
  refine Ct.ofW "KeygroveLaw" [some (.ref x), some (.int v), some (.ref o), none] rfl (by decide) rfl (Nat.le_of_ble_eq_true rfl) rfl ?_
  intro κ B E tb
  refine g_aload_n (q := 1) B dX0_commit_0 rfl rfl (rv_r _) ?_
  refine g_iconst (v := nI 0) (q := 2) B dX0_commit_1 rfl (by decide) ?_
  refine g_aload_n (q := 3) B dX0_commit_2 rfl rfl (rv_r _) ?_
  refine g_iload_n (q := 4) B dX0_commit_3 rfl rfl ?_
  refine g_callV (q := 7) (is := [0]) (kc2 := 0) (ks2 := 0) B [.int v] (ct_X1_commit_x g J (x := x) (C := C) (v := v) hw0 (hC) (hrb) (hno)) dX0_commit_4 rfl (rc_in B (ci := 0) rfl (k := 0) rfl (KgP.hm hw0)) rfl q2476 q2477 q2478 q77 q2479 rfl rfl moX1_commit rfl rfl (by decide) (by decide) (Nat.le_of_ble_eq_true rfl) (Nat.le_of_ble_eq_true rfl) (Nat.le_of_ble_eq_true rfl) (fun E4 L1 hx4 => ?_) (fun v4 L1 hp4 => ?_)
  · skip
    obtain ⟨rfl, hx4⟩ := hx4
    rcases hx4 with ⟨rfl, hx4⟩ | ⟨rfl, hx4⟩ | ⟨rfl, hx4⟩
    · skip
      refine g_catch B tb (nm := "java/lang/IndexOutOfBoundsException") [] (⟨0, 9, 12, 19⟩ : ExceptionTableEntry) [(⟨0, 9, 15, 27⟩ : ExceptionTableEntry), (⟨0, 9, 18, 13⟩ : ExceptionTableEntry)] rfl (fun z hz => by cases hz) (by decide) (by decide) q1941 q341 (fun z4_0 => ?_)
      refine (show Go g κ 12 [some (.ref x), some (.int v), some (.ref o), none] [.ref z4_0] [[(o, .inl (g.2.1 3, 1, .inr (.inl f)))], w0] 0 0 from ?_)
      refine g_astore_n (q := 13) (lv2 := [some (.ref x), some (.int v), some (.ref o), some (.ref z4_0)]) B dX0_commit_12 rfl (Nat.le_of_ble_eq_true rfl) (rv_r _) rfl ?_
      refine g_iconst (v := nI 1) (q := 14) B dX0_commit_13 rfl (by decide) ?_
      refine g_pk [1, 0] rfl rfl ?_
      refine (show Go g κ 14 [some (.ref x), some (.int v), some (.ref o), some (.ref z4_0)] [.int (nI 1)] [w0, [(o, .inl (g.2.1 3, 1, .inr (.inl f)))]] 0 0 from ?_)
      exact g_iret B E dX0_commit_14 (⟨1, C, f, w0, rfl, rfl, hw0, (Or.inr (Or.inl (⟨rfl, rfl, hx4⟩)))⟩)
    · skip
      refine g_catch B tb (nm := "java/lang/UnsupportedOperationException") [(⟨0, 9, 12, 19⟩ : ExceptionTableEntry)] (⟨0, 9, 15, 27⟩ : ExceptionTableEntry) [(⟨0, 9, 18, 13⟩ : ExceptionTableEntry)] rfl (fun z hz => by simp only [List.mem_cons, List.not_mem_nil, or_false] at hz; rcases hz with rfl; exact Or.inr ⟨by decide, "java/lang/IndexOutOfBoundsException", q1941, nc_325⟩) (by decide) (by decide) q2322 q2336 (fun z4_1 => ?_)
      refine (show Go g κ 15 [some (.ref x), some (.int v), some (.ref o), none] [.ref z4_1] [[(o, .inl (g.2.1 3, 1, .inr (.inl f)))], w0] 0 0 from ?_)
      refine g_astore_n (q := 16) (lv2 := [some (.ref x), some (.int v), some (.ref o), some (.ref z4_1)]) B dX0_commit_15 rfl (Nat.le_of_ble_eq_true rfl) (rv_r _) rfl ?_
      refine g_iconst (v := nI 2) (q := 17) B dX0_commit_16 rfl (by decide) ?_
      refine g_pk [1, 0] rfl rfl ?_
      refine (show Go g κ 17 [some (.ref x), some (.int v), some (.ref o), some (.ref z4_1)] [.int (nI 2)] [w0, [(o, .inl (g.2.1 3, 1, .inr (.inl f)))]] 0 0 from ?_)
      exact g_iret B E dX0_commit_17 (⟨2, C, f, w0, rfl, rfl, hw0, (Or.inr (Or.inr (Or.inl (⟨rfl, rfl, hx4⟩))))⟩)
    · skip
      refine g_catch B tb (nm := "java/lang/IllegalStateException") [(⟨0, 9, 12, 19⟩ : ExceptionTableEntry), (⟨0, 9, 15, 27⟩ : ExceptionTableEntry)] (⟨0, 9, 18, 13⟩ : ExceptionTableEntry) [] rfl (fun z hz => by simp only [List.mem_cons, List.not_mem_nil, or_false] at hz; rcases hz with rfl | rfl; exact Or.inr ⟨by decide, "java/lang/IndexOutOfBoundsException", q1941, nc_299⟩; exact Or.inr ⟨by decide, "java/lang/UnsupportedOperationException", q2322, nc_347⟩) (by decide) (by decide) q1834 q1844 (fun z4_2 => ?_)
      refine (show Go g κ 18 [some (.ref x), some (.int v), some (.ref o), none] [.ref z4_2] [[(o, .inl (g.2.1 3, 1, .inr (.inl f)))], w0] 0 0 from ?_)
      refine g_astore_n (q := 19) (lv2 := [some (.ref x), some (.int v), some (.ref o), some (.ref z4_2)]) B dX0_commit_18 rfl (Nat.le_of_ble_eq_true rfl) (rv_r _) rfl ?_
      refine g_iconst (v := nI 3) (q := 20) B dX0_commit_19 rfl (by decide) ?_
      refine g_pk [1, 0] rfl rfl ?_
      refine (show Go g κ 20 [some (.ref x), some (.int v), some (.ref o), some (.ref z4_2)] [.int (nI 3)] [w0, [(o, .inl (g.2.1 3, 1, .inr (.inl f)))]] 0 0 from ?_)
      exact g_iret B E dX0_commit_20 (⟨3, C, f, w0, rfl, rfl, hw0, (Or.inr (Or.inr (Or.inr (⟨rfl, rfl, hx4⟩))))⟩)
  obtain ⟨u0_4, rfl, rfl, hu0_4, hF_4⟩ := hp4
  exact hF_4.elim
theorem moX1_goOn : Mo yX1_goOn 1 := by
  refine ⟨by decide, by decide, by decide +kernel⟩
theorem ct_X0_goOn_x (g : Gv) (J : Jd g) {x : Nat} {C : KsS} {v : Int32} {o : Nat} {f : Nat → Int64} {w0 : va_W} (hw0 : KgP g x C w0) (hC : KsB C) (hno : ¬ (inR v (zPs C).length = true ∧ ∃ (i : Nat) (r : PeS) (e : Nat), v = nI i ∧ (zPs C)[i]? = some r ∧ pEp r = some e ∧ e + 1 < (zTs C).length)) : Ct g yX0_goOn (wsW_ yX0_goOn cX0_goOn 4 (some .int) [(0, 9, 12, 19), (0, 9, 15, 27)]) 18 10 60 [.ref x, .int v, .ref o] [w0, [(o, .inl (g.2.1 3, 1, .inr (.inl f)))]] (fun (rv_ : Option Value) (rL_ : List va_W) => ∃ (kx : Nat) (C9 : KsS) (f9 : Nat → Int64) (u0 : va_W), rv_ = some (.int (nI kx)) ∧ rL_ = [u0, [(o, .inl (g.2.1 3, 1, .inr (.inl f9)))]] ∧ KgP g x C9 u0 ∧ ((kx = 0 ∧ C9 = C ∧ (f9 0 = (0 : Int32).toInt64) ∧ (False)) ∨ (kx = 1 ∧ C9 = C ∧ (¬ inR v (zPs C).length = true)) ∨ (kx = 2 ∧ C9 = C ∧ (∃ (i : Nat) (r : PeS), v = nI i ∧ (zPs C)[i]? = some r ∧ ¬ (∃ e, pEp r = some e ∧ e + 1 < (zTs C).length))))) noX := by
  refine Ct.ofW "KeygroveLaw" [some (.ref x), some (.int v), some (.ref o), none] rfl (by decide) rfl (Nat.le_of_ble_eq_true rfl) rfl ?_
  intro κ B E tb
  refine g_aload_n (q := 1) B dX0_goOn_0 rfl rfl (rv_r _) ?_
  refine g_iconst (v := nI 0) (q := 2) B dX0_goOn_1 rfl (by decide) ?_
  refine g_aload_n (q := 3) B dX0_goOn_2 rfl rfl (rv_r _) ?_
  refine g_iload_n (q := 4) B dX0_goOn_3 rfl rfl ?_
  refine g_callV (q := 7) (is := [0]) (kc2 := 0) (ks2 := 0) B [.int v] (ct_X1_goOn_x g J (x := x) (C := C) (v := v) hw0 (hC) (hno)) dX0_goOn_4 rfl (rc_in B (ci := 0) rfl (k := 0) rfl (KgP.hm hw0)) rfl q2753 q2754 q2755 q77 q2756 rfl rfl moX1_goOn rfl rfl (by decide) (by decide) (Nat.le_of_ble_eq_true rfl) (Nat.le_of_ble_eq_true rfl) (Nat.le_of_ble_eq_true rfl) (fun E4 L1 hx4 => ?_) (fun v4 L1 hp4 => ?_)
  · skip
    obtain ⟨rfl, hx4⟩ := hx4
    rcases hx4 with ⟨rfl, hx4⟩ | ⟨rfl, hx4⟩
    · skip
      refine g_catch B tb (nm := "java/lang/IndexOutOfBoundsException") [] (⟨0, 9, 12, 19⟩ : ExceptionTableEntry) [(⟨0, 9, 15, 27⟩ : ExceptionTableEntry)] rfl (fun z hz => by cases hz) (by decide) (by decide) q1941 q341 (fun z4_0 => ?_)
      refine (show Go g κ 12 [some (.ref x), some (.int v), some (.ref o), none] [.ref z4_0] [[(o, .inl (g.2.1 3, 1, .inr (.inl f)))], w0] 0 0 from ?_)
      refine g_astore_n (q := 13) (lv2 := [some (.ref x), some (.int v), some (.ref o), some (.ref z4_0)]) B dX0_goOn_12 rfl (Nat.le_of_ble_eq_true rfl) (rv_r _) rfl ?_
      refine g_iconst (v := nI 1) (q := 14) B dX0_goOn_13 rfl (by decide) ?_
      refine g_pk [1, 0] rfl rfl ?_
      refine (show Go g κ 14 [some (.ref x), some (.int v), some (.ref o), some (.ref z4_0)] [.int (nI 1)] [w0, [(o, .inl (g.2.1 3, 1, .inr (.inl f)))]] 0 0 from ?_)
      exact g_iret B E dX0_goOn_14 (⟨1, C, f, w0, rfl, rfl, hw0, (Or.inr (Or.inl (⟨rfl, rfl, hx4⟩)))⟩)
    · skip
      refine g_catch B tb (nm := "java/lang/UnsupportedOperationException") [(⟨0, 9, 12, 19⟩ : ExceptionTableEntry)] (⟨0, 9, 15, 27⟩ : ExceptionTableEntry) [] rfl (fun z hz => by simp only [List.mem_cons, List.not_mem_nil, or_false] at hz; rcases hz with rfl; exact Or.inr ⟨by decide, "java/lang/IndexOutOfBoundsException", q1941, nc_325⟩) (by decide) (by decide) q2322 q2336 (fun z4_1 => ?_)
      refine (show Go g κ 15 [some (.ref x), some (.int v), some (.ref o), none] [.ref z4_1] [[(o, .inl (g.2.1 3, 1, .inr (.inl f)))], w0] 0 0 from ?_)
      refine g_astore_n (q := 16) (lv2 := [some (.ref x), some (.int v), some (.ref o), some (.ref z4_1)]) B dX0_goOn_15 rfl (Nat.le_of_ble_eq_true rfl) (rv_r _) rfl ?_
      refine g_iconst (v := nI 2) (q := 17) B dX0_goOn_16 rfl (by decide) ?_
      refine g_pk [1, 0] rfl rfl ?_
      refine (show Go g κ 17 [some (.ref x), some (.int v), some (.ref o), some (.ref z4_1)] [.int (nI 2)] [w0, [(o, .inl (g.2.1 3, 1, .inr (.inl f)))]] 0 0 from ?_)
      exact g_iret B E dX0_goOn_17 (⟨2, C, f, w0, rfl, rfl, hw0, (Or.inr (Or.inr (⟨rfl, rfl, hx4⟩)))⟩)
  obtain ⟨u0_4, rfl, rfl, hu0_4, hF_4⟩ := hp4
  exact hF_4.elim
theorem moX1_join : Mo yX1_join 1 := by
  refine ⟨by decide, by decide, by decide +kernel⟩
theorem ct_X0_join_x (g : Gv) (J : Jd g) {x : Nat} {C : KsS} {v : Int32} {o : Nat} {f : Nat → Int64} {w0 : va_W} (hw0 : KgP g x C w0) (hC : KsB C) (hno : ¬ (inR v (zPs C).length = true ∧ ∃ (i : Nat) (r : PeS) (k : Nat), v = nI i ∧ (zPs C)[i]? = some r ∧ opI (zKs C) (pPk r) = some k)) : Ct g yX0_join (wsW_ yX0_join cX0_join 4 (some .int) [(0, 9, 12, 19), (0, 9, 15, 32)]) 18 10 60 [.ref x, .int v, .ref o] [w0, [(o, .inl (g.2.1 3, 1, .inr (.inl f)))]] (fun (rv_ : Option Value) (rL_ : List va_W) => ∃ (kx : Nat) (C9 : KsS) (f9 : Nat → Int64) (u0 : va_W), rv_ = some (.int (nI kx)) ∧ rL_ = [u0, [(o, .inl (g.2.1 3, 1, .inr (.inl f9)))]] ∧ KgP g x C9 u0 ∧ ((kx = 0 ∧ C9 = C ∧ (f9 0 = (0 : Int32).toInt64) ∧ (False)) ∨ (kx = 1 ∧ C9 = C ∧ (¬ inR v (zPs C).length = true)) ∨ (kx = 2 ∧ C9 = C ∧ (∃ (i : Nat) (r : PeS), v = nI i ∧ (zPs C)[i]? = some r ∧ opI (zKs C) (pPk r) = none)))) noX := by
  refine Ct.ofW "KeygroveLaw" [some (.ref x), some (.int v), some (.ref o), none] rfl (by decide) rfl (Nat.le_of_ble_eq_true rfl) rfl ?_
  intro κ B E tb
  refine g_aload_n (q := 1) B dX0_join_0 rfl rfl (rv_r _) ?_
  refine g_iconst (v := nI 0) (q := 2) B dX0_join_1 rfl (by decide) ?_
  refine g_aload_n (q := 3) B dX0_join_2 rfl rfl (rv_r _) ?_
  refine g_iload_n (q := 4) B dX0_join_3 rfl rfl ?_
  refine g_callV (q := 7) (is := [0]) (kc2 := 0) (ks2 := 0) B [.int v] (ct_X1_join_x g J (x := x) (C := C) (v := v) hw0 (hC) (hno)) dX0_join_4 rfl (rc_in B (ci := 0) rfl (k := 0) rfl (KgP.hm hw0)) rfl q2775 q2776 q2777 q77 q2778 rfl rfl moX1_join rfl rfl (by decide) (by decide) (Nat.le_of_ble_eq_true rfl) (Nat.le_of_ble_eq_true rfl) (Nat.le_of_ble_eq_true rfl) (fun E4 L1 hx4 => ?_) (fun v4 L1 hp4 => ?_)
  · skip
    obtain ⟨rfl, hx4⟩ := hx4
    rcases hx4 with ⟨rfl, hx4⟩ | ⟨rfl, hx4⟩
    · skip
      refine g_catch B tb (nm := "java/lang/IndexOutOfBoundsException") [] (⟨0, 9, 12, 19⟩ : ExceptionTableEntry) [(⟨0, 9, 15, 32⟩ : ExceptionTableEntry)] rfl (fun z hz => by cases hz) (by decide) (by decide) q1941 q341 (fun z4_0 => ?_)
      refine (show Go g κ 12 [some (.ref x), some (.int v), some (.ref o), none] [.ref z4_0] [[(o, .inl (g.2.1 3, 1, .inr (.inl f)))], w0] 0 0 from ?_)
      refine g_astore_n (q := 13) (lv2 := [some (.ref x), some (.int v), some (.ref o), some (.ref z4_0)]) B dX0_join_12 rfl (Nat.le_of_ble_eq_true rfl) (rv_r _) rfl ?_
      refine g_iconst (v := nI 1) (q := 14) B dX0_join_13 rfl (by decide) ?_
      refine g_pk [1, 0] rfl rfl ?_
      refine (show Go g κ 14 [some (.ref x), some (.int v), some (.ref o), some (.ref z4_0)] [.int (nI 1)] [w0, [(o, .inl (g.2.1 3, 1, .inr (.inl f)))]] 0 0 from ?_)
      exact g_iret B E dX0_join_14 (⟨1, C, f, w0, rfl, rfl, hw0, (Or.inr (Or.inl (⟨rfl, rfl, hx4⟩)))⟩)
    · skip
      refine g_catch B tb (nm := "java/util/NoSuchElementException") [(⟨0, 9, 12, 19⟩ : ExceptionTableEntry)] (⟨0, 9, 15, 32⟩ : ExceptionTableEntry) [] rfl (fun z hz => by simp only [List.mem_cons, List.not_mem_nil, or_false] at hz; rcases hz with rfl; exact Or.inr ⟨by decide, "java/lang/IndexOutOfBoundsException", q1941, nc_306⟩) (by decide) (by decide) q2352 q978 (fun z4_1 => ?_)
      refine (show Go g κ 15 [some (.ref x), some (.int v), some (.ref o), none] [.ref z4_1] [[(o, .inl (g.2.1 3, 1, .inr (.inl f)))], w0] 0 0 from ?_)
      refine g_astore_n (q := 16) (lv2 := [some (.ref x), some (.int v), some (.ref o), some (.ref z4_1)]) B dX0_join_15 rfl (Nat.le_of_ble_eq_true rfl) (rv_r _) rfl ?_
      refine g_iconst (v := nI 2) (q := 17) B dX0_join_16 rfl (by decide) ?_
      refine g_pk [1, 0] rfl rfl ?_
      refine (show Go g κ 17 [some (.ref x), some (.int v), some (.ref o), some (.ref z4_1)] [.int (nI 2)] [w0, [(o, .inl (g.2.1 3, 1, .inr (.inl f)))]] 0 0 from ?_)
      exact g_iret B E dX0_join_17 (⟨2, C, f, w0, rfl, rfl, hw0, (Or.inr (Or.inr (⟨rfl, rfl, hx4⟩)))⟩)
  obtain ⟨u0_4, rfl, rfl, hu0_4, hF_4⟩ := hp4
  exact hF_4.elim
theorem moX1_leaves : Mo yX1_leaves 0 := by
  refine ⟨by decide, by decide, by decide +kernel⟩
theorem ct_X0_leaves (g : Gv) (J : Jd g) {x : Nat} {C : KsS} {T : TrS} {o : Nat} {f : Nat → Int64} {w0 : va_W} (hw0 : KgP g x C w0) (hC : KsB C) (hT : zTs C ≠ [] → (zTs C)[(zTs C).length - 1]? = some T) : Ct g yX0_leaves (wsW_ yX0_leaves cX0_leaves 3 (some .int) [(0, 8, 11, 27)]) 11 10 60 [.ref x, .ref o] [w0, [(o, .inl (g.2.1 3, 1, .inr (.inl f)))]] (fun (rv_ : Option Value) (rL_ : List va_W) => ∃ (kx : Nat) (C9 : KsS) (f9 : Nat → Int64) (u0 : va_W), rv_ = some (.int (nI kx)) ∧ rL_ = [u0, [(o, .inl (g.2.1 3, 1, .inr (.inl f9)))]] ∧ KgP g x C9 u0 ∧ ((kx = 0 ∧ C9 = C ∧ (f9 0 = (nI (2 ^ T.1)).toInt64) ∧ (zTs C ≠ [])) ∨ (kx = 1 ∧ C9 = C ∧ (¬ zTs C ≠ [])))) noX := by
  refine Ct.ofW "KeygroveLaw" [some (.ref x), some (.ref o), none] rfl (by decide) rfl (Nat.le_of_ble_eq_true rfl) rfl ?_
  intro κ B E tb
  refine g_aload_n (q := 1) B dX0_leaves_0 rfl rfl (rv_r _) ?_
  refine g_iconst (v := nI 0) (q := 2) B dX0_leaves_1 rfl (by decide) ?_
  refine g_aload_n (q := 3) B dX0_leaves_2 rfl rfl (rv_r _) ?_
  refine g_callV (q := 6) (is := [0]) (kc2 := 0) (ks2 := 0) B [] (ct_X1_leaves g J (x := x) (C := C) (T := T) hw0 (hC) (hT)) dX0_leaves_3 rfl (rc_in B (ci := 0) rfl (k := 0) rfl (KgP.hm hw0)) rfl q2796 q2797 q2798 q77 q2799 rfl rfl moX1_leaves rfl rfl (by decide) (by decide) (Nat.le_of_ble_eq_true rfl) (Nat.le_of_ble_eq_true rfl) (Nat.le_of_ble_eq_true rfl) (fun E3 L1 hx3 => ?_) (fun v3 L1 hp3 => ?_)
  · skip
    obtain ⟨rfl, hx3⟩ := hx3
    obtain ⟨rfl, hx3⟩ := hx3
    refine g_catch B tb (nm := "java/lang/UnsupportedOperationException") [] (⟨0, 8, 11, 27⟩ : ExceptionTableEntry) [] rfl (fun z hz => by cases hz) (by decide) (by decide) q2322 q2336 (fun z3_0 => ?_)
    refine (show Go g κ 11 [some (.ref x), some (.ref o), none] [.ref z3_0] [[(o, .inl (g.2.1 3, 1, .inr (.inl f)))], w0] 0 0 from ?_)
    refine g_astore_n (q := 12) (lv2 := [some (.ref x), some (.ref o), some (.ref z3_0)]) B dX0_leaves_11 rfl (Nat.le_of_ble_eq_true rfl) (rv_r _) rfl ?_
    refine g_iconst (v := nI 1) (q := 13) B dX0_leaves_12 rfl (by decide) ?_
    refine g_pk [1, 0] rfl rfl ?_
    refine (show Go g κ 13 [some (.ref x), some (.ref o), some (.ref z3_0)] [.int (nI 1)] [w0, [(o, .inl (g.2.1 3, 1, .inr (.inl f)))]] 0 0 from ?_)
    exact g_iret B E dX0_leaves_13 (⟨1, C, f, w0, rfl, rfl, hw0, (Or.inr (⟨rfl, rfl, hx3⟩))⟩)
  obtain ⟨u0_3, rfl, rfl, hu0_3, hne_3⟩ := hp3
  refine (show Go g κ 6 [some (.ref x), some (.ref o), none] [.int (nI (2 ^ T.1)), .int (nI 0), .ref o] [[(o, .inl (g.2.1 3, 1, .inr (.inl f)))], u0_3] 0 0 from ?_)
  refine g_i2l (v := (nI (2 ^ T.1)).toInt64) (q := 7) B dX0_leaves_6 rfl rfl ?_
  refine g_last (q := 8) (L2 := [[(o, .inl (g.2.1 3, 1, .inr (.inl (vp_updL f 0 ((nI (2 ^ T.1)).toInt64)))))], u0_3]) B (k := 0) dX0_leaves_7 rfl rfl (vp_in_nI (by omega) (by omega)) (by rw [nI_clamp (by omega)] <;> rfl) ?_
  refine g_goto (tgt := 14) B dX0_leaves_8 (by decide) ?_
  refine g_iconst (v := nI 0) (q := 15) B dX0_leaves_14 rfl (by decide) ?_
  refine g_pk [1, 0] rfl rfl ?_
  refine (show Go g κ 15 [some (.ref x), some (.ref o), none] [.int (nI 0)] [u0_3, [(o, .inl (g.2.1 3, 1, .inr (.inl (vp_updL f 0 ((nI (2 ^ T.1)).toInt64)))))]] 0 0 from ?_)
  exact g_iret B E dX0_leaves_15 (⟨0, C, vp_updL f 0 ((nI (2 ^ T.1)).toInt64), u0_3, rfl, rfl, hu0_3, (Or.inl (⟨rfl, rfl, rfl, hne_3⟩))⟩)
theorem moX1_isBlank : Mo yX1_isBlank 1 := by
  refine ⟨by decide, by decide, by decide +kernel⟩
theorem ct_X0_isBlank (g : Gv) (J : Jd g) {x : Nat} {C : KsS} {T : TrS} {v : Int32} {o : Nat} {f : Nat → Int64} {w0 : va_W} (hw0 : KgP g x C w0) (hC : KsB C) (hT : zTs C ≠ [] → (zTs C)[(zTs C).length - 1]? = some T) : Ct g yX0_isBlank (wsW_ yX0_isBlank cX0_isBlank 4 (some .int) [(0, 16, 19, 19)]) 11 10 60 [.ref x, .int v, .ref o] [w0, [(o, .inl (g.2.1 3, 1, .inr (.inl f)))]] (fun (rv_ : Option Value) (rL_ : List va_W) => ∃ (kx : Nat) (C9 : KsS) (f9 : Nat → Int64) (u0 : va_W), rv_ = some (.int (nI kx)) ∧ rL_ = [u0, [(o, .inl (g.2.1 3, 1, .inr (.inl f9)))]] ∧ KgP g x C9 u0 ∧ ((kx = 0 ∧ ∃ (i : Nat), C9 = C ∧ (((T.2.1 i = none) → f9 0 = 1) ∧ (¬ (T.2.1 i = none) → f9 0 = 0)) ∧ (v = nI i) ∧ (i < 2 * 2 ^ T.1 - 1) ∧ (zTs C ≠ [])) ∨ (kx = 1 ∧ C9 = C ∧ (¬ (zTs C ≠ [] ∧ inR v (2 * 2 ^ T.1 - 1) = true))))) noX := by
  refine Ct.ofW "KeygroveLaw" [some (.ref x), some (.int v), some (.ref o), none] rfl (by decide) rfl (Nat.le_of_ble_eq_true rfl) rfl ?_
  intro κ B E tb
  refine g_aload_n (q := 1) B dX0_isBlank_0 rfl rfl (rv_r _) ?_
  refine g_iconst (v := nI 0) (q := 2) B dX0_isBlank_1 rfl (by decide) ?_
  refine g_aload_n (q := 3) B dX0_isBlank_2 rfl rfl (rv_r _) ?_
  refine g_iload_n (q := 4) B dX0_isBlank_3 rfl rfl ?_
  refine g_callV (q := 7) (is := [0]) (kc2 := 0) (ks2 := 0) B [.int v] (ct_X1_isBlank g J (x := x) (C := C) (T := T) (v := v) hw0 (hC) (hT)) dX0_isBlank_4 rfl (rc_in B (ci := 0) rfl (k := 0) rfl (KgP.hm hw0)) rfl q2803 q2804 q2805 q77 q2806 rfl rfl moX1_isBlank rfl rfl (by decide) (by decide) (Nat.le_of_ble_eq_true rfl) (Nat.le_of_ble_eq_true rfl) (Nat.le_of_ble_eq_true rfl) (fun E4 L1 hx4 => ?_) (fun v4 L1 hp4 => ?_)
  · skip
    obtain ⟨rfl, hx4⟩ := hx4
    obtain ⟨rfl, hx4⟩ := hx4
    refine g_catch B tb (nm := "java/lang/IndexOutOfBoundsException") [] (⟨0, 16, 19, 19⟩ : ExceptionTableEntry) [] rfl (fun z hz => by cases hz) (by decide) (by decide) q1941 q341 (fun z4_0 => ?_)
    refine (show Go g κ 19 [some (.ref x), some (.int v), some (.ref o), none] [.ref z4_0] [[(o, .inl (g.2.1 3, 1, .inr (.inl f)))], w0] 0 0 from ?_)
    refine g_astore_n (q := 20) (lv2 := [some (.ref x), some (.int v), some (.ref o), some (.ref z4_0)]) B dX0_isBlank_19 rfl (Nat.le_of_ble_eq_true rfl) (rv_r _) rfl ?_
    refine g_iconst (v := nI 1) (q := 21) B dX0_isBlank_20 rfl (by decide) ?_
    refine g_pk [1, 0] rfl rfl ?_
    refine (show Go g κ 21 [some (.ref x), some (.int v), some (.ref o), some (.ref z4_0)] [.int (nI 1)] [w0, [(o, .inl (g.2.1 3, 1, .inr (.inl f)))]] 0 0 from ?_)
    exact g_iret B E dX0_isBlank_21 (⟨1, C, f, w0, rfl, rfl, hw0, (Or.inr (⟨rfl, rfl, hx4⟩))⟩)
  obtain ⟨i4, u0_4, rfl, rfl, hu0_4, hv_4, hi_4, hne_4⟩ := hp4
  refine (show Go g κ 7 [some (.ref x), some (.int v), some (.ref o), none] [.int (nI (if T.2.1 i4 = none then 1 else 0)), .int (nI 0), .ref o] [[(o, .inl (g.2.1 3, 1, .inr (.inl f)))], u0_4] 0 0 from ?_)
  refine g_if_eq (tgt := 14) (q := 10) B dX0_isBlank_7 rfl (by decide) (bo_eq) (fun c7 => ?_) (fun c7 => ?_)
  · skip
    refine g_lconst (v := 0) (q := 15) B dX0_isBlank_14 rfl (by decide) ?_
    refine g_last (q := 16) (L2 := [[(o, .inl (g.2.1 3, 1, .inr (.inl (vp_updL f 0 0))))], u0_4]) B (k := 0) dX0_isBlank_15 rfl rfl (vp_in_nI (by omega) (by omega)) (by rw [nI_clamp (by omega)] <;> rfl) ?_
    refine g_goto (tgt := 22) B dX0_isBlank_16 (by decide) ?_
    refine g_iconst (v := nI 0) (q := 23) B dX0_isBlank_22 rfl (by decide) ?_
    refine g_pk [1, 0] rfl rfl ?_
    refine (show Go g κ 23 [some (.ref x), some (.int v), some (.ref o), none] [.int (nI 0)] [u0_4, [(o, .inl (g.2.1 3, 1, .inr (.inl (vp_updL f 0 0))))]] 0 0 from ?_)
    exact g_iret B E dX0_isBlank_23 (⟨0, C, vp_updL f 0 0, u0_4, rfl, rfl, hu0_4, (Or.inl (⟨rfl, i4, rfl, ⟨fun z => absurd z c7, fun _ => rfl⟩, hv_4, hi_4, hne_4⟩))⟩)
  · skip
    have c7 := Classical.not_not.mp c7
    refine g_lconst (v := 1) (q := 11) B dX0_isBlank_10 rfl (by decide) ?_
    refine g_goto (tgt := 15) B dX0_isBlank_11 (by decide) ?_
    refine g_last (q := 16) (L2 := [[(o, .inl (g.2.1 3, 1, .inr (.inl (vp_updL f 0 1))))], u0_4]) B (k := 0) dX0_isBlank_15 rfl rfl (vp_in_nI (by omega) (by omega)) (by rw [nI_clamp (by omega)] <;> rfl) ?_
    refine g_goto (tgt := 22) B dX0_isBlank_16 (by decide) ?_
    refine g_iconst (v := nI 0) (q := 23) B dX0_isBlank_22 rfl (by decide) ?_
    refine g_pk [1, 0] rfl rfl ?_
    refine (show Go g κ 23 [some (.ref x), some (.int v), some (.ref o), none] [.int (nI 0)] [u0_4, [(o, .inl (g.2.1 3, 1, .inr (.inl (vp_updL f 0 1))))]] 0 0 from ?_)
    exact g_iret B E dX0_isBlank_23 (⟨0, C, vp_updL f 0 1, u0_4, rfl, rfl, hu0_4, (Or.inl (⟨rfl, i4, rfl, ⟨fun _ => rfl, fun z => absurd c7 z⟩, hv_4, hi_4, hne_4⟩))⟩)
theorem moX1_late : Mo yX1_late 1 := by
  refine ⟨by decide, by decide, by decide +kernel⟩
theorem ct_X0_late (g : Gv) (J : Jd g) {x : Nat} {C : KsS} {T : TrS} {v : Int32} {o : Nat} {f : Nat → Int64} {w0 : va_W} (hw0 : KgP g x C w0) (hC : KsB C) (hT : zTs C ≠ [] → (zTs C)[(zTs C).length - 1]? = some T) : Ct g yX0_late (wsW_ yX0_late cX0_late 4 (some .int) [(0, 9, 12, 19)]) 11 10 60 [.ref x, .int v, .ref o] [w0, [(o, .inl (g.2.1 3, 1, .inr (.inl f)))]] (fun (rv_ : Option Value) (rL_ : List va_W) => ∃ (kx : Nat) (C9 : KsS) (f9 : Nat → Int64) (u0 : va_W), rv_ = some (.int (nI kx)) ∧ rL_ = [u0, [(o, .inl (g.2.1 3, 1, .inr (.inl f9)))]] ∧ KgP g x C9 u0 ∧ ((kx = 0 ∧ ∃ (i : Nat), C9 = C ∧ (f9 0 = (nI (T.2.2.1 i)).toInt64) ∧ (v = nI i) ∧ (i < 2 * 2 ^ T.1 - 1) ∧ (zTs C ≠ [])) ∨ (kx = 1 ∧ C9 = C ∧ (¬ (zTs C ≠ [] ∧ inR v (2 * 2 ^ T.1 - 1) = true))))) noX := by
  refine Ct.ofW "KeygroveLaw" [some (.ref x), some (.int v), some (.ref o), none] rfl (by decide) rfl (Nat.le_of_ble_eq_true rfl) rfl ?_
  intro κ B E tb
  refine g_aload_n (q := 1) B dX0_late_0 rfl rfl (rv_r _) ?_
  refine g_iconst (v := nI 0) (q := 2) B dX0_late_1 rfl (by decide) ?_
  refine g_aload_n (q := 3) B dX0_late_2 rfl rfl (rv_r _) ?_
  refine g_iload_n (q := 4) B dX0_late_3 rfl rfl ?_
  refine g_callV (q := 7) (is := [0]) (kc2 := 0) (ks2 := 0) B [.int v] (ct_X1_late g J (x := x) (C := C) (T := T) (v := v) hw0 (hC) (hT)) dX0_late_4 rfl (rc_in B (ci := 0) rfl (k := 0) rfl (KgP.hm hw0)) rfl q2814 q2815 q2816 q77 q2817 rfl rfl moX1_late rfl rfl (by decide) (by decide) (Nat.le_of_ble_eq_true rfl) (Nat.le_of_ble_eq_true rfl) (Nat.le_of_ble_eq_true rfl) (fun E4 L1 hx4 => ?_) (fun v4 L1 hp4 => ?_)
  · skip
    obtain ⟨rfl, hx4⟩ := hx4
    obtain ⟨rfl, hx4⟩ := hx4
    refine g_catch B tb (nm := "java/lang/IndexOutOfBoundsException") [] (⟨0, 9, 12, 19⟩ : ExceptionTableEntry) [] rfl (fun z hz => by cases hz) (by decide) (by decide) q1941 q341 (fun z4_0 => ?_)
    refine (show Go g κ 12 [some (.ref x), some (.int v), some (.ref o), none] [.ref z4_0] [[(o, .inl (g.2.1 3, 1, .inr (.inl f)))], w0] 0 0 from ?_)
    refine g_astore_n (q := 13) (lv2 := [some (.ref x), some (.int v), some (.ref o), some (.ref z4_0)]) B dX0_late_12 rfl (Nat.le_of_ble_eq_true rfl) (rv_r _) rfl ?_
    refine g_iconst (v := nI 1) (q := 14) B dX0_late_13 rfl (by decide) ?_
    refine g_pk [1, 0] rfl rfl ?_
    refine (show Go g κ 14 [some (.ref x), some (.int v), some (.ref o), some (.ref z4_0)] [.int (nI 1)] [w0, [(o, .inl (g.2.1 3, 1, .inr (.inl f)))]] 0 0 from ?_)
    exact g_iret B E dX0_late_14 (⟨1, C, f, w0, rfl, rfl, hw0, (Or.inr (⟨rfl, rfl, hx4⟩))⟩)
  obtain ⟨i4, u0_4, rfl, rfl, hu0_4, hv_4, hi_4, hne_4⟩ := hp4
  refine (show Go g κ 7 [some (.ref x), some (.int v), some (.ref o), none] [.int (nI (T.2.2.1 i4)), .int (nI 0), .ref o] [[(o, .inl (g.2.1 3, 1, .inr (.inl f)))], u0_4] 0 0 from ?_)
  refine g_i2l (v := (nI (T.2.2.1 i4)).toInt64) (q := 8) B dX0_late_7 rfl rfl ?_
  refine g_last (q := 9) (L2 := [[(o, .inl (g.2.1 3, 1, .inr (.inl (vp_updL f 0 ((nI (T.2.2.1 i4)).toInt64)))))], u0_4]) B (k := 0) dX0_late_8 rfl rfl (vp_in_nI (by omega) (by omega)) (by rw [nI_clamp (by omega)] <;> rfl) ?_
  refine g_goto (tgt := 15) B dX0_late_9 (by decide) ?_
  refine g_iconst (v := nI 0) (q := 16) B dX0_late_15 rfl (by decide) ?_
  refine g_pk [1, 0] rfl rfl ?_
  refine (show Go g κ 16 [some (.ref x), some (.int v), some (.ref o), none] [.int (nI 0)] [u0_4, [(o, .inl (g.2.1 3, 1, .inr (.inl (vp_updL f 0 ((nI (T.2.2.1 i4)).toInt64)))))]] 0 0 from ?_)
  exact g_iret B E dX0_late_16 (⟨0, C, vp_updL f 0 ((nI (T.2.2.1 i4)).toInt64), u0_4, rfl, rfl, hu0_4, (Or.inl (⟨rfl, i4, rfl, rfl, hv_4, hi_4, hne_4⟩))⟩)
theorem moX1_cover : Mo yX1_cover 1 := by
  refine ⟨by decide, by decide, by decide +kernel⟩
theorem ct_X0_cover (g : Gv) (J : Jd g) {x : Nat} {C : KsS} {T : TrS} {v : Int32} {o : Nat} {f : Nat → Int64} {w0 : va_W} (hw0 : KgP g x C w0) (hC : KsB C) (hT : zTs C ≠ [] → (zTs C)[(zTs C).length - 1]? = some T) : Ct g yX0_cover (wsW_ yX0_cover cX0_cover 4 (some .int) [(0, 9, 12, 19)]) 15 (10 + 272) (60 + 4 * 1000) [.ref x, .int v, .ref o] [w0, [(o, .inl (g.2.1 3, 1, .inr (.inl f)))]] (fun (rv_ : Option Value) (rL_ : List va_W) => ∃ (kx : Nat) (C9 : KsS) (f9 : Nat → Int64) (u0 : va_W), rv_ = some (.int (nI kx)) ∧ rL_ = [u0, [(o, .inl (g.2.1 3, 1, .inr (.inl f9)))]] ∧ KgP g x C9 u0 ∧ ((kx = 0 ∧ ∃ (i : Nat), C9 = C ∧ (f9 0 = (nI ((cov T i).length)).toInt64) ∧ (v = nI i) ∧ (i < 2 * 2 ^ T.1 - 1) ∧ (zTs C ≠ [])) ∨ (kx = 1 ∧ C9 = C ∧ (¬ (zTs C ≠ [] ∧ inR v (2 * 2 ^ T.1 - 1) = true))))) noX := by
  refine Ct.ofW "KeygroveLaw" [some (.ref x), some (.int v), some (.ref o), none] rfl (by decide) rfl (Nat.le_of_ble_eq_true rfl) rfl ?_
  intro κ B E tb
  refine g_aload_n (q := 1) B dX0_cover_0 rfl rfl (rv_r _) ?_
  refine g_iconst (v := nI 0) (q := 2) B dX0_cover_1 rfl (by decide) ?_
  refine g_aload_n (q := 3) B dX0_cover_2 rfl rfl (rv_r _) ?_
  refine g_iload_n (q := 4) B dX0_cover_3 rfl rfl ?_
  refine g_callV (q := 7) (is := [0]) (kc2 := (10 + 272) - (10 + 272)) (ks2 := (60 + 4 * 1000) - (60 + 4 * 1000)) B [.int v] (ct_X1_cover g J (x := x) (C := C) (T := T) (v := v) hw0 (hC) (hT)) dX0_cover_4 rfl (rc_in B (ci := 0) rfl (k := 0) rfl (KgP.hm hw0)) rfl q2821 q2822 q2823 q77 q2824 rfl rfl moX1_cover rfl rfl (by decide) (by decide) (Nat.le_of_ble_eq_true rfl) (by omega) (by omega) (fun E4 L1 hx4 => ?_) (fun v4 L1 hp4 => ?_)
  · skip
    obtain ⟨rfl, hx4⟩ := hx4
    obtain ⟨rfl, hx4⟩ := hx4
    refine g_catch B tb (nm := "java/lang/IndexOutOfBoundsException") [] (⟨0, 9, 12, 19⟩ : ExceptionTableEntry) [] rfl (fun z hz => by cases hz) (by decide) (by decide) q1941 q341 (fun z4_0 => ?_)
    refine (show Go g κ 12 [some (.ref x), some (.int v), some (.ref o), none] [.ref z4_0] [[(o, .inl (g.2.1 3, 1, .inr (.inl f)))], w0] ((10 + 272) - (10 + 272)) ((60 + 4 * 1000) - (60 + 4 * 1000)) from ?_)
    refine g_astore_n (q := 13) (lv2 := [some (.ref x), some (.int v), some (.ref o), some (.ref z4_0)]) B dX0_cover_12 rfl (Nat.le_of_ble_eq_true rfl) (rv_r _) rfl ?_
    refine g_iconst (v := nI 1) (q := 14) B dX0_cover_13 rfl (by decide) ?_
    refine g_pk [1, 0] rfl rfl ?_
    refine (show Go g κ 14 [some (.ref x), some (.int v), some (.ref o), some (.ref z4_0)] [.int (nI 1)] [w0, [(o, .inl (g.2.1 3, 1, .inr (.inl f)))]] ((10 + 272) - (10 + 272)) ((60 + 4 * 1000) - (60 + 4 * 1000)) from ?_)
    exact g_iret B E dX0_cover_14 (⟨1, C, f, w0, rfl, rfl, hw0, (Or.inr (⟨rfl, rfl, hx4⟩))⟩)
  obtain ⟨i4, u0_4, rfl, rfl, hu0_4, hv_4, hi_4, hne_4⟩ := hp4
  refine (show Go g κ 7 [some (.ref x), some (.int v), some (.ref o), none] [.int (nI ((cov T i4).length)), .int (nI 0), .ref o] [[(o, .inl (g.2.1 3, 1, .inr (.inl f)))], u0_4] ((10 + 272) - (10 + 272)) ((60 + 4 * 1000) - (60 + 4 * 1000)) from ?_)
  refine g_i2l (v := (nI ((cov T i4).length)).toInt64) (q := 8) B dX0_cover_7 rfl rfl ?_
  refine g_last (q := 9) (L2 := [[(o, .inl (g.2.1 3, 1, .inr (.inl (vp_updL f 0 ((nI ((cov T i4).length)).toInt64)))))], u0_4]) B (k := 0) dX0_cover_8 rfl rfl (vp_in_nI (by omega) (by omega)) (by rw [nI_clamp (by omega)] <;> rfl) ?_
  refine g_goto (tgt := 15) B dX0_cover_9 (by decide) ?_
  refine g_iconst (v := nI 0) (q := 16) B dX0_cover_15 rfl (by decide) ?_
  refine g_pk [1, 0] rfl rfl ?_
  refine (show Go g κ 16 [some (.ref x), some (.int v), some (.ref o), none] [.int (nI 0)] [u0_4, [(o, .inl (g.2.1 3, 1, .inr (.inl (vp_updL f 0 ((nI ((cov T i4).length)).toInt64)))))]] ((10 + 272) - (10 + 272)) ((60 + 4 * 1000) - (60 + 4 * 1000)) from ?_)
  exact g_iret B E dX0_cover_16 (⟨0, C, vp_updL f 0 ((nI ((cov T i4).length)).toInt64), u0_4, rfl, rfl, hu0_4, (Or.inl (⟨rfl, i4, rfl, rfl, hv_4, hi_4, hne_4⟩))⟩)
theorem moX1_coverAt : Mo yX1_coverAt 2 := by
  refine ⟨by decide, by decide, by decide +kernel⟩
theorem ct_X0_coverAt (g : Gv) (J : Jd g) {x : Nat} {C : KsS} {T : TrS} {v : Int32} {u : Int32} {o : Nat} {f : Nat → Int64} {w0 : va_W} (hw0 : KgP g x C w0) (hC : KsB C) (hT : zTs C ≠ [] → (zTs C)[(zTs C).length - 1]? = some T) : Ct g yX0_coverAt (wsW_ yX0_coverAt cX0_coverAt 5 (some .int) [(0, 10, 13, 19), (0, 10, 17, 32)]) 15 (10 + 272) (60 + 4 * 1000) [.ref x, .int v, .int u, .ref o] [w0, [(o, .inl (g.2.1 3, 1, .inr (.inl f)))]] (fun (rv_ : Option Value) (rL_ : List va_W) => ∃ (kx : Nat) (C9 : KsS) (f9 : Nat → Int64) (u0 : va_W), rv_ = some (.int (nI kx)) ∧ rL_ = [u0, [(o, .inl (g.2.1 3, 1, .inr (.inl f9)))]] ∧ KgP g x C9 u0 ∧ ((kx = 0 ∧ ∃ (i : Nat) (j : Nat) (n : Nat), C9 = C ∧ (f9 0 = (nI n).toInt64) ∧ (v = nI i) ∧ (i < 2 * 2 ^ T.1 - 1) ∧ (zTs C ≠ []) ∧ (u = nI j) ∧ ((cov T i)[j]? = some n)) ∨ (kx = 1 ∧ C9 = C ∧ (¬ (zTs C ≠ [] ∧ inR v (2 * 2 ^ T.1 - 1) = true))) ∨ (kx = 2 ∧ C9 = C ∧ (∃ i : Nat, v = nI i ∧ i < 2 * 2 ^ T.1 - 1 ∧ zTs C ≠ [] ∧ ¬ inR u (cov T i).length = true)))) noX := by
  refine Ct.ofW "KeygroveLaw" [some (.ref x), some (.int v), some (.int u), some (.ref o), none] rfl (by decide) rfl (Nat.le_of_ble_eq_true rfl) rfl ?_
  intro κ B E tb
  refine g_aload_n (q := 1) B dX0_coverAt_0 rfl rfl (rv_r _) ?_
  refine g_iconst (v := nI 0) (q := 2) B dX0_coverAt_1 rfl (by decide) ?_
  refine g_aload_n (q := 3) B dX0_coverAt_2 rfl rfl (rv_r _) ?_
  refine g_iload_n (q := 4) B dX0_coverAt_3 rfl rfl ?_
  refine g_iload_n (q := 5) B dX0_coverAt_4 rfl rfl ?_
  refine g_callV (q := 8) (is := [0]) (kc2 := (10 + 272) - (10 + 272)) (ks2 := (60 + 4 * 1000) - (60 + 4 * 1000)) B [.int v, .int u] (ct_X1_coverAt g J (x := x) (C := C) (T := T) (v := v) (u := u) hw0 (hC) (hT)) dX0_coverAt_5 rfl (rc_in B (ci := 0) rfl (k := 0) rfl (KgP.hm hw0)) rfl q2828 q2829 q2830 q77 q2831 rfl rfl moX1_coverAt rfl rfl (by decide) (by decide) (Nat.le_of_ble_eq_true rfl) (by omega) (by omega) (fun E5 L1 hx5 => ?_) (fun v5 L1 hp5 => ?_)
  · skip
    obtain ⟨rfl, hx5⟩ := hx5
    rcases hx5 with ⟨rfl, hx5⟩ | ⟨rfl, hx5⟩
    · skip
      refine g_catch B tb (nm := "java/lang/IndexOutOfBoundsException") [] (⟨0, 10, 13, 19⟩ : ExceptionTableEntry) [(⟨0, 10, 17, 32⟩ : ExceptionTableEntry)] rfl (fun z hz => by cases hz) (by decide) (by decide) q1941 q341 (fun z5_0 => ?_)
      refine (show Go g κ 13 [some (.ref x), some (.int v), some (.int u), some (.ref o), none] [.ref z5_0] [[(o, .inl (g.2.1 3, 1, .inr (.inl f)))], w0] ((10 + 272) - (10 + 272)) ((60 + 4 * 1000) - (60 + 4 * 1000)) from ?_)
      refine g_astore (q := 15) (lv2 := [some (.ref x), some (.int v), some (.int u), some (.ref o), some (.ref z5_0)]) B dX0_coverAt_13 rfl (Nat.le_of_ble_eq_true rfl) (rv_r _) rfl ?_
      refine g_iconst (v := nI 1) (q := 16) B dX0_coverAt_15 rfl (by decide) ?_
      refine g_pk [1, 0] rfl rfl ?_
      refine (show Go g κ 16 [some (.ref x), some (.int v), some (.int u), some (.ref o), some (.ref z5_0)] [.int (nI 1)] [w0, [(o, .inl (g.2.1 3, 1, .inr (.inl f)))]] ((10 + 272) - (10 + 272)) ((60 + 4 * 1000) - (60 + 4 * 1000)) from ?_)
      exact g_iret B E dX0_coverAt_16 (⟨1, C, f, w0, rfl, rfl, hw0, (Or.inr (Or.inl (⟨rfl, rfl, hx5⟩)))⟩)
    · skip
      refine g_catch B tb (nm := "java/util/NoSuchElementException") [(⟨0, 10, 13, 19⟩ : ExceptionTableEntry)] (⟨0, 10, 17, 32⟩ : ExceptionTableEntry) [] rfl (fun z hz => by simp only [List.mem_cons, List.not_mem_nil, or_false] at hz; rcases hz with rfl; exact Or.inr ⟨by decide, "java/lang/IndexOutOfBoundsException", q1941, nc_306⟩) (by decide) (by decide) q2352 q978 (fun z5_1 => ?_)
      refine (show Go g κ 17 [some (.ref x), some (.int v), some (.int u), some (.ref o), none] [.ref z5_1] [[(o, .inl (g.2.1 3, 1, .inr (.inl f)))], w0] ((10 + 272) - (10 + 272)) ((60 + 4 * 1000) - (60 + 4 * 1000)) from ?_)
      refine g_astore (q := 19) (lv2 := [some (.ref x), some (.int v), some (.int u), some (.ref o), some (.ref z5_1)]) B dX0_coverAt_17 rfl (Nat.le_of_ble_eq_true rfl) (rv_r _) rfl ?_
      refine g_iconst (v := nI 2) (q := 20) B dX0_coverAt_19 rfl (by decide) ?_
      refine g_pk [1, 0] rfl rfl ?_
      refine (show Go g κ 20 [some (.ref x), some (.int v), some (.int u), some (.ref o), some (.ref z5_1)] [.int (nI 2)] [w0, [(o, .inl (g.2.1 3, 1, .inr (.inl f)))]] ((10 + 272) - (10 + 272)) ((60 + 4 * 1000) - (60 + 4 * 1000)) from ?_)
      exact g_iret B E dX0_coverAt_20 (⟨2, C, f, w0, rfl, rfl, hw0, (Or.inr (Or.inr (⟨rfl, rfl, hx5⟩)))⟩)
  obtain ⟨i5, j5, n5, u0_5, rfl, rfl, hu0_5, hv_5, hi_5, hne_5, hu_5, hn_5⟩ := hp5
  refine (show Go g κ 8 [some (.ref x), some (.int v), some (.int u), some (.ref o), none] [.int (nI n5), .int (nI 0), .ref o] [[(o, .inl (g.2.1 3, 1, .inr (.inl f)))], u0_5] ((10 + 272) - (10 + 272)) ((60 + 4 * 1000) - (60 + 4 * 1000)) from ?_)
  refine g_i2l (v := (nI n5).toInt64) (q := 9) B dX0_coverAt_8 rfl rfl ?_
  refine g_last (q := 10) (L2 := [[(o, .inl (g.2.1 3, 1, .inr (.inl (vp_updL f 0 ((nI n5).toInt64)))))], u0_5]) B (k := 0) dX0_coverAt_9 rfl rfl (vp_in_nI (by omega) (by omega)) (by rw [nI_clamp (by omega)] <;> rfl) ?_
  refine g_goto (tgt := 21) B dX0_coverAt_10 (by decide) ?_
  refine g_iconst (v := nI 0) (q := 22) B dX0_coverAt_21 rfl (by decide) ?_
  refine g_pk [1, 0] rfl rfl ?_
  refine (show Go g κ 22 [some (.ref x), some (.int v), some (.int u), some (.ref o), none] [.int (nI 0)] [u0_5, [(o, .inl (g.2.1 3, 1, .inr (.inl (vp_updL f 0 ((nI n5).toInt64)))))]] ((10 + 272) - (10 + 272)) ((60 + 4 * 1000) - (60 + 4 * 1000)) from ?_)
  exact g_iret B E dX0_coverAt_22 (⟨0, C, vp_updL f 0 ((nI n5).toInt64), u0_5, rfl, rfl, hu0_5, (Or.inl (⟨rfl, i5, j5, n5, rfl, rfl, hv_5, hi_5, hne_5, hu_5, hn_5⟩))⟩)
theorem moX1_personAt : Mo yX1_personAt 1 := by
  refine ⟨by decide, by decide, by decide +kernel⟩
theorem ct_X0_personAt (g : Gv) (J : Jd g) {x : Nat} {C : KsS} {T : TrS} {v : Int32} {o : Nat} {f : Nat → Int64} {w0 : va_W} (hw0 : KgP g x C w0) (hC : KsB C) (hT : zTs C ≠ [] → (zTs C)[(zTs C).length - 1]? = some T) : Ct g yX0_personAt (wsW_ yX0_personAt cX0_personAt 4 (some .int) [(0, 9, 12, 19), (0, 9, 15, 32)]) 11 10 60 [.ref x, .int v, .ref o] [w0, [(o, .inl (g.2.1 3, 1, .inr (.inl f)))]] (fun (rv_ : Option Value) (rL_ : List va_W) => ∃ (kx : Nat) (C9 : KsS) (f9 : Nat → Int64) (u0 : va_W), rv_ = some (.int (nI kx)) ∧ rL_ = [u0, [(o, .inl (g.2.1 3, 1, .inr (.inl f9)))]] ∧ KgP g x C9 u0 ∧ ((kx = 0 ∧ ∃ (i : Nat) (p : Nat), C9 = C ∧ (f9 0 = (nI p).toInt64) ∧ (v = nI i) ∧ (i < 2 ^ T.1) ∧ (zTs C ≠ []) ∧ (T.2.2.2 i = some p)) ∨ (kx = 1 ∧ C9 = C ∧ (¬ (zTs C ≠ [] ∧ inR v (2 ^ T.1) = true))) ∨ (kx = 2 ∧ C9 = C ∧ (∃ i : Nat, v = nI i ∧ i < 2 ^ T.1 ∧ zTs C ≠ [] ∧ T.2.2.2 i = none)))) noX := by
  refine Ct.ofW "KeygroveLaw" [some (.ref x), some (.int v), some (.ref o), none] rfl (by decide) rfl (Nat.le_of_ble_eq_true rfl) rfl ?_
  intro κ B E tb
  refine g_aload_n (q := 1) B dX0_personAt_0 rfl rfl (rv_r _) ?_
  refine g_iconst (v := nI 0) (q := 2) B dX0_personAt_1 rfl (by decide) ?_
  refine g_aload_n (q := 3) B dX0_personAt_2 rfl rfl (rv_r _) ?_
  refine g_iload_n (q := 4) B dX0_personAt_3 rfl rfl ?_
  refine g_callV (q := 7) (is := [0]) (kc2 := 0) (ks2 := 0) B [.int v] (ct_X1_personAt g J (x := x) (C := C) (T := T) (v := v) hw0 (hC) (hT)) dX0_personAt_4 rfl (rc_in B (ci := 0) rfl (k := 0) rfl (KgP.hm hw0)) rfl q2835 q2836 q2837 q77 q2838 rfl rfl moX1_personAt rfl rfl (by decide) (by decide) (Nat.le_of_ble_eq_true rfl) (Nat.le_of_ble_eq_true rfl) (Nat.le_of_ble_eq_true rfl) (fun E4 L1 hx4 => ?_) (fun v4 L1 hp4 => ?_)
  · skip
    obtain ⟨rfl, hx4⟩ := hx4
    rcases hx4 with ⟨rfl, hx4⟩ | ⟨rfl, hx4⟩
    · skip
      refine g_catch B tb (nm := "java/lang/IndexOutOfBoundsException") [] (⟨0, 9, 12, 19⟩ : ExceptionTableEntry) [(⟨0, 9, 15, 32⟩ : ExceptionTableEntry)] rfl (fun z hz => by cases hz) (by decide) (by decide) q1941 q341 (fun z4_0 => ?_)
      refine (show Go g κ 12 [some (.ref x), some (.int v), some (.ref o), none] [.ref z4_0] [[(o, .inl (g.2.1 3, 1, .inr (.inl f)))], w0] 0 0 from ?_)
      refine g_astore_n (q := 13) (lv2 := [some (.ref x), some (.int v), some (.ref o), some (.ref z4_0)]) B dX0_personAt_12 rfl (Nat.le_of_ble_eq_true rfl) (rv_r _) rfl ?_
      refine g_iconst (v := nI 1) (q := 14) B dX0_personAt_13 rfl (by decide) ?_
      refine g_pk [1, 0] rfl rfl ?_
      refine (show Go g κ 14 [some (.ref x), some (.int v), some (.ref o), some (.ref z4_0)] [.int (nI 1)] [w0, [(o, .inl (g.2.1 3, 1, .inr (.inl f)))]] 0 0 from ?_)
      exact g_iret B E dX0_personAt_14 (⟨1, C, f, w0, rfl, rfl, hw0, (Or.inr (Or.inl (⟨rfl, rfl, hx4⟩)))⟩)
    · skip
      refine g_catch B tb (nm := "java/util/NoSuchElementException") [(⟨0, 9, 12, 19⟩ : ExceptionTableEntry)] (⟨0, 9, 15, 32⟩ : ExceptionTableEntry) [] rfl (fun z hz => by simp only [List.mem_cons, List.not_mem_nil, or_false] at hz; rcases hz with rfl; exact Or.inr ⟨by decide, "java/lang/IndexOutOfBoundsException", q1941, nc_306⟩) (by decide) (by decide) q2352 q978 (fun z4_1 => ?_)
      refine (show Go g κ 15 [some (.ref x), some (.int v), some (.ref o), none] [.ref z4_1] [[(o, .inl (g.2.1 3, 1, .inr (.inl f)))], w0] 0 0 from ?_)
      refine g_astore_n (q := 16) (lv2 := [some (.ref x), some (.int v), some (.ref o), some (.ref z4_1)]) B dX0_personAt_15 rfl (Nat.le_of_ble_eq_true rfl) (rv_r _) rfl ?_
      refine g_iconst (v := nI 2) (q := 17) B dX0_personAt_16 rfl (by decide) ?_
      refine g_pk [1, 0] rfl rfl ?_
      refine (show Go g κ 17 [some (.ref x), some (.int v), some (.ref o), some (.ref z4_1)] [.int (nI 2)] [w0, [(o, .inl (g.2.1 3, 1, .inr (.inl f)))]] 0 0 from ?_)
      exact g_iret B E dX0_personAt_17 (⟨2, C, f, w0, rfl, rfl, hw0, (Or.inr (Or.inr (⟨rfl, rfl, hx4⟩)))⟩)
  obtain ⟨i4, p4, u0_4, rfl, rfl, hu0_4, hv_4, hi_4, hne_4, hp_4⟩ := hp4
  refine (show Go g κ 7 [some (.ref x), some (.int v), some (.ref o), none] [.int (nI p4), .int (nI 0), .ref o] [[(o, .inl (g.2.1 3, 1, .inr (.inl f)))], u0_4] 0 0 from ?_)
  refine g_i2l (v := (nI p4).toInt64) (q := 8) B dX0_personAt_7 rfl rfl ?_
  refine g_last (q := 9) (L2 := [[(o, .inl (g.2.1 3, 1, .inr (.inl (vp_updL f 0 ((nI p4).toInt64)))))], u0_4]) B (k := 0) dX0_personAt_8 rfl rfl (vp_in_nI (by omega) (by omega)) (by rw [nI_clamp (by omega)] <;> rfl) ?_
  refine g_goto (tgt := 18) B dX0_personAt_9 (by decide) ?_
  refine g_iconst (v := nI 0) (q := 19) B dX0_personAt_18 rfl (by decide) ?_
  refine g_pk [1, 0] rfl rfl ?_
  refine (show Go g κ 19 [some (.ref x), some (.int v), some (.ref o), none] [.int (nI 0)] [u0_4, [(o, .inl (g.2.1 3, 1, .inr (.inl (vp_updL f 0 ((nI p4).toInt64)))))]] 0 0 from ?_)
  exact g_iret B E dX0_personAt_19 (⟨0, C, vp_updL f 0 ((nI p4).toInt64), u0_4, rfl, rfl, hu0_4, (Or.inl (⟨rfl, i4, p4, rfl, rfl, hv_4, hi_4, hne_4, hp_4⟩))⟩)
theorem moX1_holds : Mo yX1_holds 2 := by
  refine ⟨by decide, by decide, by decide +kernel⟩
theorem ct_X0_holds (g : Gv) (J : Jd g) {x : Nat} {C : KsS} {T : TrS} {v : Int32} {u : Int32} {o : Nat} {f : Nat → Int64} {w0 : va_W} (hw0 : KgP g x C w0) (hC : KsB C) (hT : zTs C ≠ [] → (zTs C)[(zTs C).length - 1]? = some T) (hsb : ∀ n s, T.2.1 n = some s → s < 1000) : Ct g yX0_holds (wsW_ yX0_holds cX0_holds 5 (some .int) [(0, 17, 20, 19)]) 11 110 400 [.ref x, .int v, .int u, .ref o] [w0, [(o, .inl (g.2.1 3, 1, .inr (.inl f)))]] (fun (rv_ : Option Value) (rL_ : List va_W) => ∃ (kx : Nat) (C9 : KsS) (f9 : Nat → Int64) (u0 : va_W), rv_ = some (.int (nI kx)) ∧ rL_ = [u0, [(o, .inl (g.2.1 3, 1, .inr (.inl f9)))]] ∧ KgP g x C9 u0 ∧ ((kx = 0 ∧ ∃ (i : Nat) (r : PeS) (j : Nat) (b : Bool), C9 = C ∧ (((b = true) → f9 0 = 1) ∧ (¬ (b = true) → f9 0 = 0)) ∧ (v = nI i) ∧ ((zPs C)[i]? = some r) ∧ (u = nI j) ∧ (j < 2 * 2 ^ T.1 - 1) ∧ (zTs C ≠ []) ∧ (b = true ↔ ∃ s, T.2.1 j = some s ∧ helP (zKs C) r s)) ∨ (kx = 1 ∧ C9 = C ∧ (¬ (inR v (zPs C).length = true ∧ zTs C ≠ [] ∧ inR u (2 * 2 ^ T.1 - 1) = true))))) noX := by
  refine Ct.ofW "KeygroveLaw" [some (.ref x), some (.int v), some (.int u), some (.ref o), none] rfl (by decide) rfl (Nat.le_of_ble_eq_true rfl) rfl ?_
  intro κ B E tb
  refine g_aload_n (q := 1) B dX0_holds_0 rfl rfl (rv_r _) ?_
  refine g_iconst (v := nI 0) (q := 2) B dX0_holds_1 rfl (by decide) ?_
  refine g_aload_n (q := 3) B dX0_holds_2 rfl rfl (rv_r _) ?_
  refine g_iload_n (q := 4) B dX0_holds_3 rfl rfl ?_
  refine g_iload_n (q := 5) B dX0_holds_4 rfl rfl ?_
  refine g_callV (q := 8) (is := [0]) (kc2 := 0) (ks2 := 0) B [.int v, .int u] (ct_X1_holds g J (x := x) (C := C) (T := T) (v := v) (u := u) hw0 (hC) (hT) (hsb)) dX0_holds_5 rfl (rc_in B (ci := 0) rfl (k := 0) rfl (KgP.hm hw0)) rfl q2842 q2843 q2844 q77 q2845 rfl rfl moX1_holds rfl rfl (by decide) (by decide) (Nat.le_of_ble_eq_true rfl) (Nat.le_of_ble_eq_true rfl) (Nat.le_of_ble_eq_true rfl) (fun E5 L1 hx5 => ?_) (fun v5 L1 hp5 => ?_)
  · skip
    obtain ⟨rfl, hx5⟩ := hx5
    obtain ⟨rfl, hx5⟩ := hx5
    refine g_catch B tb (nm := "java/lang/IndexOutOfBoundsException") [] (⟨0, 17, 20, 19⟩ : ExceptionTableEntry) [] rfl (fun z hz => by cases hz) (by decide) (by decide) q1941 q341 (fun z5_0 => ?_)
    refine (show Go g κ 20 [some (.ref x), some (.int v), some (.int u), some (.ref o), none] [.ref z5_0] [[(o, .inl (g.2.1 3, 1, .inr (.inl f)))], w0] 0 0 from ?_)
    refine g_astore (q := 22) (lv2 := [some (.ref x), some (.int v), some (.int u), some (.ref o), some (.ref z5_0)]) B dX0_holds_20 rfl (Nat.le_of_ble_eq_true rfl) (rv_r _) rfl ?_
    refine g_iconst (v := nI 1) (q := 23) B dX0_holds_22 rfl (by decide) ?_
    refine g_pk [1, 0] rfl rfl ?_
    refine (show Go g κ 23 [some (.ref x), some (.int v), some (.int u), some (.ref o), some (.ref z5_0)] [.int (nI 1)] [w0, [(o, .inl (g.2.1 3, 1, .inr (.inl f)))]] 0 0 from ?_)
    exact g_iret B E dX0_holds_23 (⟨1, C, f, w0, rfl, rfl, hw0, (Or.inr (⟨rfl, rfl, hx5⟩))⟩)
  obtain ⟨i5, r5, j5, b5, u0_5, rfl, rfl, hu0_5, hv_5, hr_5, hu_5, hj_5, hne_5, hb_5⟩ := hp5
  refine (show Go g κ 8 [some (.ref x), some (.int v), some (.int u), some (.ref o), none] [.int (nI (if b5 = true then 1 else 0)), .int (nI 0), .ref o] [[(o, .inl (g.2.1 3, 1, .inr (.inl f)))], u0_5] 0 0 from ?_)
  refine g_if_eq (tgt := 15) (q := 11) B dX0_holds_8 rfl (by decide) (bo_eq) (fun c8 => ?_) (fun c8 => ?_)
  · skip
    refine g_lconst (v := 0) (q := 16) B dX0_holds_15 rfl (by decide) ?_
    refine g_last (q := 17) (L2 := [[(o, .inl (g.2.1 3, 1, .inr (.inl (vp_updL f 0 0))))], u0_5]) B (k := 0) dX0_holds_16 rfl rfl (vp_in_nI (by omega) (by omega)) (by rw [nI_clamp (by omega)] <;> rfl) ?_
    refine g_goto (tgt := 24) B dX0_holds_17 (by decide) ?_
    refine g_iconst (v := nI 0) (q := 25) B dX0_holds_24 rfl (by decide) ?_
    refine g_pk [1, 0] rfl rfl ?_
    refine (show Go g κ 25 [some (.ref x), some (.int v), some (.int u), some (.ref o), none] [.int (nI 0)] [u0_5, [(o, .inl (g.2.1 3, 1, .inr (.inl (vp_updL f 0 0))))]] 0 0 from ?_)
    exact g_iret B E dX0_holds_25 (⟨0, C, vp_updL f 0 0, u0_5, rfl, rfl, hu0_5, (Or.inl (⟨rfl, i5, r5, j5, b5, rfl, ⟨fun z => absurd z c8, fun _ => rfl⟩, hv_5, hr_5, hu_5, hj_5, hne_5, hb_5⟩))⟩)
  · skip
    have c8 := Classical.not_not.mp c8
    refine g_lconst (v := 1) (q := 12) B dX0_holds_11 rfl (by decide) ?_
    refine g_goto (tgt := 16) B dX0_holds_12 (by decide) ?_
    refine g_last (q := 17) (L2 := [[(o, .inl (g.2.1 3, 1, .inr (.inl (vp_updL f 0 1))))], u0_5]) B (k := 0) dX0_holds_16 rfl rfl (vp_in_nI (by omega) (by omega)) (by rw [nI_clamp (by omega)] <;> rfl) ?_
    refine g_goto (tgt := 24) B dX0_holds_17 (by decide) ?_
    refine g_iconst (v := nI 0) (q := 25) B dX0_holds_24 rfl (by decide) ?_
    refine g_pk [1, 0] rfl rfl ?_
    refine (show Go g κ 25 [some (.ref x), some (.int v), some (.int u), some (.ref o), none] [.int (nI 0)] [u0_5, [(o, .inl (g.2.1 3, 1, .inr (.inl (vp_updL f 0 1))))]] 0 0 from ?_)
    exact g_iret B E dX0_holds_25 (⟨0, C, vp_updL f 0 1, u0_5, rfl, rfl, hu0_5, (Or.inl (⟨rfl, i5, r5, j5, b5, rfl, ⟨fun _ => rfl, fun z => absurd c8 z⟩, hv_5, hr_5, hu_5, hj_5, hne_5, hb_5⟩))⟩)
theorem moX1_key : Mo yX1_key 1 := by
  refine ⟨by decide, by decide, by decide +kernel⟩
theorem ct_X0_key (g : Gv) (J : Jd g) {x : Nat} {C : KsS} {v : Int32} {o : Nat} {f : Nat → Int64} {w0 : va_W} (hw0 : KgP g x C w0) (hC : KsB C) : Ct g yX0_key (wsW_ yX0_key cX0_key 4 (some .int) [(0, 9, 12, 19), (0, 9, 15, 32)]) 11 10 60 [.ref x, .int v, .ref o] [w0, [(o, .inl (g.2.1 3, 1, .inr (.inl f)))]] (fun (rv_ : Option Value) (rL_ : List va_W) => ∃ (kx : Nat) (C9 : KsS) (f9 : Nat → Int64) (u0 : va_W), rv_ = some (.int (nI kx)) ∧ rL_ = [u0, [(o, .inl (g.2.1 3, 1, .inr (.inl f9)))]] ∧ KgP g x C9 u0 ∧ ((kx = 0 ∧ ∃ (i : Nat) (r : PeS), C9 = C ∧ (f9 0 = (vl (zSs C) (pKy r)).toInt64) ∧ (v = nI i) ∧ ((zPs C)[i]? = some r) ∧ (¬ pEp r = none)) ∨ (kx = 1 ∧ C9 = C ∧ (¬ inR v (zPs C).length = true)) ∨ (kx = 2 ∧ C9 = C ∧ (∃ (i : Nat) (r : PeS), v = nI i ∧ (zPs C)[i]? = some r ∧ pEp r = none)))) noX := by
  refine Ct.ofW "KeygroveLaw" [some (.ref x), some (.int v), some (.ref o), none] rfl (by decide) rfl (Nat.le_of_ble_eq_true rfl) rfl ?_
  intro κ B E tb
  refine g_aload_n (q := 1) B dX0_key_0 rfl rfl (rv_r _) ?_
  refine g_iconst (v := nI 0) (q := 2) B dX0_key_1 rfl (by decide) ?_
  refine g_aload_n (q := 3) B dX0_key_2 rfl rfl (rv_r _) ?_
  refine g_iload_n (q := 4) B dX0_key_3 rfl rfl ?_
  refine g_callV (q := 7) (is := [0]) (kc2 := 0) (ks2 := 0) B [.int v] (ct_X1_key g J (x := x) (C := C) (v := v) hw0 (hC)) dX0_key_4 rfl (rc_in B (ci := 0) rfl (k := 0) rfl (KgP.hm hw0)) rfl q2849 q2850 q2851 q77 q2852 rfl rfl moX1_key rfl rfl (by decide) (by decide) (Nat.le_of_ble_eq_true rfl) (Nat.le_of_ble_eq_true rfl) (Nat.le_of_ble_eq_true rfl) (fun E4 L1 hx4 => ?_) (fun v4 L1 hp4 => ?_)
  · skip
    obtain ⟨rfl, hx4⟩ := hx4
    rcases hx4 with ⟨rfl, hx4⟩ | ⟨rfl, hx4⟩
    · skip
      refine g_catch B tb (nm := "java/lang/IndexOutOfBoundsException") [] (⟨0, 9, 12, 19⟩ : ExceptionTableEntry) [(⟨0, 9, 15, 32⟩ : ExceptionTableEntry)] rfl (fun z hz => by cases hz) (by decide) (by decide) q1941 q341 (fun z4_0 => ?_)
      refine (show Go g κ 12 [some (.ref x), some (.int v), some (.ref o), none] [.ref z4_0] [[(o, .inl (g.2.1 3, 1, .inr (.inl f)))], w0] 0 0 from ?_)
      refine g_astore_n (q := 13) (lv2 := [some (.ref x), some (.int v), some (.ref o), some (.ref z4_0)]) B dX0_key_12 rfl (Nat.le_of_ble_eq_true rfl) (rv_r _) rfl ?_
      refine g_iconst (v := nI 1) (q := 14) B dX0_key_13 rfl (by decide) ?_
      refine g_pk [1, 0] rfl rfl ?_
      refine (show Go g κ 14 [some (.ref x), some (.int v), some (.ref o), some (.ref z4_0)] [.int (nI 1)] [w0, [(o, .inl (g.2.1 3, 1, .inr (.inl f)))]] 0 0 from ?_)
      exact g_iret B E dX0_key_14 (⟨1, C, f, w0, rfl, rfl, hw0, (Or.inr (Or.inl (⟨rfl, rfl, hx4⟩)))⟩)
    · skip
      refine g_catch B tb (nm := "java/util/NoSuchElementException") [(⟨0, 9, 12, 19⟩ : ExceptionTableEntry)] (⟨0, 9, 15, 32⟩ : ExceptionTableEntry) [] rfl (fun z hz => by simp only [List.mem_cons, List.not_mem_nil, or_false] at hz; rcases hz with rfl; exact Or.inr ⟨by decide, "java/lang/IndexOutOfBoundsException", q1941, nc_306⟩) (by decide) (by decide) q2352 q978 (fun z4_1 => ?_)
      refine (show Go g κ 15 [some (.ref x), some (.int v), some (.ref o), none] [.ref z4_1] [[(o, .inl (g.2.1 3, 1, .inr (.inl f)))], w0] 0 0 from ?_)
      refine g_astore_n (q := 16) (lv2 := [some (.ref x), some (.int v), some (.ref o), some (.ref z4_1)]) B dX0_key_15 rfl (Nat.le_of_ble_eq_true rfl) (rv_r _) rfl ?_
      refine g_iconst (v := nI 2) (q := 17) B dX0_key_16 rfl (by decide) ?_
      refine g_pk [1, 0] rfl rfl ?_
      refine (show Go g κ 17 [some (.ref x), some (.int v), some (.ref o), some (.ref z4_1)] [.int (nI 2)] [w0, [(o, .inl (g.2.1 3, 1, .inr (.inl f)))]] 0 0 from ?_)
      exact g_iret B E dX0_key_17 (⟨2, C, f, w0, rfl, rfl, hw0, (Or.inr (Or.inr (⟨rfl, rfl, hx4⟩)))⟩)
  obtain ⟨i4, r4, u0_4, rfl, rfl, hu0_4, hv_4, hr_4, hin_4⟩ := hp4
  refine (show Go g κ 7 [some (.ref x), some (.int v), some (.ref o), none] [.int (vl (zSs C) (pKy r4)), .int (nI 0), .ref o] [[(o, .inl (g.2.1 3, 1, .inr (.inl f)))], u0_4] 0 0 from ?_)
  refine g_i2l (v := (vl (zSs C) (pKy r4)).toInt64) (q := 8) B dX0_key_7 rfl rfl ?_
  refine g_last (q := 9) (L2 := [[(o, .inl (g.2.1 3, 1, .inr (.inl (vp_updL f 0 ((vl (zSs C) (pKy r4)).toInt64)))))], u0_4]) B (k := 0) dX0_key_8 rfl rfl (vp_in_nI (by omega) (by omega)) (by rw [nI_clamp (by omega)] <;> rfl) ?_
  refine g_goto (tgt := 18) B dX0_key_9 (by decide) ?_
  refine g_iconst (v := nI 0) (q := 19) B dX0_key_18 rfl (by decide) ?_
  refine g_pk [1, 0] rfl rfl ?_
  refine (show Go g κ 19 [some (.ref x), some (.int v), some (.ref o), none] [.int (nI 0)] [u0_4, [(o, .inl (g.2.1 3, 1, .inr (.inl (vp_updL f 0 ((vl (zSs C) (pKy r4)).toInt64)))))]] 0 0 from ?_)
  exact g_iret B E dX0_key_19 (⟨0, C, vp_updL f 0 ((vl (zSs C) (pKy r4)).toInt64), u0_4, rfl, rfl, hu0_4, (Or.inl (⟨rfl, i4, r4, rfl, rfl, hv_4, hr_4, hin_4⟩))⟩)
theorem moX1_held : Mo yX1_held 1 := by
  refine ⟨by decide, by decide, by decide +kernel⟩
theorem ct_X0_held (g : Gv) (J : Jd g) {x : Nat} {C : KsS} {v : Int32} {o : Nat} {f : Nat → Int64} {w0 : va_W} (hw0 : KgP g x C w0) (hC : KsB C) : Ct g yX0_held (wsW_ yX0_held cX0_held 4 (some .int) [(0, 9, 12, 19)]) 11 100 300 [.ref x, .int v, .ref o] [w0, [(o, .inl (g.2.1 3, 1, .inr (.inl f)))]] (fun (rv_ : Option Value) (rL_ : List va_W) => ∃ (kx : Nat) (C9 : KsS) (f9 : Nat → Int64) (u0 : va_W), rv_ = some (.int (nI kx)) ∧ rL_ = [u0, [(o, .inl (g.2.1 3, 1, .inr (.inl f9)))]] ∧ KgP g x C9 u0 ∧ ((kx = 0 ∧ ∃ (i : Nat) (r : PeS) (K : Nat → Bool), C9 = C ∧ (f9 0 = (nI (ctK K)).toInt64) ∧ (v = nI i) ∧ ((zPs C)[i]? = some r) ∧ (∀ x, K x = true ↔ helP (zKs C) r x)) ∨ (kx = 1 ∧ C9 = C ∧ (¬ inR v (zPs C).length = true)))) noX := by
  refine Ct.ofW "KeygroveLaw" [some (.ref x), some (.int v), some (.ref o), none] rfl (by decide) rfl (Nat.le_of_ble_eq_true rfl) rfl ?_
  intro κ B E tb
  refine g_aload_n (q := 1) B dX0_held_0 rfl rfl (rv_r _) ?_
  refine g_iconst (v := nI 0) (q := 2) B dX0_held_1 rfl (by decide) ?_
  refine g_aload_n (q := 3) B dX0_held_2 rfl rfl (rv_r _) ?_
  refine g_iload_n (q := 4) B dX0_held_3 rfl rfl ?_
  refine g_callV (q := 7) (is := [0]) (kc2 := 0) (ks2 := 0) B [.int v] (ct_X1_held g J (x := x) (C := C) (v := v) hw0 (hC)) dX0_held_4 rfl (rc_in B (ci := 0) rfl (k := 0) rfl (KgP.hm hw0)) rfl q2856 q2857 q2858 q77 q2859 rfl rfl moX1_held rfl rfl (by decide) (by decide) (Nat.le_of_ble_eq_true rfl) (Nat.le_of_ble_eq_true rfl) (Nat.le_of_ble_eq_true rfl) (fun E4 L1 hx4 => ?_) (fun v4 L1 hp4 => ?_)
  · skip
    obtain ⟨rfl, hx4⟩ := hx4
    obtain ⟨rfl, hx4⟩ := hx4
    refine g_catch B tb (nm := "java/lang/IndexOutOfBoundsException") [] (⟨0, 9, 12, 19⟩ : ExceptionTableEntry) [] rfl (fun z hz => by cases hz) (by decide) (by decide) q1941 q341 (fun z4_0 => ?_)
    refine (show Go g κ 12 [some (.ref x), some (.int v), some (.ref o), none] [.ref z4_0] [[(o, .inl (g.2.1 3, 1, .inr (.inl f)))], w0] 0 0 from ?_)
    refine g_astore_n (q := 13) (lv2 := [some (.ref x), some (.int v), some (.ref o), some (.ref z4_0)]) B dX0_held_12 rfl (Nat.le_of_ble_eq_true rfl) (rv_r _) rfl ?_
    refine g_iconst (v := nI 1) (q := 14) B dX0_held_13 rfl (by decide) ?_
    refine g_pk [1, 0] rfl rfl ?_
    refine (show Go g κ 14 [some (.ref x), some (.int v), some (.ref o), some (.ref z4_0)] [.int (nI 1)] [w0, [(o, .inl (g.2.1 3, 1, .inr (.inl f)))]] 0 0 from ?_)
    exact g_iret B E dX0_held_14 (⟨1, C, f, w0, rfl, rfl, hw0, (Or.inr (⟨rfl, rfl, hx4⟩))⟩)
  obtain ⟨i4, r4, K4, u0_4, rfl, rfl, hu0_4, hv_4, hr_4, hK_4⟩ := hp4
  refine (show Go g κ 7 [some (.ref x), some (.int v), some (.ref o), none] [.int (nI (ctK K4)), .int (nI 0), .ref o] [[(o, .inl (g.2.1 3, 1, .inr (.inl f)))], u0_4] 0 0 from ?_)
  refine g_i2l (v := (nI (ctK K4)).toInt64) (q := 8) B dX0_held_7 rfl rfl ?_
  refine g_last (q := 9) (L2 := [[(o, .inl (g.2.1 3, 1, .inr (.inl (vp_updL f 0 ((nI (ctK K4)).toInt64)))))], u0_4]) B (k := 0) dX0_held_8 rfl rfl (vp_in_nI (by omega) (by omega)) (by rw [nI_clamp (by omega)] <;> rfl) ?_
  refine g_goto (tgt := 15) B dX0_held_9 (by decide) ?_
  refine g_iconst (v := nI 0) (q := 16) B dX0_held_15 rfl (by decide) ?_
  refine g_pk [1, 0] rfl rfl ?_
  refine (show Go g κ 16 [some (.ref x), some (.int v), some (.ref o), none] [.int (nI 0)] [u0_4, [(o, .inl (g.2.1 3, 1, .inr (.inl (vp_updL f 0 ((nI (ctK K4)).toInt64)))))]] 0 0 from ?_)
  exact g_iret B E dX0_held_16 (⟨0, C, vp_updL f 0 ((nI (ctK K4)).toInt64), u0_4, rfl, rfl, hu0_4, (Or.inl (⟨rfl, i4, r4, K4, rfl, rfl, hv_4, hr_4, hK_4⟩))⟩)
theorem moX1_send : Mo yX1_send 1 := by
  refine ⟨by decide, by decide, by decide +kernel⟩
theorem ct_X0_send_x (g : Gv) (J : Jd g) {x : Nat} {C : KsS} {v : Int32} {o : Nat} {f : Nat → Int64} {w0 : va_W} (hw0 : KgP g x C w0) (hC : KsB C) (hno : ¬ (inR v (zPs C).length = true ∧ ∃ (i : Nat) (r : PeS), v = nI i ∧ (zPs C)[i]? = some r ∧ ¬ pEp r = none ∧ (zMs C).length < 40)) : Ct g yX0_send (wsW_ yX0_send cX0_send 4 (some .int) [(0, 9, 12, 19), (0, 9, 15, 27), (0, 9, 18, 13)]) 18 10 60 [.ref x, .int v, .ref o] [w0, [(o, .inl (g.2.1 3, 1, .inr (.inl f)))]] (fun (rv_ : Option Value) (rL_ : List va_W) => ∃ (kx : Nat) (C9 : KsS) (f9 : Nat → Int64) (u0 : va_W), rv_ = some (.int (nI kx)) ∧ rL_ = [u0, [(o, .inl (g.2.1 3, 1, .inr (.inl f9)))]] ∧ KgP g x C9 u0 ∧ ((kx = 0 ∧ C9 = C ∧ (f9 0 = (0 : Int32).toInt64) ∧ (False)) ∨ (kx = 1 ∧ C9 = C ∧ (¬ inR v (zPs C).length = true)) ∨ (kx = 2 ∧ C9 = C ∧ (∃ (i : Nat) (r : PeS), v = nI i ∧ (zPs C)[i]? = some r ∧ pEp r = none)) ∨ (kx = 3 ∧ C9 = C ∧ (∃ (i : Nat) (r : PeS), v = nI i ∧ (zPs C)[i]? = some r ∧ ¬ pEp r = none ∧ ¬ (zMs C).length < 40)))) noX := by
  refine Ct.ofW "KeygroveLaw" [some (.ref x), some (.int v), some (.ref o), none] rfl (by decide) rfl (Nat.le_of_ble_eq_true rfl) rfl ?_
  intro κ B E tb
  refine g_aload_n (q := 1) B dX0_send_0 rfl rfl (rv_r _) ?_
  refine g_iconst (v := nI 0) (q := 2) B dX0_send_1 rfl (by decide) ?_
  refine g_aload_n (q := 3) B dX0_send_2 rfl rfl (rv_r _) ?_
  refine g_iload_n (q := 4) B dX0_send_3 rfl rfl ?_
  refine g_callV (q := 7) (is := [0]) (kc2 := 0) (ks2 := 0) B [.int v] (ct_X1_send_x g J (x := x) (C := C) (v := v) hw0 (hC) (hno)) dX0_send_4 rfl (rc_in B (ci := 0) rfl (k := 0) rfl (KgP.hm hw0)) rfl q2863 q2864 q2865 q77 q2866 rfl rfl moX1_send rfl rfl (by decide) (by decide) (Nat.le_of_ble_eq_true rfl) (Nat.le_of_ble_eq_true rfl) (Nat.le_of_ble_eq_true rfl) (fun E4 L1 hx4 => ?_) (fun v4 L1 hp4 => ?_)
  · skip
    obtain ⟨rfl, hx4⟩ := hx4
    rcases hx4 with ⟨rfl, hx4⟩ | ⟨rfl, hx4⟩ | ⟨rfl, hx4⟩
    · skip
      refine g_catch B tb (nm := "java/lang/IndexOutOfBoundsException") [] (⟨0, 9, 12, 19⟩ : ExceptionTableEntry) [(⟨0, 9, 15, 27⟩ : ExceptionTableEntry), (⟨0, 9, 18, 13⟩ : ExceptionTableEntry)] rfl (fun z hz => by cases hz) (by decide) (by decide) q1941 q341 (fun z4_0 => ?_)
      refine (show Go g κ 12 [some (.ref x), some (.int v), some (.ref o), none] [.ref z4_0] [[(o, .inl (g.2.1 3, 1, .inr (.inl f)))], w0] 0 0 from ?_)
      refine g_astore_n (q := 13) (lv2 := [some (.ref x), some (.int v), some (.ref o), some (.ref z4_0)]) B dX0_send_12 rfl (Nat.le_of_ble_eq_true rfl) (rv_r _) rfl ?_
      refine g_iconst (v := nI 1) (q := 14) B dX0_send_13 rfl (by decide) ?_
      refine g_pk [1, 0] rfl rfl ?_
      refine (show Go g κ 14 [some (.ref x), some (.int v), some (.ref o), some (.ref z4_0)] [.int (nI 1)] [w0, [(o, .inl (g.2.1 3, 1, .inr (.inl f)))]] 0 0 from ?_)
      exact g_iret B E dX0_send_14 (⟨1, C, f, w0, rfl, rfl, hw0, (Or.inr (Or.inl (⟨rfl, rfl, hx4⟩)))⟩)
    · skip
      refine g_catch B tb (nm := "java/lang/UnsupportedOperationException") [(⟨0, 9, 12, 19⟩ : ExceptionTableEntry)] (⟨0, 9, 15, 27⟩ : ExceptionTableEntry) [(⟨0, 9, 18, 13⟩ : ExceptionTableEntry)] rfl (fun z hz => by simp only [List.mem_cons, List.not_mem_nil, or_false] at hz; rcases hz with rfl; exact Or.inr ⟨by decide, "java/lang/IndexOutOfBoundsException", q1941, nc_325⟩) (by decide) (by decide) q2322 q2336 (fun z4_1 => ?_)
      refine (show Go g κ 15 [some (.ref x), some (.int v), some (.ref o), none] [.ref z4_1] [[(o, .inl (g.2.1 3, 1, .inr (.inl f)))], w0] 0 0 from ?_)
      refine g_astore_n (q := 16) (lv2 := [some (.ref x), some (.int v), some (.ref o), some (.ref z4_1)]) B dX0_send_15 rfl (Nat.le_of_ble_eq_true rfl) (rv_r _) rfl ?_
      refine g_iconst (v := nI 2) (q := 17) B dX0_send_16 rfl (by decide) ?_
      refine g_pk [1, 0] rfl rfl ?_
      refine (show Go g κ 17 [some (.ref x), some (.int v), some (.ref o), some (.ref z4_1)] [.int (nI 2)] [w0, [(o, .inl (g.2.1 3, 1, .inr (.inl f)))]] 0 0 from ?_)
      exact g_iret B E dX0_send_17 (⟨2, C, f, w0, rfl, rfl, hw0, (Or.inr (Or.inr (Or.inl (⟨rfl, rfl, hx4⟩))))⟩)
    · skip
      refine g_catch B tb (nm := "java/lang/IllegalStateException") [(⟨0, 9, 12, 19⟩ : ExceptionTableEntry), (⟨0, 9, 15, 27⟩ : ExceptionTableEntry)] (⟨0, 9, 18, 13⟩ : ExceptionTableEntry) [] rfl (fun z hz => by simp only [List.mem_cons, List.not_mem_nil, or_false] at hz; rcases hz with rfl | rfl; exact Or.inr ⟨by decide, "java/lang/IndexOutOfBoundsException", q1941, nc_299⟩; exact Or.inr ⟨by decide, "java/lang/UnsupportedOperationException", q2322, nc_347⟩) (by decide) (by decide) q1834 q1844 (fun z4_2 => ?_)
      refine (show Go g κ 18 [some (.ref x), some (.int v), some (.ref o), none] [.ref z4_2] [[(o, .inl (g.2.1 3, 1, .inr (.inl f)))], w0] 0 0 from ?_)
      refine g_astore_n (q := 19) (lv2 := [some (.ref x), some (.int v), some (.ref o), some (.ref z4_2)]) B dX0_send_18 rfl (Nat.le_of_ble_eq_true rfl) (rv_r _) rfl ?_
      refine g_iconst (v := nI 3) (q := 20) B dX0_send_19 rfl (by decide) ?_
      refine g_pk [1, 0] rfl rfl ?_
      refine (show Go g κ 20 [some (.ref x), some (.int v), some (.ref o), some (.ref z4_2)] [.int (nI 3)] [w0, [(o, .inl (g.2.1 3, 1, .inr (.inl f)))]] 0 0 from ?_)
      exact g_iret B E dX0_send_20 (⟨3, C, f, w0, rfl, rfl, hw0, (Or.inr (Or.inr (Or.inr (⟨rfl, rfl, hx4⟩))))⟩)
  obtain ⟨u0_4, rfl, rfl, hu0_4, hF_4⟩ := hp4
  exact hF_4.elim
theorem moX1_read : Mo yX1_read 2 := by
  refine ⟨by decide, by decide, by decide +kernel⟩
theorem nc_356 : Cond.not (.castable "java/util/NoSuchElementException" "java/lang/UnsupportedOperationException") ∈ gNc := List.mem_of_getElem? (i := 356) (by decide +kernel)
theorem ct_X0_read_x (g : Gv) (J : Jd g) {x : Nat} {C : KsS} {v : Int32} {u : Int32} {o : Nat} {f : Nat → Int64} {w0 : va_W} (hw0 : KgP g x C w0) (hC : KsB C) (hchx : ∀ (i : Nat) (r : PeS) (m : MsS), (zPs C)[i]? = some r → m ∈ zMs C → pEp r = some m.1 → ∃ c, pCh r m.2.1 = some c) (hmb : ∀ m ∈ zMs C, m.1 < 100 ∧ m.2.1 < 16 ∧ m.2.2.1 < 100 ∧ m.2.2.2 < (zSs C).length) (hno : ¬ (inR v (zPs C).length = true ∧ inR u (zMs C).length = true ∧ ∃ (i : Nat) (r : PeS) (j : Nat) (m : MsS), v = nI i ∧ (zPs C)[i]? = some r ∧ u = nI j ∧ (zMs C)[j]? = some m ∧ rdCan r m ∧ rdHas r m)) : Ct g yX0_read (wsW_ yX0_read cX0_read 5 (some .int) [(0, 10, 13, 19), (0, 10, 17, 27), (0, 10, 21, 32)]) 18 10 60 [.ref x, .int v, .int u, .ref o] [w0, [(o, .inl (g.2.1 3, 1, .inr (.inl f)))]] (fun (rv_ : Option Value) (rL_ : List va_W) => ∃ (kx : Nat) (C9 : KsS) (f9 : Nat → Int64) (u0 : va_W), rv_ = some (.int (nI kx)) ∧ rL_ = [u0, [(o, .inl (g.2.1 3, 1, .inr (.inl f9)))]] ∧ KgP g x C9 u0 ∧ ((kx = 0 ∧ C9 = C ∧ (f9 0 = (0 : Int32).toInt64) ∧ (False)) ∨ (kx = 1 ∧ C9 = C ∧ (¬ (inR v (zPs C).length = true ∧ inR u (zMs C).length = true))) ∨ (kx = 2 ∧ C9 = C ∧ (∃ (i : Nat) (r : PeS) (j : Nat) (m : MsS), v = nI i ∧ (zPs C)[i]? = some r ∧ u = nI j ∧ (zMs C)[j]? = some m ∧ ¬ rdCan r m)) ∨ (kx = 3 ∧ C9 = C ∧ (∃ (i : Nat) (r : PeS) (j : Nat) (m : MsS), v = nI i ∧ (zPs C)[i]? = some r ∧ u = nI j ∧ (zMs C)[j]? = some m ∧ rdCan r m ∧ ¬ rdHas r m)))) noX := by
  refine Ct.ofW "KeygroveLaw" [some (.ref x), some (.int v), some (.int u), some (.ref o), none] rfl (by decide) rfl (Nat.le_of_ble_eq_true rfl) rfl ?_
  intro κ B E tb
  refine g_aload_n (q := 1) B dX0_read_0 rfl rfl (rv_r _) ?_
  refine g_iconst (v := nI 0) (q := 2) B dX0_read_1 rfl (by decide) ?_
  refine g_aload_n (q := 3) B dX0_read_2 rfl rfl (rv_r _) ?_
  refine g_iload_n (q := 4) B dX0_read_3 rfl rfl ?_
  refine g_iload_n (q := 5) B dX0_read_4 rfl rfl ?_
  refine g_callV (q := 8) (is := [0]) (kc2 := 0) (ks2 := 0) B [.int v, .int u] (ct_X1_read_x g J (x := x) (C := C) (v := v) (u := u) hw0 (hC) (hchx) (hmb) (hno)) dX0_read_5 rfl (rc_in B (ci := 0) rfl (k := 0) rfl (KgP.hm hw0)) rfl q2894 q2895 q2896 q77 q2897 rfl rfl moX1_read rfl rfl (by decide) (by decide) (Nat.le_of_ble_eq_true rfl) (Nat.le_of_ble_eq_true rfl) (Nat.le_of_ble_eq_true rfl) (fun E5 L1 hx5 => ?_) (fun v5 L1 hp5 => ?_)
  · skip
    obtain ⟨rfl, hx5⟩ := hx5
    rcases hx5 with ⟨rfl, hx5⟩ | ⟨rfl, hx5⟩ | ⟨rfl, hx5⟩
    · skip
      refine g_catch B tb (nm := "java/lang/IndexOutOfBoundsException") [] (⟨0, 10, 13, 19⟩ : ExceptionTableEntry) [(⟨0, 10, 17, 27⟩ : ExceptionTableEntry), (⟨0, 10, 21, 32⟩ : ExceptionTableEntry)] rfl (fun z hz => by cases hz) (by decide) (by decide) q1941 q341 (fun z5_0 => ?_)
      refine (show Go g κ 13 [some (.ref x), some (.int v), some (.int u), some (.ref o), none] [.ref z5_0] [[(o, .inl (g.2.1 3, 1, .inr (.inl f)))], w0] 0 0 from ?_)
      refine g_astore (q := 15) (lv2 := [some (.ref x), some (.int v), some (.int u), some (.ref o), some (.ref z5_0)]) B dX0_read_13 rfl (Nat.le_of_ble_eq_true rfl) (rv_r _) rfl ?_
      refine g_iconst (v := nI 1) (q := 16) B dX0_read_15 rfl (by decide) ?_
      refine g_pk [1, 0] rfl rfl ?_
      refine (show Go g κ 16 [some (.ref x), some (.int v), some (.int u), some (.ref o), some (.ref z5_0)] [.int (nI 1)] [w0, [(o, .inl (g.2.1 3, 1, .inr (.inl f)))]] 0 0 from ?_)
      exact g_iret B E dX0_read_16 (⟨1, C, f, w0, rfl, rfl, hw0, (Or.inr (Or.inl (⟨rfl, rfl, hx5⟩)))⟩)
    · skip
      refine g_catch B tb (nm := "java/lang/UnsupportedOperationException") [(⟨0, 10, 13, 19⟩ : ExceptionTableEntry)] (⟨0, 10, 17, 27⟩ : ExceptionTableEntry) [(⟨0, 10, 21, 32⟩ : ExceptionTableEntry)] rfl (fun z hz => by simp only [List.mem_cons, List.not_mem_nil, or_false] at hz; rcases hz with rfl; exact Or.inr ⟨by decide, "java/lang/IndexOutOfBoundsException", q1941, nc_325⟩) (by decide) (by decide) q2322 q2336 (fun z5_1 => ?_)
      refine (show Go g κ 17 [some (.ref x), some (.int v), some (.int u), some (.ref o), none] [.ref z5_1] [[(o, .inl (g.2.1 3, 1, .inr (.inl f)))], w0] 0 0 from ?_)
      refine g_astore (q := 19) (lv2 := [some (.ref x), some (.int v), some (.int u), some (.ref o), some (.ref z5_1)]) B dX0_read_17 rfl (Nat.le_of_ble_eq_true rfl) (rv_r _) rfl ?_
      refine g_iconst (v := nI 2) (q := 20) B dX0_read_19 rfl (by decide) ?_
      refine g_pk [1, 0] rfl rfl ?_
      refine (show Go g κ 20 [some (.ref x), some (.int v), some (.int u), some (.ref o), some (.ref z5_1)] [.int (nI 2)] [w0, [(o, .inl (g.2.1 3, 1, .inr (.inl f)))]] 0 0 from ?_)
      exact g_iret B E dX0_read_20 (⟨2, C, f, w0, rfl, rfl, hw0, (Or.inr (Or.inr (Or.inl (⟨rfl, rfl, hx5⟩))))⟩)
    · skip
      refine g_catch B tb (nm := "java/util/NoSuchElementException") [(⟨0, 10, 13, 19⟩ : ExceptionTableEntry), (⟨0, 10, 17, 27⟩ : ExceptionTableEntry)] (⟨0, 10, 21, 32⟩ : ExceptionTableEntry) [] rfl (fun z hz => by simp only [List.mem_cons, List.not_mem_nil, or_false] at hz; rcases hz with rfl | rfl; exact Or.inr ⟨by decide, "java/lang/IndexOutOfBoundsException", q1941, nc_306⟩; exact Or.inr ⟨by decide, "java/lang/UnsupportedOperationException", q2322, nc_356⟩) (by decide) (by decide) q2352 q978 (fun z5_2 => ?_)
      refine (show Go g κ 21 [some (.ref x), some (.int v), some (.int u), some (.ref o), none] [.ref z5_2] [[(o, .inl (g.2.1 3, 1, .inr (.inl f)))], w0] 0 0 from ?_)
      refine g_astore (q := 23) (lv2 := [some (.ref x), some (.int v), some (.int u), some (.ref o), some (.ref z5_2)]) B dX0_read_21 rfl (Nat.le_of_ble_eq_true rfl) (rv_r _) rfl ?_
      refine g_iconst (v := nI 3) (q := 24) B dX0_read_23 rfl (by decide) ?_
      refine g_pk [1, 0] rfl rfl ?_
      refine (show Go g κ 24 [some (.ref x), some (.int v), some (.int u), some (.ref o), some (.ref z5_2)] [.int (nI 3)] [w0, [(o, .inl (g.2.1 3, 1, .inr (.inl f)))]] 0 0 from ?_)
      exact g_iret B E dX0_read_24 (⟨3, C, f, w0, rfl, rfl, hw0, (Or.inr (Or.inr (Or.inr (⟨rfl, rfl, hx5⟩))))⟩)
  obtain ⟨u0_5, rfl, rfl, hu0_5, hF_5⟩ := hp5
  exact hF_5.elim
theorem moX1_messageOf : Mo yX1_messageOf 2 := by
  refine ⟨by decide, by decide, by decide +kernel⟩
theorem nc_309 : Cond.not (.castable "java/lang/IllegalArgumentException" "java/lang/IndexOutOfBoundsException") ∈ gNc := List.mem_of_getElem? (i := 309) (by decide +kernel)
theorem ct_X0_messageOf (g : Gv) (J : Jd g) {x : Nat} {C : KsS} {v : Int32} {k : Nat} {o : Nat} {f : Nat → Int64} {w0 : va_W} (hw0 : KgP g x C w0) (hC : KsB C) (hk : k < 65536) : Ct g yX0_messageOf (wsW_ yX0_messageOf cX0_messageOf 5 (some .int) [(0, 10, 13, 19), (0, 10, 17, 102)]) 11 10 60 [.ref x, .int v, .int (nI k), .ref o] [w0, [(o, .inl (g.2.1 3, 1, .inr (.inl f)))]] (fun (rv_ : Option Value) (rL_ : List va_W) => ∃ (kx : Nat) (C9 : KsS) (f9 : Nat → Int64) (u0 : va_W), rv_ = some (.int (nI kx)) ∧ rL_ = [u0, [(o, .inl (g.2.1 3, 1, .inr (.inl f9)))]] ∧ KgP g x C9 u0 ∧ ((kx = 0 ∧ ∃ (i : Nat) (r : MsS), C9 = C ∧ (f9 0 = (nI (if k = 101 then r.1 else if k = 108 then r.2.1 else r.2.2.1)).toInt64) ∧ (v = nI i) ∧ ((zMs C)[i]? = some r) ∧ (¬ elpI k = none)) ∨ (kx = 1 ∧ C9 = C ∧ (¬ inR v (zMs C).length = true)) ∨ (kx = 2 ∧ C9 = C ∧ (inR v (zMs C).length = true ∧ elpI k = none)))) noX := by
  refine Ct.ofW "KeygroveLaw" [some (.ref x), some (.int v), some (.int (nI k)), some (.ref o), none] rfl (by decide) rfl (Nat.le_of_ble_eq_true rfl) rfl ?_
  intro κ B E tb
  refine g_aload_n (q := 1) B dX0_messageOf_0 rfl rfl (rv_r _) ?_
  refine g_iconst (v := nI 0) (q := 2) B dX0_messageOf_1 rfl (by decide) ?_
  refine g_aload_n (q := 3) B dX0_messageOf_2 rfl rfl (rv_r _) ?_
  refine g_iload_n (q := 4) B dX0_messageOf_3 rfl rfl ?_
  refine g_iload_n (q := 5) B dX0_messageOf_4 rfl rfl ?_
  refine g_callV (q := 8) (is := [0]) (kc2 := 0) (ks2 := 0) B [.int v, .int (nI k)] (ct_X1_messageOf g J (x := x) (C := C) (v := v) (k := k) hw0 (hC) (hk)) dX0_messageOf_5 rfl (rc_in B (ci := 0) rfl (k := 0) rfl (KgP.hm hw0)) rfl q2915 q2916 q2917 q77 q2918 rfl rfl moX1_messageOf rfl rfl (by decide) (by decide) (Nat.le_of_ble_eq_true rfl) (Nat.le_of_ble_eq_true rfl) (Nat.le_of_ble_eq_true rfl) (fun E5 L1 hx5 => ?_) (fun v5 L1 hp5 => ?_)
  · skip
    obtain ⟨rfl, hx5⟩ := hx5
    rcases hx5 with ⟨rfl, hx5⟩ | ⟨rfl, hx5⟩
    · skip
      refine g_catch B tb (nm := "java/lang/IndexOutOfBoundsException") [] (⟨0, 10, 13, 19⟩ : ExceptionTableEntry) [(⟨0, 10, 17, 102⟩ : ExceptionTableEntry)] rfl (fun z hz => by cases hz) (by decide) (by decide) q1941 q341 (fun z5_0 => ?_)
      refine (show Go g κ 13 [some (.ref x), some (.int v), some (.int (nI k)), some (.ref o), none] [.ref z5_0] [[(o, .inl (g.2.1 3, 1, .inr (.inl f)))], w0] 0 0 from ?_)
      refine g_astore (q := 15) (lv2 := [some (.ref x), some (.int v), some (.int (nI k)), some (.ref o), some (.ref z5_0)]) B dX0_messageOf_13 rfl (Nat.le_of_ble_eq_true rfl) (rv_r _) rfl ?_
      refine g_iconst (v := nI 1) (q := 16) B dX0_messageOf_15 rfl (by decide) ?_
      refine g_pk [1, 0] rfl rfl ?_
      refine (show Go g κ 16 [some (.ref x), some (.int v), some (.int (nI k)), some (.ref o), some (.ref z5_0)] [.int (nI 1)] [w0, [(o, .inl (g.2.1 3, 1, .inr (.inl f)))]] 0 0 from ?_)
      exact g_iret B E dX0_messageOf_16 (⟨1, C, f, w0, rfl, rfl, hw0, (Or.inr (Or.inl (⟨rfl, rfl, hx5⟩)))⟩)
    · skip
      refine g_catch B tb (nm := "java/lang/IllegalArgumentException") [(⟨0, 10, 13, 19⟩ : ExceptionTableEntry)] (⟨0, 10, 17, 102⟩ : ExceptionTableEntry) [] rfl (fun z hz => by simp only [List.mem_cons, List.not_mem_nil, or_false] at hz; rcases hz with rfl; exact Or.inr ⟨by decide, "java/lang/IndexOutOfBoundsException", q1941, nc_309⟩) (by decide) (by decide) q2914 q601 (fun z5_1 => ?_)
      refine (show Go g κ 17 [some (.ref x), some (.int v), some (.int (nI k)), some (.ref o), none] [.ref z5_1] [[(o, .inl (g.2.1 3, 1, .inr (.inl f)))], w0] 0 0 from ?_)
      refine g_astore (q := 19) (lv2 := [some (.ref x), some (.int v), some (.int (nI k)), some (.ref o), some (.ref z5_1)]) B dX0_messageOf_17 rfl (Nat.le_of_ble_eq_true rfl) (rv_r _) rfl ?_
      refine g_iconst (v := nI 2) (q := 20) B dX0_messageOf_19 rfl (by decide) ?_
      refine g_pk [1, 0] rfl rfl ?_
      refine (show Go g κ 20 [some (.ref x), some (.int v), some (.int (nI k)), some (.ref o), some (.ref z5_1)] [.int (nI 2)] [w0, [(o, .inl (g.2.1 3, 1, .inr (.inl f)))]] 0 0 from ?_)
      exact g_iret B E dX0_messageOf_20 (⟨2, C, f, w0, rfl, rfl, hw0, (Or.inr (Or.inr (⟨rfl, rfl, hx5⟩)))⟩)
  obtain ⟨i5, r5, u0_5, rfl, rfl, hu0_5, hv_5, hr_5, hel_5⟩ := hp5
  refine (show Go g κ 8 [some (.ref x), some (.int v), some (.int (nI k)), some (.ref o), none] [.int (nI (if k = 101 then r5.1 else if k = 108 then r5.2.1 else r5.2.2.1)), .int (nI 0), .ref o] [[(o, .inl (g.2.1 3, 1, .inr (.inl f)))], u0_5] 0 0 from ?_)
  refine g_i2l (v := (nI (if k = 101 then r5.1 else if k = 108 then r5.2.1 else r5.2.2.1)).toInt64) (q := 9) B dX0_messageOf_8 rfl rfl ?_
  refine g_last (q := 10) (L2 := [[(o, .inl (g.2.1 3, 1, .inr (.inl (vp_updL f 0 ((nI (if k = 101 then r5.1 else if k = 108 then r5.2.1 else r5.2.2.1)).toInt64)))))], u0_5]) B (k := 0) dX0_messageOf_9 rfl rfl (vp_in_nI (by omega) (by omega)) (by rw [nI_clamp (by omega)] <;> rfl) ?_
  refine g_goto (tgt := 21) B dX0_messageOf_10 (by decide) ?_
  refine g_iconst (v := nI 0) (q := 22) B dX0_messageOf_21 rfl (by decide) ?_
  refine g_pk [1, 0] rfl rfl ?_
  refine (show Go g κ 22 [some (.ref x), some (.int v), some (.int (nI k)), some (.ref o), none] [.int (nI 0)] [u0_5, [(o, .inl (g.2.1 3, 1, .inr (.inl (vp_updL f 0 ((nI (if k = 101 then r5.1 else if k = 108 then r5.2.1 else r5.2.2.1)).toInt64)))))]] 0 0 from ?_)
  exact g_iret B E dX0_messageOf_22 (⟨0, C, vp_updL f 0 ((nI (if k = 101 then r5.1 else if k = 108 then r5.2.1 else r5.2.2.1)).toInt64), u0_5, rfl, rfl, hu0_5, (Or.inl (⟨rfl, i5, r5, rfl, rfl, hv_5, hr_5, hel_5⟩))⟩)
theorem moX1_steal : Mo yX1_steal 1 := by
  refine ⟨by decide, by decide, by decide +kernel⟩
theorem ct_X0_steal (g : Gv) (J : Jd g) {x : Nat} {C : KsS} {v : Int32} {o : Nat} {f : Nat → Int64} {w0 : va_W} (hw0 : KgP g x C w0) (hC : KsB C) : Ct g yX0_steal (wsW_ yX0_steal cX0_steal 4 (some .int) [(0, 9, 12, 19)]) 11 1700 8000 [.ref x, .int v, .ref o] [w0, [(o, .inl (g.2.1 3, 1, .inr (.inl f)))]] (fun (rv_ : Option Value) (rL_ : List va_W) => ∃ (kx : Nat) (C9 : KsS) (f9 : Nat → Int64) (u0 : va_W), rv_ = some (.int (nI kx)) ∧ rL_ = [u0, [(o, .inl (g.2.1 3, 1, .inr (.inl f9)))]] ∧ KgP g x C9 u0 ∧ ((kx = 0 ∧ ∃ (i : Nat) (r : PeS) (H : Nat → Bool) (K : Nat → Bool) (S2 : Nat → Bool), C9 = ((zSs C, zBx C, zZz C, zPs C, zKs C, zRs C, zTs C, zSt C, zMs C, S2, zBn C) : KsS) ∧ (f9 0 = (nI (ctK (fun j => H j && !K j))).toInt64) ∧ (v = nI i) ∧ ((zPs C)[i]? = some r) ∧ (∀ x, H x = true ↔ helP (zKs C) r x) ∧ (∀ x, K x = true ↔ ClQ (zSs C) (zBx C) (fun v => zSo C v = true) x) ∧ (∀ x, S2 x = true ↔ zSo C x = true ∨ helP (zKs C) r x)) ∨ (kx = 1 ∧ C9 = C ∧ (¬ inR v (zPs C).length = true)))) noX := by
  refine Ct.ofW "KeygroveLaw" [some (.ref x), some (.int v), some (.ref o), none] rfl (by decide) rfl (Nat.le_of_ble_eq_true rfl) rfl ?_
  intro κ B E tb
  refine g_aload_n (q := 1) B dX0_steal_0 rfl rfl (rv_r _) ?_
  refine g_iconst (v := nI 0) (q := 2) B dX0_steal_1 rfl (by decide) ?_
  refine g_aload_n (q := 3) B dX0_steal_2 rfl rfl (rv_r _) ?_
  refine g_iload_n (q := 4) B dX0_steal_3 rfl rfl ?_
  refine g_callV (q := 7) (is := [0]) (kc2 := 0) (ks2 := 0) B [.int v] (ct_X1_steal g J (x := x) (C := C) (v := v) hw0 (hC)) dX0_steal_4 rfl (rc_in B (ci := 0) rfl (k := 0) rfl (KgP.hm hw0)) rfl q2975 q2976 q2977 q77 q2978 rfl rfl moX1_steal rfl rfl (by decide) (by decide) (Nat.le_of_ble_eq_true rfl) (Nat.le_of_ble_eq_true rfl) (Nat.le_of_ble_eq_true rfl) (fun E4 L1 hx4 => ?_) (fun v4 L1 hp4 => ?_)
  · skip
    obtain ⟨rfl, hx4⟩ := hx4
    obtain ⟨rfl, hx4⟩ := hx4
    refine g_catch B tb (nm := "java/lang/IndexOutOfBoundsException") [] (⟨0, 9, 12, 19⟩ : ExceptionTableEntry) [] rfl (fun z hz => by cases hz) (by decide) (by decide) q1941 q341 (fun z4_0 => ?_)
    refine (show Go g κ 12 [some (.ref x), some (.int v), some (.ref o), none] [.ref z4_0] [[(o, .inl (g.2.1 3, 1, .inr (.inl f)))], w0] 0 0 from ?_)
    refine g_astore_n (q := 13) (lv2 := [some (.ref x), some (.int v), some (.ref o), some (.ref z4_0)]) B dX0_steal_12 rfl (Nat.le_of_ble_eq_true rfl) (rv_r _) rfl ?_
    refine g_iconst (v := nI 1) (q := 14) B dX0_steal_13 rfl (by decide) ?_
    refine g_pk [1, 0] rfl rfl ?_
    refine (show Go g κ 14 [some (.ref x), some (.int v), some (.ref o), some (.ref z4_0)] [.int (nI 1)] [w0, [(o, .inl (g.2.1 3, 1, .inr (.inl f)))]] 0 0 from ?_)
    exact g_iret B E dX0_steal_14 (⟨1, C, f, w0, rfl, rfl, hw0, (Or.inr (⟨rfl, rfl, hx4⟩))⟩)
  obtain ⟨i4, r4, H4, K4, S24, u0_4, rfl, rfl, hu0_4, hv_4, hr_4, hH_4, hQ_4, hS2_4⟩ := hp4
  refine (show Go g κ 7 [some (.ref x), some (.int v), some (.ref o), none] [.int (nI (ctK (fun j => H4 j && !K4 j))), .int (nI 0), .ref o] [[(o, .inl (g.2.1 3, 1, .inr (.inl f)))], u0_4] 0 0 from ?_)
  refine g_i2l (v := (nI (ctK (fun j => H4 j && !K4 j))).toInt64) (q := 8) B dX0_steal_7 rfl rfl ?_
  refine g_last (q := 9) (L2 := [[(o, .inl (g.2.1 3, 1, .inr (.inl (vp_updL f 0 ((nI (ctK (fun j => H4 j && !K4 j))).toInt64)))))], u0_4]) B (k := 0) dX0_steal_8 rfl rfl (vp_in_nI (by omega) (by omega)) (by rw [nI_clamp (by omega)] <;> rfl) ?_
  refine g_goto (tgt := 15) B dX0_steal_9 (by decide) ?_
  refine g_iconst (v := nI 0) (q := 16) B dX0_steal_15 rfl (by decide) ?_
  refine g_pk [1, 0] rfl rfl ?_
  refine (show Go g κ 16 [some (.ref x), some (.int v), some (.ref o), none] [.int (nI 0)] [u0_4, [(o, .inl (g.2.1 3, 1, .inr (.inl (vp_updL f 0 ((nI (ctK (fun j => H4 j && !K4 j))).toInt64)))))]] 0 0 from ?_)
  exact g_iret B E dX0_steal_16 (⟨0, ((zSs C, zBx C, zZz C, zPs C, zKs C, zRs C, zTs C, zSt C, zMs C, S24, zBn C) : KsS), vp_updL f 0 ((nI (ctK (fun j => H4 j && !K4 j))).toInt64), u0_4, rfl, rfl, hu0_4, (Or.inl (⟨rfl, i4, r4, H4, K4, S24, rfl, rfl, hv_4, hr_4, hH_4, hQ_4, hS2_4⟩))⟩)
theorem moX1_finds : Mo yX1_finds 1 := by
  refine ⟨by decide, by decide, by decide +kernel⟩
theorem ct_X0_finds (g : Gv) (J : Jd g) {x : Nat} {C : KsS} {v : Int32} {o : Nat} {f : Nat → Int64} {w0 : va_W} (hw0 : KgP g x C w0) (hC : KsB C) (hky : ∀ (e : Nat) (s : StS), (zSt C)[e]? = some s → s.2.2.1 < (zSs C).length ∧ ∃ ky, fnd (zSs C) (s.2.2.1, none, 6) = some ky) : Ct g yX0_finds (wsW_ yX0_finds cX0_finds 4 (some .int) [(0, 16, 19, 19)]) 15 1500 7000 [.ref x, .int v, .ref o] [w0, [(o, .inl (g.2.1 3, 1, .inr (.inl f)))]] (fun (rv_ : Option Value) (rL_ : List va_W) => ∃ (kx : Nat) (C9 : KsS) (f9 : Nat → Int64) (u0 : va_W), rv_ = some (.int (nI kx)) ∧ rL_ = [u0, [(o, .inl (g.2.1 3, 1, .inr (.inl f9)))]] ∧ KgP g x C9 u0 ∧ ((kx = 0 ∧ ∃ (i : Nat) (s : StS) (ky : Nat) (K : Nat → Bool), C9 = C ∧ (((K ky = true) → f9 0 = 1) ∧ (¬ (K ky = true) → f9 0 = 0)) ∧ (v = nI i) ∧ (i < (zTs C).length) ∧ ((zSt C)[i]? = some s) ∧ (fnd (zSs C) (s.2.2.1, none, 6) = some ky) ∧ (∀ x, K x = true ↔ ClQ (zSs C) (zBx C) (fun v => zSo C v = true) x)) ∨ (kx = 1 ∧ C9 = C ∧ (¬ inR v (zTs C).length = true)))) noX := by
  refine Ct.ofW "KeygroveLaw" [some (.ref x), some (.int v), some (.ref o), none] rfl (by decide) rfl (Nat.le_of_ble_eq_true rfl) rfl ?_
  intro κ B E tb
  refine g_aload_n (q := 1) B dX0_finds_0 rfl rfl (rv_r _) ?_
  refine g_iconst (v := nI 0) (q := 2) B dX0_finds_1 rfl (by decide) ?_
  refine g_aload_n (q := 3) B dX0_finds_2 rfl rfl (rv_r _) ?_
  refine g_iload_n (q := 4) B dX0_finds_3 rfl rfl ?_
  refine g_callV (q := 7) (is := [0]) (kc2 := 0) (ks2 := 0) B [.int v] (ct_X1_finds g J (x := x) (C := C) (v := v) hw0 (hC) (hky)) dX0_finds_4 rfl (rc_in B (ci := 0) rfl (k := 0) rfl (KgP.hm hw0)) rfl q2991 q2992 q2993 q77 q2994 rfl rfl moX1_finds rfl rfl (by decide) (by decide) (Nat.le_of_ble_eq_true rfl) (Nat.le_of_ble_eq_true rfl) (Nat.le_of_ble_eq_true rfl) (fun E4 L1 hx4 => ?_) (fun v4 L1 hp4 => ?_)
  · skip
    obtain ⟨rfl, hx4⟩ := hx4
    obtain ⟨rfl, hx4⟩ := hx4
    refine g_catch B tb (nm := "java/lang/IndexOutOfBoundsException") [] (⟨0, 16, 19, 19⟩ : ExceptionTableEntry) [] rfl (fun z hz => by cases hz) (by decide) (by decide) q1941 q341 (fun z4_0 => ?_)
    refine (show Go g κ 19 [some (.ref x), some (.int v), some (.ref o), none] [.ref z4_0] [[(o, .inl (g.2.1 3, 1, .inr (.inl f)))], w0] 0 0 from ?_)
    refine g_astore_n (q := 20) (lv2 := [some (.ref x), some (.int v), some (.ref o), some (.ref z4_0)]) B dX0_finds_19 rfl (Nat.le_of_ble_eq_true rfl) (rv_r _) rfl ?_
    refine g_iconst (v := nI 1) (q := 21) B dX0_finds_20 rfl (by decide) ?_
    refine g_pk [1, 0] rfl rfl ?_
    refine (show Go g κ 21 [some (.ref x), some (.int v), some (.ref o), some (.ref z4_0)] [.int (nI 1)] [w0, [(o, .inl (g.2.1 3, 1, .inr (.inl f)))]] 0 0 from ?_)
    exact g_iret B E dX0_finds_21 (⟨1, C, f, w0, rfl, rfl, hw0, (Or.inr (⟨rfl, rfl, hx4⟩))⟩)
  obtain ⟨i4, s4, ky4, K4, u0_4, rfl, rfl, hu0_4, hv_4, hi_4, hs_4, hky_4, hQ_4⟩ := hp4
  refine (show Go g κ 7 [some (.ref x), some (.int v), some (.ref o), none] [.int (nI (if K4 ky4 = true then 1 else 0)), .int (nI 0), .ref o] [[(o, .inl (g.2.1 3, 1, .inr (.inl f)))], u0_4] 0 0 from ?_)
  refine g_if_eq (tgt := 14) (q := 10) B dX0_finds_7 rfl (by decide) (bo_eq) (fun c7 => ?_) (fun c7 => ?_)
  · skip
    refine g_lconst (v := 0) (q := 15) B dX0_finds_14 rfl (by decide) ?_
    refine g_last (q := 16) (L2 := [[(o, .inl (g.2.1 3, 1, .inr (.inl (vp_updL f 0 0))))], u0_4]) B (k := 0) dX0_finds_15 rfl rfl (vp_in_nI (by omega) (by omega)) (by rw [nI_clamp (by omega)] <;> rfl) ?_
    refine g_goto (tgt := 22) B dX0_finds_16 (by decide) ?_
    refine g_iconst (v := nI 0) (q := 23) B dX0_finds_22 rfl (by decide) ?_
    refine g_pk [1, 0] rfl rfl ?_
    refine (show Go g κ 23 [some (.ref x), some (.int v), some (.ref o), none] [.int (nI 0)] [u0_4, [(o, .inl (g.2.1 3, 1, .inr (.inl (vp_updL f 0 0))))]] 0 0 from ?_)
    exact g_iret B E dX0_finds_23 (⟨0, C, vp_updL f 0 0, u0_4, rfl, rfl, hu0_4, (Or.inl (⟨rfl, i4, s4, ky4, K4, rfl, ⟨fun z => absurd z c7, fun _ => rfl⟩, hv_4, hi_4, hs_4, hky_4, hQ_4⟩))⟩)
  · skip
    have c7 := Classical.not_not.mp c7
    refine g_lconst (v := 1) (q := 11) B dX0_finds_10 rfl (by decide) ?_
    refine g_goto (tgt := 15) B dX0_finds_11 (by decide) ?_
    refine g_last (q := 16) (L2 := [[(o, .inl (g.2.1 3, 1, .inr (.inl (vp_updL f 0 1))))], u0_4]) B (k := 0) dX0_finds_15 rfl rfl (vp_in_nI (by omega) (by omega)) (by rw [nI_clamp (by omega)] <;> rfl) ?_
    refine g_goto (tgt := 22) B dX0_finds_16 (by decide) ?_
    refine g_iconst (v := nI 0) (q := 23) B dX0_finds_22 rfl (by decide) ?_
    refine g_pk [1, 0] rfl rfl ?_
    refine (show Go g κ 23 [some (.ref x), some (.int v), some (.ref o), none] [.int (nI 0)] [u0_4, [(o, .inl (g.2.1 3, 1, .inr (.inl (vp_updL f 0 1))))]] 0 0 from ?_)
    exact g_iret B E dX0_finds_23 (⟨0, C, vp_updL f 0 1, u0_4, rfl, rfl, hu0_4, (Or.inl (⟨rfl, i4, s4, ky4, K4, rfl, ⟨fun _ => rfl, fun z => absurd c7 z⟩, hv_4, hi_4, hs_4, hky_4, hQ_4⟩))⟩)
theorem moX1_findsText : Mo yX1_findsText 1 := by
  refine ⟨by decide, by decide, by decide +kernel⟩
theorem ct_X0_findsText (g : Gv) (J : Jd g) {x : Nat} {C : KsS} {v : Int32} {o : Nat} {f : Nat → Int64} {w0 : va_W} (hw0 : KgP g x C w0) (hC : KsB C) (hmb : ∀ r ∈ zMs C, r.2.2.2 < 1000) : Ct g yX0_findsText (wsW_ yX0_findsText cX0_findsText 4 (some .int) [(0, 16, 19, 19)]) 11 1500 7000 [.ref x, .int v, .ref o] [w0, [(o, .inl (g.2.1 3, 1, .inr (.inl f)))]] (fun (rv_ : Option Value) (rL_ : List va_W) => ∃ (kx : Nat) (C9 : KsS) (f9 : Nat → Int64) (u0 : va_W), rv_ = some (.int (nI kx)) ∧ rL_ = [u0, [(o, .inl (g.2.1 3, 1, .inr (.inl f9)))]] ∧ KgP g x C9 u0 ∧ ((kx = 0 ∧ ∃ (i : Nat) (r : MsS) (K : Nat → Bool), C9 = C ∧ (((K r.2.2.2 = true) → f9 0 = 1) ∧ (¬ (K r.2.2.2 = true) → f9 0 = 0)) ∧ (v = nI i) ∧ ((zMs C)[i]? = some r) ∧ (∀ x, K x = true ↔ ClQ (zSs C) (zBx C) (fun v => zSo C v = true) x)) ∨ (kx = 1 ∧ C9 = C ∧ (¬ inR v (zMs C).length = true)))) noX := by
  refine Ct.ofW "KeygroveLaw" [some (.ref x), some (.int v), some (.ref o), none] rfl (by decide) rfl (Nat.le_of_ble_eq_true rfl) rfl ?_
  intro κ B E tb
  refine g_aload_n (q := 1) B dX0_findsText_0 rfl rfl (rv_r _) ?_
  refine g_iconst (v := nI 0) (q := 2) B dX0_findsText_1 rfl (by decide) ?_
  refine g_aload_n (q := 3) B dX0_findsText_2 rfl rfl (rv_r _) ?_
  refine g_iload_n (q := 4) B dX0_findsText_3 rfl rfl ?_
  refine g_callV (q := 7) (is := [0]) (kc2 := 0) (ks2 := 0) B [.int v] (ct_X1_findsText g J (x := x) (C := C) (v := v) hw0 (hC) (hmb)) dX0_findsText_4 rfl (rc_in B (ci := 0) rfl (k := 0) rfl (KgP.hm hw0)) rfl q2998 q2999 q3000 q77 q3001 rfl rfl moX1_findsText rfl rfl (by decide) (by decide) (Nat.le_of_ble_eq_true rfl) (Nat.le_of_ble_eq_true rfl) (Nat.le_of_ble_eq_true rfl) (fun E4 L1 hx4 => ?_) (fun v4 L1 hp4 => ?_)
  · skip
    obtain ⟨rfl, hx4⟩ := hx4
    obtain ⟨rfl, hx4⟩ := hx4
    refine g_catch B tb (nm := "java/lang/IndexOutOfBoundsException") [] (⟨0, 16, 19, 19⟩ : ExceptionTableEntry) [] rfl (fun z hz => by cases hz) (by decide) (by decide) q1941 q341 (fun z4_0 => ?_)
    refine (show Go g κ 19 [some (.ref x), some (.int v), some (.ref o), none] [.ref z4_0] [[(o, .inl (g.2.1 3, 1, .inr (.inl f)))], w0] 0 0 from ?_)
    refine g_astore_n (q := 20) (lv2 := [some (.ref x), some (.int v), some (.ref o), some (.ref z4_0)]) B dX0_findsText_19 rfl (Nat.le_of_ble_eq_true rfl) (rv_r _) rfl ?_
    refine g_iconst (v := nI 1) (q := 21) B dX0_findsText_20 rfl (by decide) ?_
    refine g_pk [1, 0] rfl rfl ?_
    refine (show Go g κ 21 [some (.ref x), some (.int v), some (.ref o), some (.ref z4_0)] [.int (nI 1)] [w0, [(o, .inl (g.2.1 3, 1, .inr (.inl f)))]] 0 0 from ?_)
    exact g_iret B E dX0_findsText_21 (⟨1, C, f, w0, rfl, rfl, hw0, (Or.inr (⟨rfl, rfl, hx4⟩))⟩)
  obtain ⟨i4, r4, K4, u0_4, rfl, rfl, hu0_4, hv_4, hr_4, hQ_4⟩ := hp4
  refine (show Go g κ 7 [some (.ref x), some (.int v), some (.ref o), none] [.int (nI (if K4 r4.2.2.2 = true then 1 else 0)), .int (nI 0), .ref o] [[(o, .inl (g.2.1 3, 1, .inr (.inl f)))], u0_4] 0 0 from ?_)
  refine g_if_eq (tgt := 14) (q := 10) B dX0_findsText_7 rfl (by decide) (bo_eq) (fun c7 => ?_) (fun c7 => ?_)
  · skip
    refine g_lconst (v := 0) (q := 15) B dX0_findsText_14 rfl (by decide) ?_
    refine g_last (q := 16) (L2 := [[(o, .inl (g.2.1 3, 1, .inr (.inl (vp_updL f 0 0))))], u0_4]) B (k := 0) dX0_findsText_15 rfl rfl (vp_in_nI (by omega) (by omega)) (by rw [nI_clamp (by omega)] <;> rfl) ?_
    refine g_goto (tgt := 22) B dX0_findsText_16 (by decide) ?_
    refine g_iconst (v := nI 0) (q := 23) B dX0_findsText_22 rfl (by decide) ?_
    refine g_pk [1, 0] rfl rfl ?_
    refine (show Go g κ 23 [some (.ref x), some (.int v), some (.ref o), none] [.int (nI 0)] [u0_4, [(o, .inl (g.2.1 3, 1, .inr (.inl (vp_updL f 0 0))))]] 0 0 from ?_)
    exact g_iret B E dX0_findsText_23 (⟨0, C, vp_updL f 0 0, u0_4, rfl, rfl, hu0_4, (Or.inl (⟨rfl, i4, r4, K4, rfl, ⟨fun z => absurd z c7, fun _ => rfl⟩, hv_4, hr_4, hQ_4⟩))⟩)
  · skip
    have c7 := Classical.not_not.mp c7
    refine g_lconst (v := 1) (q := 11) B dX0_findsText_10 rfl (by decide) ?_
    refine g_goto (tgt := 15) B dX0_findsText_11 (by decide) ?_
    refine g_last (q := 16) (L2 := [[(o, .inl (g.2.1 3, 1, .inr (.inl (vp_updL f 0 1))))], u0_4]) B (k := 0) dX0_findsText_15 rfl rfl (vp_in_nI (by omega) (by omega)) (by rw [nI_clamp (by omega)] <;> rfl) ?_
    refine g_goto (tgt := 22) B dX0_findsText_16 (by decide) ?_
    refine g_iconst (v := nI 0) (q := 23) B dX0_findsText_22 rfl (by decide) ?_
    refine g_pk [1, 0] rfl rfl ?_
    refine (show Go g κ 23 [some (.ref x), some (.int v), some (.ref o), none] [.int (nI 0)] [u0_4, [(o, .inl (g.2.1 3, 1, .inr (.inl (vp_updL f 0 1))))]] 0 0 from ?_)
    exact g_iret B E dX0_findsText_23 (⟨0, C, vp_updL f 0 1, u0_4, rfl, rfl, hu0_4, (Or.inl (⟨rfl, i4, r4, K4, rfl, ⟨fun _ => rfl, fun z => absurd c7 z⟩, hv_4, hr_4, hQ_4⟩))⟩)
theorem moX1_canFind : Mo yX1_canFind 3 := by
  refine ⟨by decide, by decide, by decide +kernel⟩
theorem ct_X0_canFind (g : Gv) (J : Jd g) {x : Nat} {C : KsS} {v : Int32} {u : Int32} {ev : Bool} {o : Nat} {f : Nat → Int64} {w0 : va_W} (hw0 : KgP g x C w0) (hC : KsB C) (hky : ∀ (e : Nat) (s : StS), (zSt C)[e]? = some s → s.2.2.1 < (zSs C).length ∧ ∃ ky, fnd (zSs C) (s.2.2.1, none, 6) = some ky) : Ct g yX0_canFind (wsW_ yX0_canFind cX0_canFind 6 (some .int) [(0, 19, 22, 19)]) 15 1600 7400 [.ref x, .int v, .int u, .int (nI (if ev = true then 1 else 0)), .ref o] [w0, [(o, .inl (g.2.1 3, 1, .inr (.inl f)))]] (fun (rv_ : Option Value) (rL_ : List va_W) => ∃ (kx : Nat) (C9 : KsS) (f9 : Nat → Int64) (u0 : va_W), rv_ = some (.int (nI kx)) ∧ rL_ = [u0, [(o, .inl (g.2.1 3, 1, .inr (.inl f9)))]] ∧ KgP g x C9 u0 ∧ ((kx = 0 ∧ ∃ (i : Nat) (r : PeS) (j : Nat) (sx : StS) (ky : Nat) (K : Nat → Bool), C9 = C ∧ (((K ky = true) → f9 0 = 1) ∧ (¬ (K ky = true) → f9 0 = 0)) ∧ (v = nI i) ∧ ((zPs C)[i]? = some r) ∧ (u = nI j) ∧ (j < (zTs C).length) ∧ ((zSt C)[j]? = some sx) ∧ (fnd (zSs C) (sx.2.2.1, none, 6) = some ky) ∧ (∀ x, K x = true ↔ ClQ (zSs C) (zBx C) (fun y => if ev = true then pEv r y = true else helP (zKs C) r y) x)) ∨ (kx = 1 ∧ C9 = C ∧ (¬ (inR v (zPs C).length = true ∧ inR u (zTs C).length = true))))) noX := by
  refine Ct.ofW "KeygroveLaw" [some (.ref x), some (.int v), some (.int u), some (.int (nI (if ev = true then 1 else 0))), some (.ref o), none] rfl (by decide) rfl (Nat.le_of_ble_eq_true rfl) rfl ?_
  intro κ B E tb
  refine g_aload (q := 2) B dX0_canFind_0 rfl rfl (rv_r _) ?_
  refine g_iconst (v := nI 0) (q := 3) B dX0_canFind_2 rfl (by decide) ?_
  refine g_aload_n (q := 4) B dX0_canFind_3 rfl rfl (rv_r _) ?_
  refine g_iload_n (q := 5) B dX0_canFind_4 rfl rfl ?_
  refine g_iload_n (q := 6) B dX0_canFind_5 rfl rfl ?_
  refine g_iload_n (q := 7) B dX0_canFind_6 rfl rfl ?_
  refine g_callV (q := 10) (is := [0]) (kc2 := 0) (ks2 := 0) B [.int v, .int u, .int (nI (if ev = true then 1 else 0))] (ct_X1_canFind g J (x := x) (C := C) (v := v) (u := u) (ev := ev) hw0 (hC) (hky)) dX0_canFind_7 rfl (rc_in B (ci := 0) rfl (k := 0) rfl (KgP.hm hw0)) rfl q3005 q3006 q3007 q77 q3008 rfl rfl moX1_canFind rfl rfl (by decide) (by decide) (Nat.le_of_ble_eq_true rfl) (Nat.le_of_ble_eq_true rfl) (Nat.le_of_ble_eq_true rfl) (fun E7 L1 hx7 => ?_) (fun v7 L1 hp7 => ?_)
  · skip
    obtain ⟨rfl, hx7⟩ := hx7
    obtain ⟨rfl, hx7⟩ := hx7
    refine g_catch B tb (nm := "java/lang/IndexOutOfBoundsException") [] (⟨0, 19, 22, 19⟩ : ExceptionTableEntry) [] rfl (fun z hz => by cases hz) (by decide) (by decide) q1941 q341 (fun z7_0 => ?_)
    refine (show Go g κ 22 [some (.ref x), some (.int v), some (.int u), some (.int (nI (if ev = true then 1 else 0))), some (.ref o), none] [.ref z7_0] [[(o, .inl (g.2.1 3, 1, .inr (.inl f)))], w0] 0 0 from ?_)
    refine g_astore (q := 24) (lv2 := [some (.ref x), some (.int v), some (.int u), some (.int (nI (if ev = true then 1 else 0))), some (.ref o), some (.ref z7_0)]) B dX0_canFind_22 rfl (Nat.le_of_ble_eq_true rfl) (rv_r _) rfl ?_
    refine g_iconst (v := nI 1) (q := 25) B dX0_canFind_24 rfl (by decide) ?_
    refine g_pk [1, 0] rfl rfl ?_
    refine (show Go g κ 25 [some (.ref x), some (.int v), some (.int u), some (.int (nI (if ev = true then 1 else 0))), some (.ref o), some (.ref z7_0)] [.int (nI 1)] [w0, [(o, .inl (g.2.1 3, 1, .inr (.inl f)))]] 0 0 from ?_)
    exact g_iret B E dX0_canFind_25 (⟨1, C, f, w0, rfl, rfl, hw0, (Or.inr (⟨rfl, rfl, hx7⟩))⟩)
  obtain ⟨i7, r7, j7, sx7, ky7, K7, u0_7, rfl, rfl, hu0_7, hv_7, hr_7, hu_7, hj_7, hs_7, hkf_7, hQ_7⟩ := hp7
  refine (show Go g κ 10 [some (.ref x), some (.int v), some (.int u), some (.int (nI (if ev = true then 1 else 0))), some (.ref o), none] [.int (nI (if K7 ky7 = true then 1 else 0)), .int (nI 0), .ref o] [[(o, .inl (g.2.1 3, 1, .inr (.inl f)))], u0_7] 0 0 from ?_)
  refine g_if_eq (tgt := 17) (q := 13) B dX0_canFind_10 rfl (by decide) (bo_eq) (fun c10 => ?_) (fun c10 => ?_)
  · skip
    refine g_lconst (v := 0) (q := 18) B dX0_canFind_17 rfl (by decide) ?_
    refine g_last (q := 19) (L2 := [[(o, .inl (g.2.1 3, 1, .inr (.inl (vp_updL f 0 0))))], u0_7]) B (k := 0) dX0_canFind_18 rfl rfl (vp_in_nI (by omega) (by omega)) (by rw [nI_clamp (by omega)] <;> rfl) ?_
    refine g_goto (tgt := 26) B dX0_canFind_19 (by decide) ?_
    refine g_iconst (v := nI 0) (q := 27) B dX0_canFind_26 rfl (by decide) ?_
    refine g_pk [1, 0] rfl rfl ?_
    refine (show Go g κ 27 [some (.ref x), some (.int v), some (.int u), some (.int (nI (if ev = true then 1 else 0))), some (.ref o), none] [.int (nI 0)] [u0_7, [(o, .inl (g.2.1 3, 1, .inr (.inl (vp_updL f 0 0))))]] 0 0 from ?_)
    exact g_iret B E dX0_canFind_27 (⟨0, C, vp_updL f 0 0, u0_7, rfl, rfl, hu0_7, (Or.inl (⟨rfl, i7, r7, j7, sx7, ky7, K7, rfl, ⟨fun z => absurd z c10, fun _ => rfl⟩, hv_7, hr_7, hu_7, hj_7, hs_7, hkf_7, hQ_7⟩))⟩)
  · skip
    have c10 := Classical.not_not.mp c10
    refine g_lconst (v := 1) (q := 14) B dX0_canFind_13 rfl (by decide) ?_
    refine g_goto (tgt := 18) B dX0_canFind_14 (by decide) ?_
    refine g_last (q := 19) (L2 := [[(o, .inl (g.2.1 3, 1, .inr (.inl (vp_updL f 0 1))))], u0_7]) B (k := 0) dX0_canFind_18 rfl rfl (vp_in_nI (by omega) (by omega)) (by rw [nI_clamp (by omega)] <;> rfl) ?_
    refine g_goto (tgt := 26) B dX0_canFind_19 (by decide) ?_
    refine g_iconst (v := nI 0) (q := 27) B dX0_canFind_26 rfl (by decide) ?_
    refine g_pk [1, 0] rfl rfl ?_
    refine (show Go g κ 27 [some (.ref x), some (.int v), some (.int u), some (.int (nI (if ev = true then 1 else 0))), some (.ref o), none] [.int (nI 0)] [u0_7, [(o, .inl (g.2.1 3, 1, .inr (.inl (vp_updL f 0 1))))]] 0 0 from ?_)
    exact g_iret B E dX0_canFind_27 (⟨0, C, vp_updL f 0 1, u0_7, rfl, rfl, hu0_7, (Or.inl (⟨rfl, i7, r7, j7, sx7, ky7, K7, rfl, ⟨fun _ => rfl, fun z => absurd c10 z⟩, hv_7, hr_7, hu_7, hj_7, hs_7, hkf_7, hQ_7⟩))⟩)
theorem moX1_canRead : Mo yX1_canRead 2 := by
  refine ⟨by decide, by decide, by decide +kernel⟩
theorem ct_X0_canRead (g : Gv) (J : Jd g) {x : Nat} {C : KsS} {v : Int32} {u : Int32} {o : Nat} {f : Nat → Int64} {w0 : va_W} (hw0 : KgP g x C w0) (hC : KsB C) (hmb : ∀ r ∈ zMs C, r.2.2.2 < 1000) : Ct g yX0_canRead (wsW_ yX0_canRead cX0_canRead 5 (some .int) [(0, 17, 20, 19)]) 11 1600 7400 [.ref x, .int v, .int u, .ref o] [w0, [(o, .inl (g.2.1 3, 1, .inr (.inl f)))]] (fun (rv_ : Option Value) (rL_ : List va_W) => ∃ (kx : Nat) (C9 : KsS) (f9 : Nat → Int64) (u0 : va_W), rv_ = some (.int (nI kx)) ∧ rL_ = [u0, [(o, .inl (g.2.1 3, 1, .inr (.inl f9)))]] ∧ KgP g x C9 u0 ∧ ((kx = 0 ∧ ∃ (i : Nat) (r : PeS) (j : Nat) (m : MsS) (K : Nat → Bool), C9 = C ∧ (((K m.2.2.2 = true) → f9 0 = 1) ∧ (¬ (K m.2.2.2 = true) → f9 0 = 0)) ∧ (v = nI i) ∧ ((zPs C)[i]? = some r) ∧ (u = nI j) ∧ ((zMs C)[j]? = some m) ∧ (∀ x, K x = true ↔ ClQ (zSs C) (zBx C) (helP (zKs C) r) x)) ∨ (kx = 1 ∧ C9 = C ∧ (¬ (inR v (zPs C).length = true ∧ inR u (zMs C).length = true))))) noX := by
  refine Ct.ofW "KeygroveLaw" [some (.ref x), some (.int v), some (.int u), some (.ref o), none] rfl (by decide) rfl (Nat.le_of_ble_eq_true rfl) rfl ?_
  intro κ B E tb
  refine g_aload_n (q := 1) B dX0_canRead_0 rfl rfl (rv_r _) ?_
  refine g_iconst (v := nI 0) (q := 2) B dX0_canRead_1 rfl (by decide) ?_
  refine g_aload_n (q := 3) B dX0_canRead_2 rfl rfl (rv_r _) ?_
  refine g_iload_n (q := 4) B dX0_canRead_3 rfl rfl ?_
  refine g_iload_n (q := 5) B dX0_canRead_4 rfl rfl ?_
  refine g_callV (q := 8) (is := [0]) (kc2 := 0) (ks2 := 0) B [.int v, .int u] (ct_X1_canRead g J (x := x) (C := C) (v := v) (u := u) hw0 (hC) (hmb)) dX0_canRead_5 rfl (rc_in B (ci := 0) rfl (k := 0) rfl (KgP.hm hw0)) rfl q3012 q3013 q3014 q77 q3015 rfl rfl moX1_canRead rfl rfl (by decide) (by decide) (Nat.le_of_ble_eq_true rfl) (Nat.le_of_ble_eq_true rfl) (Nat.le_of_ble_eq_true rfl) (fun E5 L1 hx5 => ?_) (fun v5 L1 hp5 => ?_)
  · skip
    obtain ⟨rfl, hx5⟩ := hx5
    obtain ⟨rfl, hx5⟩ := hx5
    refine g_catch B tb (nm := "java/lang/IndexOutOfBoundsException") [] (⟨0, 17, 20, 19⟩ : ExceptionTableEntry) [] rfl (fun z hz => by cases hz) (by decide) (by decide) q1941 q341 (fun z5_0 => ?_)
    refine (show Go g κ 20 [some (.ref x), some (.int v), some (.int u), some (.ref o), none] [.ref z5_0] [[(o, .inl (g.2.1 3, 1, .inr (.inl f)))], w0] 0 0 from ?_)
    refine g_astore (q := 22) (lv2 := [some (.ref x), some (.int v), some (.int u), some (.ref o), some (.ref z5_0)]) B dX0_canRead_20 rfl (Nat.le_of_ble_eq_true rfl) (rv_r _) rfl ?_
    refine g_iconst (v := nI 1) (q := 23) B dX0_canRead_22 rfl (by decide) ?_
    refine g_pk [1, 0] rfl rfl ?_
    refine (show Go g κ 23 [some (.ref x), some (.int v), some (.int u), some (.ref o), some (.ref z5_0)] [.int (nI 1)] [w0, [(o, .inl (g.2.1 3, 1, .inr (.inl f)))]] 0 0 from ?_)
    exact g_iret B E dX0_canRead_23 (⟨1, C, f, w0, rfl, rfl, hw0, (Or.inr (⟨rfl, rfl, hx5⟩))⟩)
  obtain ⟨i5, r5, j5, m5, K5, u0_5, rfl, rfl, hu0_5, hv_5, hr_5, hu_5, hm_5, hQ_5⟩ := hp5
  refine (show Go g κ 8 [some (.ref x), some (.int v), some (.int u), some (.ref o), none] [.int (nI (if K5 m5.2.2.2 = true then 1 else 0)), .int (nI 0), .ref o] [[(o, .inl (g.2.1 3, 1, .inr (.inl f)))], u0_5] 0 0 from ?_)
  refine g_if_eq (tgt := 15) (q := 11) B dX0_canRead_8 rfl (by decide) (bo_eq) (fun c8 => ?_) (fun c8 => ?_)
  · skip
    refine g_lconst (v := 0) (q := 16) B dX0_canRead_15 rfl (by decide) ?_
    refine g_last (q := 17) (L2 := [[(o, .inl (g.2.1 3, 1, .inr (.inl (vp_updL f 0 0))))], u0_5]) B (k := 0) dX0_canRead_16 rfl rfl (vp_in_nI (by omega) (by omega)) (by rw [nI_clamp (by omega)] <;> rfl) ?_
    refine g_goto (tgt := 24) B dX0_canRead_17 (by decide) ?_
    refine g_iconst (v := nI 0) (q := 25) B dX0_canRead_24 rfl (by decide) ?_
    refine g_pk [1, 0] rfl rfl ?_
    refine (show Go g κ 25 [some (.ref x), some (.int v), some (.int u), some (.ref o), none] [.int (nI 0)] [u0_5, [(o, .inl (g.2.1 3, 1, .inr (.inl (vp_updL f 0 0))))]] 0 0 from ?_)
    exact g_iret B E dX0_canRead_25 (⟨0, C, vp_updL f 0 0, u0_5, rfl, rfl, hu0_5, (Or.inl (⟨rfl, i5, r5, j5, m5, K5, rfl, ⟨fun z => absurd z c8, fun _ => rfl⟩, hv_5, hr_5, hu_5, hm_5, hQ_5⟩))⟩)
  · skip
    have c8 := Classical.not_not.mp c8
    refine g_lconst (v := 1) (q := 12) B dX0_canRead_11 rfl (by decide) ?_
    refine g_goto (tgt := 16) B dX0_canRead_12 (by decide) ?_
    refine g_last (q := 17) (L2 := [[(o, .inl (g.2.1 3, 1, .inr (.inl (vp_updL f 0 1))))], u0_5]) B (k := 0) dX0_canRead_16 rfl rfl (vp_in_nI (by omega) (by omega)) (by rw [nI_clamp (by omega)] <;> rfl) ?_
    refine g_goto (tgt := 24) B dX0_canRead_17 (by decide) ?_
    refine g_iconst (v := nI 0) (q := 25) B dX0_canRead_24 rfl (by decide) ?_
    refine g_pk [1, 0] rfl rfl ?_
    refine (show Go g κ 25 [some (.ref x), some (.int v), some (.int u), some (.ref o), none] [.int (nI 0)] [u0_5, [(o, .inl (g.2.1 3, 1, .inr (.inl (vp_updL f 0 1))))]] 0 0 from ?_)
    exact g_iret B E dX0_canRead_25 (⟨0, C, vp_updL f 0 1, u0_5, rfl, rfl, hu0_5, (Or.inl (⟨rfl, i5, r5, j5, m5, K5, rfl, ⟨fun _ => rfl, fun z => absurd c8 z⟩, hv_5, hr_5, hu_5, hm_5, hQ_5⟩))⟩)
theorem moX1_blankShare : Mo yX1_blankShare 0 := by
  refine ⟨by decide, by decide, by decide +kernel⟩
theorem ct_X0_blankShare (g : Gv) (J : Jd g) {x : Nat} {C : KsS} {T : TrS} {o : Nat} {f : Nat → UInt64} {w0 : va_W} (hw0 : KgP g x C w0) (hC : KsB C) (hT : zTs C ≠ [] → (zTs C)[(zTs C).length - 1]? = some T) (hTb : T.1 ≤ 4) : Ct g yX0_blankShare (wsW_ yX0_blankShare cX0_blankShare 3 (some .int) [(0, 8, 11, 124)]) 11 10 60 [.ref x, .ref o] [w0, [(o, .inl (g.2.1 7, 1, .inr (.inr (.inr (.inl f)))))]] (fun (rv_ : Option Value) (rL_ : List va_W) => ∃ (kx : Nat) (C9 : KsS) (f9 : Nat → UInt64) (u0 : va_W), rv_ = some (.int (nI kx)) ∧ rL_ = [u0, [(o, .inl (g.2.1 7, 1, .inr (.inr (.inr (.inl f9)))))]] ∧ KgP g x C9 u0 ∧ ((kx = 0 ∧ C9 = C ∧ (f9 0 = FP.f2d (FP.fdiv (FP.i2f (nI (blk T (2 * 2 ^ T.1 - 1)))) (FP.i2f (nI (2 * 2 ^ T.1 - 1))))) ∧ (zTs C ≠ [])) ∨ (kx = 1 ∧ C9 = C ∧ (¬ zTs C ≠ [])))) noX := by
  refine Ct.ofW "KeygroveLaw" [some (.ref x), some (.ref o), none] rfl (by decide) rfl (Nat.le_of_ble_eq_true rfl) rfl ?_
  intro κ B E tb
  refine g_aload_n (q := 1) B dX0_blankShare_0 rfl rfl (rv_r _) ?_
  refine g_iconst (v := nI 0) (q := 2) B dX0_blankShare_1 rfl (by decide) ?_
  refine g_aload_n (q := 3) B dX0_blankShare_2 rfl rfl (rv_r _) ?_
  refine g_callV (q := 6) (is := [0]) (kc2 := 0) (ks2 := 0) B [] (ct_X1_blankShare g J (x := x) (C := C) (T := T) hw0 (hC) (hT)) dX0_blankShare_3 rfl (rc_in B (ci := 0) rfl (k := 0) rfl (KgP.hm hw0)) rfl q3033 q3034 q3035 q77 q3036 rfl rfl moX1_blankShare rfl rfl (by decide) (by decide) (Nat.le_of_ble_eq_true rfl) (Nat.le_of_ble_eq_true rfl) (Nat.le_of_ble_eq_true rfl) (fun E3 L1 hx3 => ?_) (fun v3 L1 hp3 => ?_)
  · skip
    obtain ⟨rfl, hx3⟩ := hx3
    obtain ⟨rfl, hx3⟩ := hx3
    refine g_catch B tb (nm := "java/lang/ArithmeticException") [] (⟨0, 8, 11, 124⟩ : ExceptionTableEntry) [] rfl (fun z hz => by cases hz) (by decide) (by decide) q3019 q3031 (fun z3_0 => ?_)
    refine (show Go g κ 11 [some (.ref x), some (.ref o), none] [.ref z3_0] [[(o, .inl (g.2.1 7, 1, .inr (.inr (.inr (.inl f)))))], w0] 0 0 from ?_)
    refine g_astore_n (q := 12) (lv2 := [some (.ref x), some (.ref o), some (.ref z3_0)]) B dX0_blankShare_11 rfl (Nat.le_of_ble_eq_true rfl) (rv_r _) rfl ?_
    refine g_iconst (v := nI 1) (q := 13) B dX0_blankShare_12 rfl (by decide) ?_
    refine g_pk [1, 0] rfl rfl ?_
    refine (show Go g κ 13 [some (.ref x), some (.ref o), some (.ref z3_0)] [.int (nI 1)] [w0, [(o, .inl (g.2.1 7, 1, .inr (.inr (.inr (.inl f)))))]] 0 0 from ?_)
    exact g_iret B E dX0_blankShare_13 (⟨1, C, f, w0, rfl, rfl, hw0, (Or.inr (⟨rfl, rfl, hx3⟩))⟩)
  obtain ⟨u0_3, rfl, rfl, hu0_3, hne_3⟩ := hp3
  refine (show Go g κ 6 [some (.ref x), some (.ref o), none] [.float (FP.fdiv (FP.i2f (nI (blk T (2 * 2 ^ T.1 - 1)))) (FP.i2f (nI (2 * 2 ^ T.1 - 1)))), .int (nI 0), .ref o] [[(o, .inl (g.2.1 7, 1, .inr (.inr (.inr (.inl f)))))], u0_3] 0 0 from ?_)
  refine g_f2d (v := FP.f2d (FP.fdiv (FP.i2f (nI (blk T (2 * 2 ^ T.1 - 1)))) (FP.i2f (nI (2 * 2 ^ T.1 - 1))))) (q := 7) B dX0_blankShare_6 rfl (fd2_ok _ (Nat.lt_succ_of_le hTb) _ (by have := blk_l T (2 * 2 ^ T.1 - 1); have := p2_4 hTb; omega)) rfl ?_
  refine g_dast (q := 8) (L2 := [[(o, .inl (g.2.1 7, 1, .inr (.inr (.inr (.inl (vf_upd f 0 (FP.f2d (FP.fdiv (FP.i2f (nI (blk T (2 * 2 ^ T.1 - 1)))) (FP.i2f (nI (2 * 2 ^ T.1 - 1)))))))))))], u0_3]) B (k := 0) dX0_blankShare_7 rfl rfl (vp_in_nI (by omega) (by omega)) (by rw [nI_clamp (by omega)] <;> rfl) ?_
  refine g_goto (tgt := 14) B dX0_blankShare_8 (by decide) ?_
  refine g_iconst (v := nI 0) (q := 15) B dX0_blankShare_14 rfl (by decide) ?_
  refine g_pk [1, 0] rfl rfl ?_
  refine (show Go g κ 15 [some (.ref x), some (.ref o), none] [.int (nI 0)] [u0_3, [(o, .inl (g.2.1 7, 1, .inr (.inr (.inr (.inl (vf_upd f 0 (FP.f2d (FP.fdiv (FP.i2f (nI (blk T (2 * 2 ^ T.1 - 1)))) (FP.i2f (nI (2 * 2 ^ T.1 - 1)))))))))))]] 0 0 from ?_)
  exact g_iret B E dX0_blankShare_15 (⟨0, C, vf_upd f 0 (FP.f2d (FP.fdiv (FP.i2f (nI (blk T (2 * 2 ^ T.1 - 1)))) (FP.i2f (nI (2 * 2 ^ T.1 - 1))))), u0_3, rfl, rfl, hu0_3, (Or.inl (⟨rfl, rfl, rfl, hne_3⟩))⟩)
theorem moX1_meanBoxes : Mo yX1_meanBoxes 0 := by
  refine ⟨by decide, by decide, by decide +kernel⟩
theorem ct_X0_meanBoxes (g : Gv) (J : Jd g) {x : Nat} {C : KsS} {o : Nat} {f : Nat → UInt64} {w0 : va_W} (hw0 : KgP g x C w0) (hC : KsB C) : Ct g yX0_meanBoxes (wsW_ yX0_meanBoxes cX0_meanBoxes 3 (some .int) [(0, 7, 10, 124)]) 11 10 60 [.ref x, .ref o] [w0, [(o, .inl (g.2.1 7, 1, .inr (.inr (.inr (.inl f)))))]] (fun (rv_ : Option Value) (rL_ : List va_W) => ∃ (kx : Nat) (C9 : KsS) (f9 : Nat → UInt64) (u0 : va_W), rv_ = some (.int (nI kx)) ∧ rL_ = [u0, [(o, .inl (g.2.1 7, 1, .inr (.inr (.inr (.inl f9)))))]] ∧ KgP g x C9 u0 ∧ ((kx = 0 ∧ C9 = C ∧ (f9 0 = (FP.ddiv (FP.i2d (nI (zBn C))) (FP.i2d (nI ((zTs C).length - 1))))) ∧ (2 ≤ (zTs C).length)) ∨ (kx = 1 ∧ C9 = C ∧ (¬ 2 ≤ (zTs C).length)))) noX := by
  refine Ct.ofW "KeygroveLaw" [some (.ref x), some (.ref o), none] rfl (by decide) rfl (Nat.le_of_ble_eq_true rfl) rfl ?_
  intro κ B E tb
  refine g_aload_n (q := 1) B dX0_meanBoxes_0 rfl rfl (rv_r _) ?_
  refine g_iconst (v := nI 0) (q := 2) B dX0_meanBoxes_1 rfl (by decide) ?_
  refine g_aload_n (q := 3) B dX0_meanBoxes_2 rfl rfl (rv_r _) ?_
  refine g_callV (q := 6) (is := [0]) (kc2 := 0) (ks2 := 0) B [] (ct_X1_meanBoxes g J (x := x) (C := C) hw0 (hC)) dX0_meanBoxes_3 rfl (rc_in B (ci := 0) rfl (k := 0) rfl (KgP.hm hw0)) rfl q3045 q3046 q3047 q77 q3048 rfl rfl moX1_meanBoxes rfl rfl (by decide) (by decide) (Nat.le_of_ble_eq_true rfl) (Nat.le_of_ble_eq_true rfl) (Nat.le_of_ble_eq_true rfl) (fun E3 L1 hx3 => ?_) (fun v3 L1 hp3 => ?_)
  · skip
    obtain ⟨rfl, hx3⟩ := hx3
    obtain ⟨rfl, hx3⟩ := hx3
    refine g_catch B tb (nm := "java/lang/ArithmeticException") [] (⟨0, 7, 10, 124⟩ : ExceptionTableEntry) [] rfl (fun z hz => by cases hz) (by decide) (by decide) q3019 q3031 (fun z3_0 => ?_)
    refine (show Go g κ 10 [some (.ref x), some (.ref o), none] [.ref z3_0] [[(o, .inl (g.2.1 7, 1, .inr (.inr (.inr (.inl f)))))], w0] 0 0 from ?_)
    refine g_astore_n (q := 11) (lv2 := [some (.ref x), some (.ref o), some (.ref z3_0)]) B dX0_meanBoxes_10 rfl (Nat.le_of_ble_eq_true rfl) (rv_r _) rfl ?_
    refine g_iconst (v := nI 1) (q := 12) B dX0_meanBoxes_11 rfl (by decide) ?_
    refine g_pk [1, 0] rfl rfl ?_
    refine (show Go g κ 12 [some (.ref x), some (.ref o), some (.ref z3_0)] [.int (nI 1)] [w0, [(o, .inl (g.2.1 7, 1, .inr (.inr (.inr (.inl f)))))]] 0 0 from ?_)
    exact g_iret B E dX0_meanBoxes_12 (⟨1, C, f, w0, rfl, rfl, hw0, (Or.inr (⟨rfl, rfl, hx3⟩))⟩)
  obtain ⟨u0_3, rfl, rfl, hu0_3, hne_3⟩ := hp3
  refine (show Go g κ 6 [some (.ref x), some (.ref o), none] [.double (FP.ddiv (FP.i2d (nI (zBn C))) (FP.i2d (nI ((zTs C).length - 1)))), .int (nI 0), .ref o] [[(o, .inl (g.2.1 7, 1, .inr (.inr (.inr (.inl f)))))], u0_3] 0 0 from ?_)
  refine g_dast (q := 7) (L2 := [[(o, .inl (g.2.1 7, 1, .inr (.inr (.inr (.inl (vf_upd f 0 (FP.ddiv (FP.i2d (nI (zBn C))) (FP.i2d (nI ((zTs C).length - 1))))))))))], u0_3]) B (k := 0) dX0_meanBoxes_6 rfl rfl (vp_in_nI (by omega) (by omega)) (by rw [nI_clamp (by omega)] <;> rfl) ?_
  refine g_goto (tgt := 13) B dX0_meanBoxes_7 (by decide) ?_
  refine g_iconst (v := nI 0) (q := 14) B dX0_meanBoxes_13 rfl (by decide) ?_
  refine g_pk [1, 0] rfl rfl ?_
  refine (show Go g κ 14 [some (.ref x), some (.ref o), none] [.int (nI 0)] [u0_3, [(o, .inl (g.2.1 7, 1, .inr (.inr (.inr (.inl (vf_upd f 0 (FP.ddiv (FP.i2d (nI (zBn C))) (FP.i2d (nI ((zTs C).length - 1))))))))))]] 0 0 from ?_)
  exact g_iret B E dX0_meanBoxes_14 (⟨0, C, vf_upd f 0 (FP.ddiv (FP.i2d (nI (zBn C))) (FP.i2d (nI ((zTs C).length - 1)))), u0_3, rfl, rfl, hu0_3, (Or.inl (⟨rfl, rfl, rfl, hne_3⟩))⟩)
