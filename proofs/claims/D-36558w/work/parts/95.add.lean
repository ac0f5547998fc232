set_option maxRecDepth 100000
theorem set_at {α : Type} {xs : List α} {i : Nat} {x y : α} (h : xs[i]? = some x) : (xs.set i y)[i]? = some y := by
  rw [List.getElem?_set, if_pos rfl, if_pos (get_lt2 h)]
theorem isF_ne {n : Nat} {e : Option Nat} (h : isF n e = true) : 0 < n := by
  rcases Nat.eq_zero_or_pos n with z | z
  · rw [z] at h; cases e with
    | none => exact absurd h isF_n
    | some m => simp [isF] at h
  · exact z
def adCan (C : KsS) (T : TrS) (r : PeS) (q : PkS) (r2 : PeS) : Prop := isF (zTs C).length (pEp r) = true ∧ ¬ q.2.2.2.1 = true ∧ lof T q.1 = none ∧ pEp r2 = none ∧ ¬ adB (zKs C) (zRs C) q.1 = true
theorem moX1_isToBeAdded : Mo yX1_isToBeAdded 1 := by
  refine ⟨by decide, by decide, by decide +kernel⟩
theorem nwX16 : ∀ j, j < 1 → defaultValue (tyX16 j) = vp_V [.null] j := by
  intro j hj
  match j, hj with
  | 0, _ => rfl
  | n + 1, hj => exact absurd hj (by omega)
theorem moX16_init : Mo yX16_init 1 := by
  refine ⟨by decide, by decide, by decide +kernel⟩
theorem ct_X1_add (g : Gv) (J : Jd g) {x : Nat} {C : KsS} {T : TrS} {v : Int32} {u : Int32} {w0 : va_W} (hw0 : KgP g x C w0) (hC : KsB C) (hT : zTs C ≠ [] → (zTs C)[(zTs C).length - 1]? = some T) (hkp : ∀ q ∈ zKs C, q.1 < (zPs C).length) : Ct g yX1_add (ws_ yX1_add cX1_add 5 (some .int)) 10 20 200 [.ref x, .int v, .int u] [w0] (fun (rv_ : Option Value) (rL_ : List va_W) => ∃ (i : Nat) (r : PeS) (j : Nat) (q : PkS) (r2 : PeS) (u0 : va_W), rv_ = some (.int (nI ((zRs C).length + 1))) ∧ rL_ = [u0] ∧ KgP g x ((zSs C, zBx C, zZz C, zPs C, zKs C, (zRs C ++ [(0, j, 0)]), zTs C, zSt C, zMs C, zSo C, zBn C) : KsS) u0 ∧ (v = nI i) ∧ ((zPs C)[i]? = some r) ∧ (u = nI j) ∧ ((zKs C)[j]? = some q) ∧ ((zPs C)[q.1]? = some r2) ∧ (adCan C T r q r2) ∧ ((zRs C).length < 8)) (fun (rE_ : String) (rL_ : List va_W) => rL_ = [w0] ∧ ((rE_ = "java/lang/IndexOutOfBoundsException" ∧ (¬ (inR v (zPs C).length = true ∧ inR u (zKs C).length = true))) ∨ (rE_ = "java/lang/UnsupportedOperationException" ∧ (∃ (i : Nat) (r : PeS) (j : Nat) (q : PkS) (r2 : PeS), v = nI i ∧ (zPs C)[i]? = some r ∧ u = nI j ∧ (zKs C)[j]? = some q ∧ (zPs C)[q.1]? = some r2 ∧ ¬ adCan C T r q r2)) ∨ (rE_ = "java/lang/IllegalStateException" ∧ (∃ (i : Nat) (r : PeS) (j : Nat) (q : PkS) (r2 : PeS), v = nI i ∧ (zPs C)[i]? = some r ∧ u = nI j ∧ (zKs C)[j]? = some q ∧ (zPs C)[q.1]? = some r2 ∧ adCan C T r q r2 ∧ ¬ (zRs C).length < 8)))) := by
  refine Ct.of "Keygrove" [some (.ref x), some (.int v), some (.int u), none, none] rfl (by decide) rfl (Nat.le_of_ble_eq_true rfl) rfl ?_
  intro κ B E tb
  have hC0 := hC
  obtain ⟨hc1, hc2, hc3, hc4, hc5, hc6, hc7, hc8, hc9, hc10, hc11⟩ := hC0
  obtain ⟨b, lp, lk, lr, lt, ls, lm, so, pcap, kcap, rcap, tcap, scap, mcap, socap, ps, pks, pmd, v0, v1, v2, v3, v4, v5, v6, v7, hcap, hv0, hv1, hv2, hv3, hv4, hv5, hv6, hv7, rfl⟩ := hw0
  refine g_open 0 rfl rfl rfl ?_
  refine (show Go g κ 0 [some (.ref x), some (.int v), some (.int u), none, none] [] [[(x, .inr (0, [.ref b, .ref lp, .ref lk, .ref lr, .ref lt, .ref ls, .ref lm, .ref so, .int (nI (zBn C))]))], v0, v1, v2, v3, v4, v5, v6, v7] 20 200 from ?_)
  refine g_aload_n (q := 1) B dX1_add_0 rfl rfl (rv_r _) ?_
  refine g_iload_n (q := 2) B dX1_add_1 rfl rfl ?_
  refine g_callV (q := 5) (is := [0, 1]) (kc2 := 19) (ks2 := 194) B [.int v] (ct_X1_personWith g J (x := x) (lk := lk) (b := b) (lp := lp) (lr := lr) (lt := lt) (ls := ls) (lm := lm) (so := so) (bxs := zBn C) (ps := ps) (Ps := (zPs C)) (pcap := pcap) (pks := pks) (pmd := pmd) (v := v) hv1 (by first | assumption | omega | rfl)) dX1_add_2 rfl (rc_at B (ci := 0) rfl (k := 0) rfl) rfl q1961 q1963 qs15 q77 q1964 rfl rfl moX1_personWith rfl rfl (by decide) (by decide) (Nat.le_of_ble_eq_true rfl) (Nat.le_of_ble_eq_true rfl) (Nat.le_of_ble_eq_true rfl) (fun E2 L1 hx2 => ?_) (fun v2 L1 hp2 => ?_)
  · skip
    obtain ⟨rfl, hx2⟩ := hx2
    obtain ⟨rfl, hx2⟩ := hx2
    refine gx_cl [7, 0, 6, 0, 0, 0, 0, 0, 0] rfl ?_
    exact g_out B E tb (by first | exact ⟨rfl, Or.inl ⟨rfl, hx2⟩⟩ | exact ⟨rfl, Or.inl ⟨rfl, fun z => hx2 z.1⟩⟩ | exact ⟨rfl, Or.inl ⟨rfl, by simp_all⟩⟩)
  obtain ⟨i2, a2, r2, rfl, rfl, hv_2, ha_2, hr_2⟩ := hp2
  refine (show Go g κ 5 [some (.ref x), some (.int v), some (.int u), none, none] [.ref a2] [v0, v2, v3, v4, v5, v6, v7, [(x, .inr (0, [.ref b, .ref lp, .ref lk, .ref lr, .ref lt, .ref ls, .ref lm, .ref so, .int (nI (zBn C))]))], v1] 19 194 from ?_)
  subst hv_2
  obtain ⟨hli_1, hln_1, hel_1⟩ := PersL.at (Sub.self hv1)
  have hE_2 := hel_1 _ _ _ ha_2 hr_2
  refine (show Go g κ 5 [some (.ref x), some (.int (nI i2)), some (.int u), none, none] [.ref a2] [v0, v2, v3, v4, v5, v6, v7, [(x, .inr (0, [.ref b, .ref lp, .ref lk, .ref lr, .ref lt, .ref ls, .ref lm, .ref so, .int (nI (zBn C))]))], v1] 19 194 from ?_)
  obtain ⟨kc1, kc2, kc3, kc4, kc5, kc6, kc7⟩ := (show capB pcap kcap rcap tcap scap mcap socap from hcap)
  refine g_astore_n (q := 6) (lv2 := [some (.ref x), some (.int (nI i2)), some (.int u), some (.ref a2), none]) B dX1_add_5 rfl (Nat.le_of_ble_eq_true rfl) (rv_r _) rfl ?_
  refine g_iload_n (q := 7) B dX1_add_6 rfl rfl ?_
  refine g_iconst (v := nI 0) (q := 8) B dX1_add_7 rfl (by decide) ?_
  refine g_aload_n (q := 9) B dX1_add_8 rfl rfl (rv_r _) ?_
  refine g_get (q := 12) B (ci := 0) (k := 7) (j := 2) in_X1 rfl dX1_add_9 rfl rfl (Nat.le_of_ble_eq_true rfl) q279 rfl rfl ?_
  obtain ⟨md_3, hli_3, hln_3, hel_3⟩ := LoP.at (Sub.self hv2)
  refine g_callF (q := 17) (is := [1]) (kc2 := 19) (ks2 := 194) B [] (ct_J2_size_s g J (p := lk) (xs := pks) (md := md_3) (cap := kcap) (W0 := v2)  (hli_3)) dX1_add_12 rfl (ci := 21) rfl (rc_in B (ci := 21) rfl (k := 1) rfl (LoP.hm hv2)) q315 q319 q321 q81 q323 q317 q316 q322 q320 q318 rfl rfl mojava_util_List_size___I rfl rfl (by decide) (by decide) (Nat.le_of_ble_eq_true rfl) (Nat.le_of_ble_eq_true rfl) (Nat.le_of_ble_eq_true rfl) (fun _ _ hx => noX_x hx) (fun v12 L1 hp12 => ?_)
  obtain ⟨rfl, rfl⟩ := hp12
  refine (show Go g κ 17 [some (.ref x), some (.int (nI i2)), some (.int u), some (.ref a2), none] [.int (nI pks.length), .int (nI 0), .int u] [v0, v3, v4, v5, v6, v7, [(x, .inr (0, [.ref b, .ref lp, .ref lk, .ref lr, .ref lt, .ref ls, .ref lm, .ref so, .int (nI (zBn C))]))], v1, v2] 19 194 from ?_)
  rw [hln_3.1]
  refine (show Go g κ 17 [some (.ref x), some (.int (nI i2)), some (.int u), some (.ref a2), none] [.int (nI ((zKs C).length)), .int (nI 0), .int u] [v0, v3, v4, v5, v6, v7, [(x, .inr (0, [.ref b, .ref lp, .ref lk, .ref lr, .ref lt, .ref ls, .ref lm, .ref so, .int (nI (zBn C))]))], v1, v2] 19 194 from ?_)
  refine g_iconst (v := nI 1) (q := 18) B dX1_add_17 rfl (by decide) ?_
  refine g_isub (v := nI (zKs C).length - nI 1) (q := 19) B dX1_add_18 rfl rfl ?_
  refine g_callS (q := 22) (is := []) (kc2 := 19) (ks2 := 194) B [.int u, .int (nI 0), .int (nI (zKs C).length - nI 1)] (ct_X1_in g J (v := u) (n := (zKs C).length)  (by first | assumption | omega | rfl)) dX1_add_19 rfl q1965 q1966 q77 q1967 rfl rfl moX1_in rfl rfl (by decide) (by decide) (Nat.le_of_ble_eq_true rfl) (Nat.le_of_ble_eq_true rfl) (Nat.le_of_ble_eq_true rfl) (fun _ _ hx => noX_x hx) (fun v19 L1 hp19 => ?_)
  obtain ⟨rfl, rfl⟩ := hp19
  refine (show Go g κ 22 [some (.ref x), some (.int (nI i2)), some (.int u), some (.ref a2), none] [.int (nI (if inR u ((zKs C).length) = true then 1 else 0))] [v0, v3, v4, v5, v6, v7, [(x, .inr (0, [.ref b, .ref lp, .ref lk, .ref lr, .ref lt, .ref ls, .ref lm, .ref so, .int (nI (zBn C))]))], v1, v2] 19 194 from ?_)
  refine g_callS (q := 25) (is := []) (kc2 := 18) (ks2 := 188) B [.int (nI (if inR u ((zKs C).length) = true then 1 else 0))] (ct_X1_there g J (c := inR u ((zKs C).length) = true) (dc := _)  ) dX1_add_22 rfl q1968 q1969 q77 q1970 rfl rfl moX1_there rfl rfl (by decide) (by decide) (Nat.le_of_ble_eq_true rfl) (Nat.le_of_ble_eq_true rfl) (Nat.le_of_ble_eq_true rfl) (fun E22 L1 hx22 => ?_) (fun v22 L1 hp22 => ?_)
  · skip
    obtain ⟨rfl, hx22⟩ := hx22
    obtain ⟨rfl, hx22⟩ := hx22
    refine gx_cl [6, 0, 5, 5, 0, 0, 0, 0, 0] rfl ?_
    exact g_out B E tb (by first | exact ⟨rfl, Or.inl ⟨rfl, hx22⟩⟩ | exact ⟨rfl, Or.inl ⟨rfl, fun z => hx22 z.2⟩⟩ | exact ⟨rfl, Or.inl ⟨rfl, by simp_all⟩⟩)
  obtain ⟨rfl, rfl, ht_22⟩ := hp22
  refine (show Go g κ 25 [some (.ref x), some (.int (nI i2)), some (.int u), some (.ref a2), none] [] [v0, v3, v4, v5, v6, v7, [(x, .inr (0, [.ref b, .ref lp, .ref lk, .ref lr, .ref lt, .ref ls, .ref lm, .ref so, .int (nI (zBn C))]))], v1, v2] 18 188 from ?_)
  obtain ⟨j, hjj, rfl⟩ := inR_t ht_22
  refine (show Go g κ 25 [some (.ref x), some (.int (nI i2)), some (.int (nI j)), some (.ref a2), none] [] [v0, v3, v4, v5, v6, v7, [(x, .inr (0, [.ref b, .ref lp, .ref lk, .ref lr, .ref lt, .ref ls, .ref lm, .ref so, .int (nI (zBn C))]))], v1, v2] 18 188 from ?_)
  refine g_aload_n (q := 26) B dX1_add_25 rfl rfl (rv_r _) ?_
  refine g_get (q := 29) B (ci := 0) (k := 6) (j := 2) in_X1 rfl dX1_add_26 rfl rfl (Nat.le_of_ble_eq_true rfl) q279 rfl rfl ?_
  refine g_iload_n (q := 30) B dX1_add_29 rfl rfl ?_
  obtain ⟨r30, hr30⟩ := get_ex (xs := (zKs C)) (i := j) (by omega)
  obtain ⟨x30, hx30⟩ := get_ex (xs := pks) (i := j) (by have := get_lt2 hr30; have := hln_3.1; omega)
  have hE_4 := hel_3 _ _ _ hx30 hr30
  refine g_callF (q := 35) (is := [8]) (kc2 := 18) (ks2 := 188) B [.int (nI j)] (ct_J2_get_s g J (p := lk) (xs := pks) (md := md_3) (cap := kcap) (i := j) (x := x30) (W0 := v2)  (hli_3) (hx30)) dX1_add_30 rfl (ci := 21) rfl (rc_in B (ci := 21) rfl (k := 8) rfl (LoP.hm hv2)) q1138 q1093 q1095 q81 q1097 q1092 q1091 q1096 q1094 q318 rfl rfl mojava_util_List_get__I_Ljava_lang_Object_ rfl rfl (by decide) (by decide) (Nat.le_of_ble_eq_true rfl) (Nat.le_of_ble_eq_true rfl) (Nat.le_of_ble_eq_true rfl) (fun _ _ hx => noX_x hx) (fun v30 L1 hp30 => ?_)
  obtain ⟨rfl, rfl⟩ := hp30
  refine (show Go g κ 35 [some (.ref x), some (.int (nI i2)), some (.int (nI j)), some (.ref a2), none] [.ref x30] [v0, v3, v4, v5, v6, v7, [(x, .inr (0, [.ref b, .ref lp, .ref lk, .ref lr, .ref lt, .ref ls, .ref lm, .ref so, .int (nI (zBn C))]))], v1, v2] 18 188 from ?_)
  refine g_castRS (ci := 4) (q := 38) B rfl (rc_in B (ci := 4) rfl (k := 8) rfl (Sub.hm (hE_4) fun _ z => PackP.hm z)) dX1_add_35 rfl q1981 ?_
  have hkq := hkp _ (List.mem_of_getElem? hr30)
  obtain ⟨rq, hrq⟩ := get_ex (xs := zPs C) (i := r30.1) hkq
  refine g_astore (q := 40) (lv2 := [some (.ref x), some (.int (nI i2)), some (.int (nI j)), some (.ref a2), some (.ref x30)]) B dX1_add_38 rfl (Nat.le_of_ble_eq_true rfl) (rv_r _) rfl ?_
  refine g_aload_n (q := 41) B dX1_add_40 rfl rfl (rv_r _) ?_
  refine g_aload_n (q := 42) B dX1_add_41 rfl rfl (rv_r _) ?_
  refine g_callV (q := 45) (is := [6, 6, 2]) (kc2 := 18) (ks2 := 188) B [.ref a2] (ct_X1_isFresh g J (x := x) (lk := lk) (b := b) (lp := lp) (lr := lr) (lt := lt) (ls := ls) (lm := lm) (so := so) (bxs := (zBn C)) (ps := ps) (Ps := (zPs C)) (pcap := pcap) (pks := pks) (pmd := pmd) (Ts := (zTs C)) (tcap := tcap) (i := i2) (a := a2) (r := r2) hv1 hv4 (by first | assumption | omega | rfl) (by first | assumption | omega | rfl) (by first | assumption | omega | rfl)) dX1_add_42 rfl (rc_at B (ci := 0) rfl (k := 6) rfl) rfl q1785 q1787 qs13 q77 q1788 rfl rfl moX1_isFresh rfl rfl (by decide) (by decide) (Nat.le_of_ble_eq_true rfl) (Nat.le_of_ble_eq_true rfl) (Nat.le_of_ble_eq_true rfl) (fun _ _ hx => noX_x hx) (fun v42 L1 hp42 => ?_)
  obtain ⟨rfl, rfl⟩ := hp42
  refine (show Go g κ 45 [some (.ref x), some (.int (nI i2)), some (.int (nI j)), some (.ref a2), some (.ref x30)] [.int (nI (if isF (zTs C).length (pEp r2) = true then 1 else 0))] [v0, v3, v5, v6, v7, v2, [(x, .inr (0, [.ref b, .ref lp, .ref lk, .ref lr, .ref lt, .ref ls, .ref lm, .ref so, .int (nI (zBn C))]))], v1, v4] 18 188 from ?_)
  refine g_if_eq (tgt := 111) (q := 48) B dX1_add_45 rfl (by decide) (bo_eq) (fun c45 => ?_) (fun c45 => ?_)
  · skip
    refine g_iconst (v := nI 0) (q := 112) B dX1_add_111 rfl (by decide) ?_
    refine g_callS (q := 115) (is := []) (kc2 := 17) (ks2 := 182) B [.int (nI 0)] (ct_X1_can g J (c := False) (dc := instDecidableFalse)  ) dX1_add_112 rfl q2331 q2332 q77 q2333 rfl rfl moX1_can rfl rfl (by decide) (by decide) (Nat.le_of_ble_eq_true rfl) (Nat.le_of_ble_eq_true rfl) (Nat.le_of_ble_eq_true rfl) (fun E112 L1 hx112 => ?_) (fun v112 L1 hp112 => ?_)
    · skip
      obtain ⟨rfl, hx112⟩ := hx112
      obtain ⟨rfl, hx112⟩ := hx112
      refine gx_cl [6, 0, 5, 4, 0, 3, 0, 0, 0] rfl ?_
      exact g_out B E tb (by first | exact ⟨rfl, Or.inr (Or.inl ⟨rfl, hx112⟩)⟩ | exact ⟨rfl, Or.inr (Or.inl ⟨rfl, ⟨i2, r2, j, r30, rq, rfl, hr_2, rfl, hr30, hrq, by rintro ⟨z1, z2, z3, z4, z5⟩; first | exact c45 z1 | exact z2 c53 | exact c69 z3 | exact c92 z4 | exact z5 c104⟩⟩)⟩ | exact ⟨rfl, Or.inr (Or.inl ⟨rfl, by simp_all⟩)⟩)
    obtain ⟨rfl, rfl, ht_112⟩ := hp112
    exact ht_112.elim
  · skip
    have c45 := Classical.not_not.mp c45
    have hne : zTs C ≠ [] := fun z => by have h := isF_ne c45; rw [z] at h; exact absurd h (by decide)
    refine g_aload (q := 50) B dX1_add_48 rfl rfl (rv_r _) ?_
    obtain ⟨hK_5, hc_5_0⟩ := PackP.at (hE_4)
    refine g_getNM (q := 53) B (ci := 4) (k := 5) (j := 3) in_X7 rfl dX1_add_50 rfl rfl (hc_5_0) (Nat.le_of_ble_eq_true rfl) q1995 rfl rfl ?_
    refine g_if_ne (tgt := 111) (q := 56) B dX1_add_53 rfl (by decide) (bo_ne) (fun c53 => ?_) (fun c53 => ?_)
    · skip
      refine g_iconst (v := nI 0) (q := 112) B dX1_add_111 rfl (by decide) ?_
      refine g_callS (q := 115) (is := []) (kc2 := 17) (ks2 := 182) B [.int (nI 0)] (ct_X1_can g J (c := False) (dc := instDecidableFalse)  ) dX1_add_112 rfl q2331 q2332 q77 q2333 rfl rfl moX1_can rfl rfl (by decide) (by decide) (Nat.le_of_ble_eq_true rfl) (Nat.le_of_ble_eq_true rfl) (Nat.le_of_ble_eq_true rfl) (fun E112 L1 hx112 => ?_) (fun v112 L1 hp112 => ?_)
      · skip
        obtain ⟨rfl, hx112⟩ := hx112
        obtain ⟨rfl, hx112⟩ := hx112
        refine gx_cl [6, 0, 5, 4, 0, 3, 0, 0, 0] rfl ?_
        exact g_out B E tb (by first | exact ⟨rfl, Or.inr (Or.inl ⟨rfl, hx112⟩)⟩ | exact ⟨rfl, Or.inr (Or.inl ⟨rfl, ⟨i2, r2, j, r30, rq, rfl, hr_2, rfl, hr30, hrq, by rintro ⟨z1, z2, z3, z4, z5⟩; first | exact c45 z1 | exact z2 c53 | exact c69 z3 | exact c92 z4 | exact z5 c104⟩⟩)⟩ | exact ⟨rfl, Or.inr (Or.inl ⟨rfl, by simp_all⟩)⟩)
      obtain ⟨rfl, rfl, ht_112⟩ := hp112
      exact ht_112.elim
    · skip
      refine g_aload_n (q := 57) B dX1_add_56 rfl rfl (rv_r _) ?_
      refine g_callV (q := 60) (is := [6, 7]) (kc2 := 18) (ks2 := 188) B [] (ct_X1_tree g J (x := x) (lk := lk) (b := b) (lp := lp) (lr := lr) (lt := lt) (ls := ls) (lm := lm) (so := so) (bxs := (zBn C)) (Ts := (zTs C)) (tcap := tcap) (T := T) hv4 (hT hne)) dX1_add_57 rfl (rc_at B (ci := 0) rfl (k := 6) rfl) rfl q1133 q1135 qs9 q77 q1136 rfl rfl moX1_tree rfl rfl (by decide) (by decide) (Nat.le_of_ble_eq_true rfl) (Nat.le_of_ble_eq_true rfl) (Nat.le_of_ble_eq_true rfl) (fun _ _ hx => noX_x hx) (fun v57 L1 hp57 => ?_)
      obtain ⟨t57, rfl, rfl, hE_57⟩ := hp57
      refine (show Go g κ 60 [some (.ref x), some (.int (nI i2)), some (.int (nI j)), some (.ref a2), some (.ref x30)] [.ref t57] [v0, v3, v5, v6, v7, v2, v1, [(x, .inr (0, [.ref b, .ref lp, .ref lk, .ref lr, .ref lt, .ref ls, .ref lm, .ref so, .int (nI (zBn C))]))], v4] 18 188 from ?_)
      have hTB57 := TreeP.b2 hE_57
      have hp257 := p2_4 hTB57.1
      refine g_aload (q := 62) B dX1_add_60 rfl rfl (rv_r _) ?_
      refine g_getNM (q := 65) B (ci := 4) (k := 5) (j := 0) in_X7 rfl dX1_add_62 rfl rfl (hc_5_0) (Nat.le_of_ble_eq_true rfl) q1988 rfl rfl ?_
      refine g_callV (q := 68) (is := [8]) (kc2 := 18) (ks2 := 188) B [.int (nI r30.1)] (ct_X10_leafOf_s g J (t := t57) (T := T) (p := r30.1) (W0 := v4)  (hE_57) (by omega)) dX1_add_65 rfl (rc_in B (ci := 5) rfl (k := 8) rfl (Sub.hm (hE_57) fun _ z => TreeP.hm z)) rfl q1220 q1221 q1222 q123 q1223 rfl rfl moX10_leafOf rfl rfl (by decide) (by decide) (Nat.le_of_ble_eq_true rfl) (Nat.le_of_ble_eq_true rfl) (Nat.le_of_ble_eq_true rfl) (fun _ _ hx => noX_x hx) (fun v65 L1 hp65 => ?_)
      obtain ⟨rfl, rfl⟩ := hp65
      refine (show Go g κ 68 [some (.ref x), some (.int (nI i2)), some (.int (nI j)), some (.ref a2), some (.ref x30)] [.int (oI (lof T r30.1))] [v0, v3, v5, v6, v7, v2, v1, [(x, .inr (0, [.ref b, .ref lp, .ref lk, .ref lr, .ref lt, .ref ls, .ref lm, .ref so, .int (nI (zBn C))]))], v4] 18 188 from ?_)
      refine g_iconst (v := -1) (q := 69) B dX1_add_68 rfl (by decide) ?_
      refine g_icmp_ne (tgt := 111) (q := 72) B dX1_add_69 rfl (by decide) (oI_nn ((fun n h => by have h1 := (lof_o h).1; have := p2_4 hTB57.1; omega))) (fun c69 => ?_) (fun c69 => ?_)
      · skip
        obtain ⟨v69, ev69⟩ := Option.ne_none_iff_exists'.mp c69
        refine g_iconst (v := nI 0) (q := 112) B dX1_add_111 rfl (by decide) ?_
        refine g_callS (q := 115) (is := []) (kc2 := 17) (ks2 := 182) B [.int (nI 0)] (ct_X1_can g J (c := False) (dc := instDecidableFalse)  ) dX1_add_112 rfl q2331 q2332 q77 q2333 rfl rfl moX1_can rfl rfl (by decide) (by decide) (Nat.le_of_ble_eq_true rfl) (Nat.le_of_ble_eq_true rfl) (Nat.le_of_ble_eq_true rfl) (fun E112 L1 hx112 => ?_) (fun v112 L1 hp112 => ?_)
        · skip
          obtain ⟨rfl, hx112⟩ := hx112
          obtain ⟨rfl, hx112⟩ := hx112
          refine gx_cl [7, 0, 5, 4, 0, 3, 0, 0, 0] rfl ?_
          exact g_out B E tb (by first | exact ⟨rfl, Or.inr (Or.inl ⟨rfl, hx112⟩)⟩ | exact ⟨rfl, Or.inr (Or.inl ⟨rfl, ⟨i2, r2, j, r30, rq, rfl, hr_2, rfl, hr30, hrq, by rintro ⟨z1, z2, z3, z4, z5⟩; first | exact c45 z1 | exact z2 c53 | exact c69 z3 | exact c92 z4 | exact z5 c104⟩⟩)⟩ | exact ⟨rfl, Or.inr (Or.inl ⟨rfl, by simp_all⟩)⟩)
        obtain ⟨rfl, rfl, ht_112⟩ := hp112
        exact ht_112.elim
      · skip
        have c69 := Classical.not_not.mp c69
        refine g_aload_n (q := 73) B dX1_add_72 rfl rfl (rv_r _) ?_
        refine g_get (q := 76) B (ci := 0) (k := 7) (j := 1) in_X1 rfl dX1_add_73 rfl rfl (Nat.le_of_ble_eq_true rfl) q278 rfl rfl ?_
        refine g_aload (q := 78) B dX1_add_76 rfl rfl (rv_r _) ?_
        refine g_getNM (q := 81) B (ci := 4) (k := 5) (j := 0) in_X7 rfl dX1_add_78 rfl rfl (hc_5_0) (Nat.le_of_ble_eq_true rfl) q1988 rfl rfl ?_
        obtain ⟨x81, hx81⟩ := get_ex (xs := ps) (i := r30.1) (by have := get_lt2 (show (zPs C)[r30.1]? = some rq from hrq); have := hln_1.1; omega)
        have hE_6 := hel_1 _ _ _ hx81 (show (zPs C)[r30.1]? = some rq from hrq)
        refine g_callF (q := 86) (is := [6]) (kc2 := 18) (ks2 := 188) B [.int (nI r30.1)] (ct_J2_get_s g J (p := lp) (xs := ps) (md := pmd) (cap := pcap) (i := r30.1) (x := x81) (W0 := v1)  (hli_1) (hx81)) dX1_add_81 rfl (ci := 21) rfl (rc_in B (ci := 21) rfl (k := 6) rfl (PersL.hm hv1)) q1138 q1093 q1095 q81 q1097 q1092 q1091 q1096 q1094 q318 rfl rfl mojava_util_List_get__I_Ljava_lang_Object_ rfl rfl (by decide) (by decide) (Nat.le_of_ble_eq_true rfl) (Nat.le_of_ble_eq_true rfl) (Nat.le_of_ble_eq_true rfl) (fun _ _ hx => noX_x hx) (fun v81 L1 hp81 => ?_)
        obtain ⟨rfl, rfl⟩ := hp81
        refine (show Go g κ 86 [some (.ref x), some (.int (nI i2)), some (.int (nI j)), some (.ref a2), some (.ref x30)] [.ref x81] [v0, v3, v5, v6, v7, v2, [(x, .inr (0, [.ref b, .ref lp, .ref lk, .ref lr, .ref lt, .ref ls, .ref lm, .ref so, .int (nI (zBn C))]))], v4, v1] 18 188 from ?_)
        refine g_castRS (ci := 2) (q := 89) B rfl (rc_in B (ci := 2) rfl (k := 8) rfl (Sub.hm (hE_6) fun _ z => PersP.hm z)) dX1_add_86 rfl q1161 ?_
        refine g_callV (q := 92) (is := [8]) (kc2 := 18) (ks2 := 188) B [] (ct_X4_isIn_s g J (a := x81) (x := x) (pks := pks) (r := rq) (W0 := v1)  (hE_6)) dX1_add_89 rfl (rc_in B (ci := 2) rfl (k := 8) rfl (Sub.hm (hE_6) fun _ z => PersP.hm z)) rfl q1211 q1207 q1208 q90 q1209 rfl rfl moX4_isIn rfl rfl (by decide) (by decide) (Nat.le_of_ble_eq_true rfl) (Nat.le_of_ble_eq_true rfl) (Nat.le_of_ble_eq_true rfl) (fun _ _ hx => noX_x hx) (fun v89 L1 hp89 => ?_)
        obtain ⟨rfl, rfl⟩ := hp89
        refine (show Go g κ 92 [some (.ref x), some (.int (nI i2)), some (.int (nI j)), some (.ref a2), some (.ref x30)] [.int (nI (if ¬ pEp rq = none then 1 else 0))] [v0, v3, v5, v6, v7, v2, [(x, .inr (0, [.ref b, .ref lp, .ref lk, .ref lr, .ref lt, .ref ls, .ref lm, .ref so, .int (nI (zBn C))]))], v4, v1] 18 188 from ?_)
        refine g_if_ne (tgt := 111) (q := 95) B dX1_add_92 rfl (by decide) (bo_ne) (fun c92 => ?_) (fun c92 => ?_)
        · skip
          refine g_iconst (v := nI 0) (q := 112) B dX1_add_111 rfl (by decide) ?_
          refine g_callS (q := 115) (is := []) (kc2 := 17) (ks2 := 182) B [.int (nI 0)] (ct_X1_can g J (c := False) (dc := instDecidableFalse)  ) dX1_add_112 rfl q2331 q2332 q77 q2333 rfl rfl moX1_can rfl rfl (by decide) (by decide) (Nat.le_of_ble_eq_true rfl) (Nat.le_of_ble_eq_true rfl) (Nat.le_of_ble_eq_true rfl) (fun E112 L1 hx112 => ?_) (fun v112 L1 hp112 => ?_)
          · skip
            obtain ⟨rfl, hx112⟩ := hx112
            obtain ⟨rfl, hx112⟩ := hx112
            refine gx_cl [6, 0, 6, 4, 0, 3, 0, 0, 0] rfl ?_
            exact g_out B E tb (by first | exact ⟨rfl, Or.inr (Or.inl ⟨rfl, hx112⟩)⟩ | exact ⟨rfl, Or.inr (Or.inl ⟨rfl, ⟨i2, r2, j, r30, rq, rfl, hr_2, rfl, hr30, hrq, by rintro ⟨z1, z2, z3, z4, z5⟩; first | exact c45 z1 | exact z2 c53 | exact c69 z3 | exact c92 z4 | exact z5 c104⟩⟩)⟩ | exact ⟨rfl, Or.inr (Or.inl ⟨rfl, by simp_all⟩)⟩)
          obtain ⟨rfl, rfl, ht_112⟩ := hp112
          exact ht_112.elim
        · skip
          refine g_aload_n (q := 96) B dX1_add_95 rfl rfl (rv_r _) ?_
          refine g_aload (q := 98) B dX1_add_96 rfl rfl (rv_r _) ?_
          refine g_getNM (q := 101) B (ci := 4) (k := 5) (j := 0) in_X7 rfl dX1_add_98 rfl rfl (hc_5_0) (Nat.le_of_ble_eq_true rfl) q1988 rfl rfl ?_
          refine g_callV (q := 104) (is := [6, 1, 4]) (kc2 := 17) (ks2 := 184) B [.int (nI r30.1)] (ct_X1_isToBeAdded g J (x := x) (lk := lk) (b := b) (lp := lp) (lr := lr) (lt := lt) (ls := ls) (lm := lm) (so := so) (bxs := (zBn C)) (Rs := (zRs C)) (rcap := rcap) (pks := pks) (Ks := (zKs C)) (kcap := kcap) (p := r30.1) hv3 hv2 (by omega)) dX1_add_101 rfl (rc_at B (ci := 0) rfl (k := 6) rfl) rfl q2387 q2389 qs29 q77 q2390 rfl rfl moX1_isToBeAdded rfl rfl (by decide) (by decide) (Nat.le_of_ble_eq_true rfl) (Nat.le_of_ble_eq_true rfl) (Nat.le_of_ble_eq_true rfl) (fun _ _ hx => noX_x hx) (fun v101 L1 hp101 => ?_)
          obtain ⟨rfl, rfl⟩ := hp101
          refine (show Go g κ 104 [some (.ref x), some (.int (nI i2)), some (.int (nI j)), some (.ref a2), some (.ref x30)] [.int (nI (if adB (zKs C) (zRs C) r30.1 = true then 1 else 0))] [v0, v5, v6, v7, v4, v1, [(x, .inr (0, [.ref b, .ref lp, .ref lk, .ref lr, .ref lt, .ref ls, .ref lm, .ref so, .int (nI (zBn C))]))], v3, v2] 17 184 from ?_)
          refine g_if_ne (tgt := 111) (q := 107) B dX1_add_104 rfl (by decide) (bo_ne) (fun c104 => ?_) (fun c104 => ?_)
          · skip
            refine g_iconst (v := nI 0) (q := 112) B dX1_add_111 rfl (by decide) ?_
            refine g_callS (q := 115) (is := []) (kc2 := 16) (ks2 := 178) B [.int (nI 0)] (ct_X1_can g J (c := False) (dc := instDecidableFalse)  ) dX1_add_112 rfl q2331 q2332 q77 q2333 rfl rfl moX1_can rfl rfl (by decide) (by decide) (Nat.le_of_ble_eq_true rfl) (Nat.le_of_ble_eq_true rfl) (Nat.le_of_ble_eq_true rfl) (fun E112 L1 hx112 => ?_) (fun v112 L1 hp112 => ?_)
            · skip
              obtain ⟨rfl, hx112⟩ := hx112
              obtain ⟨rfl, hx112⟩ := hx112
              refine gx_cl [6, 0, 4, 5, 4, 3, 0, 0, 0] rfl ?_
              exact g_out B E tb (by first | exact ⟨rfl, Or.inr (Or.inl ⟨rfl, hx112⟩)⟩ | exact ⟨rfl, Or.inr (Or.inl ⟨rfl, ⟨i2, r2, j, r30, rq, rfl, hr_2, rfl, hr30, hrq, by rintro ⟨z1, z2, z3, z4, z5⟩; first | exact c45 z1 | exact z2 c53 | exact c69 z3 | exact c92 z4 | exact z5 c104⟩⟩)⟩ | exact ⟨rfl, Or.inr (Or.inl ⟨rfl, by simp_all⟩)⟩)
            obtain ⟨rfl, rfl, ht_112⟩ := hp112
            exact ht_112.elim
          · skip
            refine g_iconst (v := nI 1) (q := 108) B dX1_add_107 rfl (by decide) ?_
            refine g_goto (tgt := 112) B dX1_add_108 (by decide) ?_
            refine g_callS (q := 115) (is := []) (kc2 := 16) (ks2 := 178) B [.int (nI 1)] (ct_X1_can g J (c := True) (dc := instDecidableTrue)  ) dX1_add_112 rfl q2331 q2332 q77 q2333 rfl rfl moX1_can rfl rfl (by decide) (by decide) (Nat.le_of_ble_eq_true rfl) (Nat.le_of_ble_eq_true rfl) (Nat.le_of_ble_eq_true rfl) (fun E112 L1 hx112 => ?_) (fun v112 L1 hp112 => ?_)
            · skip
              obtain ⟨rfl, hx112⟩ := hx112
              obtain ⟨rfl, hx112⟩ := hx112
              exact absurd trivial hx112
            obtain ⟨rfl, rfl, ht_112⟩ := hp112
            refine (show Go g κ 115 [some (.ref x), some (.int (nI i2)), some (.int (nI j)), some (.ref a2), some (.ref x30)] [] [v0, v5, v6, v7, v4, v1, [(x, .inr (0, [.ref b, .ref lp, .ref lk, .ref lr, .ref lt, .ref ls, .ref lm, .ref so, .int (nI (zBn C))]))], v3, v2] 16 178 from ?_)
            refine g_aload_n (q := 116) B dX1_add_115 rfl rfl (rv_r _) ?_
            refine g_get (q := 119) B (ci := 0) (k := 6) (j := 3) in_X1 rfl dX1_add_116 rfl rfl (Nat.le_of_ble_eq_true rfl) q280 rfl rfl ?_
            obtain ⟨ps_7, md_7, hli_7, hln_7, hel_7⟩ := LhP.at (Sub.self hv3)
            refine g_callF (q := 124) (is := [7]) (kc2 := 16) (ks2 := 178) B [] (ct_J2_size_s g J (p := lr) (xs := ps_7) (md := md_7) (cap := rcap) (W0 := v3)  (hli_7)) dX1_add_119 rfl (ci := 21) rfl (rc_in B (ci := 21) rfl (k := 7) rfl (PropL.hm hv3)) q315 q319 q321 q81 q323 q317 q316 q322 q320 q318 rfl rfl mojava_util_List_size___I rfl rfl (by decide) (by decide) (Nat.le_of_ble_eq_true rfl) (Nat.le_of_ble_eq_true rfl) (Nat.le_of_ble_eq_true rfl) (fun _ _ hx => noX_x hx) (fun v119 L1 hp119 => ?_)
            obtain ⟨rfl, rfl⟩ := hp119
            refine (show Go g κ 124 [some (.ref x), some (.int (nI i2)), some (.int (nI j)), some (.ref a2), some (.ref x30)] [.int (nI ps_7.length)] [v0, v5, v6, v7, v4, v1, [(x, .inr (0, [.ref b, .ref lp, .ref lk, .ref lr, .ref lt, .ref ls, .ref lm, .ref so, .int (nI (zBn C))]))], v2, v3] 16 178 from ?_)
            rw [hln_7.1]
            refine (show Go g κ 124 [some (.ref x), some (.int (nI i2)), some (.int (nI j)), some (.ref a2), some (.ref x30)] [.int (nI ((zRs C).length))] [v0, v5, v6, v7, v4, v1, [(x, .inr (0, [.ref b, .ref lp, .ref lk, .ref lr, .ref lt, .ref ls, .ref lm, .ref so, .int (nI (zBn C))]))], v2, v3] 16 178 from ?_)
            refine g_bipush (v := nI 8) (q := 126) B dX1_add_124 rfl (by decide) ?_
            refine g_icmp_ge (tgt := 133) (q := 129) B dX1_add_126 rfl (by decide) (nI_leI (by omega) (by omega)) (fun c126 => ?_) (fun c126 => ?_)
            · skip
              refine g_iconst (v := nI 0) (q := 134) B dX1_add_133 rfl (by decide) ?_
              refine g_callS (q := 137) (is := []) (kc2 := 15) (ks2 := 172) B [.int (nI 0)] (ct_X1_ready g J (c := False) (dc := instDecidableFalse)  ) dX1_add_134 rfl q1839 q1840 q77 q1841 rfl rfl moX1_ready rfl rfl (by decide) (by decide) (Nat.le_of_ble_eq_true rfl) (Nat.le_of_ble_eq_true rfl) (Nat.le_of_ble_eq_true rfl) (fun E134 L1 hx134 => ?_) (fun v134 L1 hp134 => ?_)
              · skip
                obtain ⟨rfl, hx134⟩ := hx134
                obtain ⟨rfl, hx134⟩ := hx134
                refine gx_cl [6, 0, 4, 4, 4, 3, 0, 0, 0] rfl ?_
                exact g_out B E tb (by first | exact ⟨rfl, Or.inr (Or.inr (⟨rfl, hx134⟩))⟩ | exact ⟨rfl, Or.inr (Or.inr (⟨rfl, ⟨i2, r2, j, r30, rq, rfl, hr_2, rfl, hr30, hrq, ⟨c45, c53, c69, Classical.not_not.mp c92, c104⟩, by omega⟩⟩))⟩ | exact ⟨rfl, Or.inr (Or.inr (⟨rfl, by simp_all⟩))⟩)
              obtain ⟨rfl, rfl, ht_134⟩ := hp134
              exact ht_134.elim
            · skip
              refine g_iconst (v := nI 1) (q := 130) B dX1_add_129 rfl (by decide) ?_
              refine g_goto (tgt := 134) B dX1_add_130 (by decide) ?_
              refine g_callS (q := 137) (is := []) (kc2 := 15) (ks2 := 172) B [.int (nI 1)] (ct_X1_ready g J (c := True) (dc := instDecidableTrue)  ) dX1_add_134 rfl q1839 q1840 q77 q1841 rfl rfl moX1_ready rfl rfl (by decide) (by decide) (Nat.le_of_ble_eq_true rfl) (Nat.le_of_ble_eq_true rfl) (Nat.le_of_ble_eq_true rfl) (fun E134 L1 hx134 => ?_) (fun v134 L1 hp134 => ?_)
              · skip
                obtain ⟨rfl, hx134⟩ := hx134
                obtain ⟨rfl, hx134⟩ := hx134
                exact absurd trivial hx134
              obtain ⟨rfl, rfl, ht_134⟩ := hp134
              refine (show Go g κ 137 [some (.ref x), some (.int (nI i2)), some (.int (nI j)), some (.ref a2), some (.ref x30)] [] [v0, v5, v6, v7, v4, v1, [(x, .inr (0, [.ref b, .ref lp, .ref lk, .ref lr, .ref lt, .ref ls, .ref lm, .ref so, .int (nI (zBn C))]))], v2, v3] 15 172 from ?_)
              refine g_aload_n (q := 138) B dX1_add_137 rfl rfl (rv_r _) ?_
              refine g_new (q := 141) (kc2 := 14) (ks2 := 171) (fs := [.null]) B (ci := 8) in_X16 tyX16_ok rfl dX1_add_138 rfl q2392 q2393 q140 (nwX16) (Nat.le_of_ble_eq_true rfl) (Nat.le_of_ble_eq_true rfl) (fun n138 => ?_)
              refine (show Go g κ 141 [some (.ref x), some (.int (nI i2)), some (.int (nI j)), some (.ref a2), some (.ref x30)] [.ref n138, .ref x] [v0, v5, v6, v7, v4, v1, [(x, .inr (0, [.ref b, .ref lp, .ref lk, .ref lr, .ref lt, .ref ls, .ref lm, .ref so, .int (nI (zBn C))]))], v2, v3, [(n138, .inr (8, [.null]))]] 14 171 from ?_)
              refine g_dup (q := 142) B dX1_add_141 rfl rfl ?_
              refine g_aload (q := 144) B dX1_add_142 rfl rfl (rv_r _) ?_
              refine g_callI (q := 147) (is := [9]) (kc2 := 14) (ks2 := 171) B [.ref x30] (ct_X16_init g J (a := n138) (k := x30)  ) dX1_add_144 rfl rfl q2394 q2395 q140 q2396 rfl rfl moX16_init rfl rfl (by decide) (by decide) (Nat.le_of_ble_eq_true rfl) (Nat.le_of_ble_eq_true rfl) (Nat.le_of_ble_eq_true rfl) (fun _ _ hx => noX_x hx) (fun v144 L1 hp144 => ?_)
              obtain ⟨rfl, rfl⟩ := hp144
              refine (show Go g κ 147 [some (.ref x), some (.int (nI i2)), some (.int (nI j)), some (.ref a2), some (.ref x30)] [.ref n138, .ref x] [v0, v5, v6, v7, v4, v1, [(x, .inr (0, [.ref b, .ref lp, .ref lk, .ref lr, .ref lt, .ref ls, .ref lm, .ref so, .int (nI (zBn C))]))], v2, v3, [(n138, .inr (8, [.ref x30]))]] 14 171 from ?_)
              obtain ⟨wc_8, ewc_8⟩ : ∃ w : va_W, w = ([[(n138, .inr (8, [.ref x30]))]] : List va_W).flatten := ⟨_, rfl⟩
              have hwc_8 : PropQ g n138 pks ((0, j, 0) : PrS) wc_8 := by
                rw [ewc_8]
                exact Or.inl ⟨rfl, _, hx30, rfl⟩
              refine g_close (w := wc_8) [9] rfl ewc_8 rfl ?_
              refine (show Go g κ 147 [some (.ref x), some (.int (nI i2)), some (.int (nI j)), some (.ref a2), some (.ref x30)] [.ref n138, .ref x] [v0, v5, v6, v7, v4, v1, [(x, .inr (0, [.ref b, .ref lp, .ref lk, .ref lr, .ref lt, .ref ls, .ref lm, .ref so, .int (nI (zBn C))]))], v2, v3, wc_8] 14 171 from ?_)
              refine g_callV (q := 150) (is := [6, 7, 7]) (kc2 := 13) (ks2 := 111) B [.ref n138] (ct_X1_proposes g J (x := x) (lk := lk) (b := b) (lp := lp) (lr := lr) (lt := lt) (ls := ls) (lm := lm) (so := so) (bxs := (zBn C)) (Rs := (zRs C)) (rcap := rcap) (pks := pks) (a := n138) (r := ((0, j, 0) : PrS)) hv3 hwc_8 (by first | assumption | omega | rfl) (by first | assumption | omega | rfl)) dX1_add_147 rfl (rc_at B (ci := 0) rfl (k := 6) rfl) rfl q2406 q2408 qs30 q77 q2409 rfl rfl moX1_proposes rfl rfl (by decide) (by decide) (Nat.le_of_ble_eq_true rfl) (Nat.le_of_ble_eq_true rfl) (Nat.le_of_ble_eq_true rfl) (fun _ _ hx => noX_x hx) (fun v147 L1 hp147 => ?_)
              obtain ⟨u1_147, rfl, rfl, hu1_147⟩ := hp147
              refine (show Go g κ 150 [some (.ref x), some (.int (nI i2)), some (.int (nI j)), some (.ref a2), some (.ref x30)] [.int (nI ((zRs C).length + 1))] [v0, v5, v6, v7, v4, v1, v2, [(x, .inr (0, [.ref b, .ref lp, .ref lk, .ref lr, .ref lt, .ref ls, .ref lm, .ref so, .int (nI (zBn C))]))], u1_147] 13 111 from ?_)
              obtain ⟨wc_9, ewc_9⟩ : ∃ w : va_W, w = ([[(x, .inr (0, [.ref b, .ref lp, .ref lk, .ref lr, .ref lt, .ref ls, .ref lm, .ref so, .int (nI (zBn C))]))], v0, v1, v2, u1_147, v4, v5, v6, v7] : List va_W).flatten := ⟨_, rfl⟩
              have hwc_9 : KgP g x ((zSs C, zBx C, zZz C, zPs C, zKs C, (zRs C ++ [(0, j, 0)]), zTs C, zSt C, zMs C, zSo C, zBn C) : KsS) wc_9 := by
                rw [ewc_9]
                exact ⟨b, lp, lk, lr, lt, ls, lm, so, pcap, kcap, (if (zRs C).length = rcap then growN rcap else rcap), tcap, scap, mcap, socap, ps, pks, pmd, _, _, _, _, _, _, _, _, ⟨kc1, kc2, grow_b (by omega) kc3, kc4, kc5, kc6, kc7⟩, hv0, hv1, hv2, hu1_147, hv4, hv5, hv6, hv7, rfl⟩
              refine g_close (w := wc_9) [7, 0, 4, 4, 4, 3, 0, 0, 0] rfl ewc_9 rfl ?_
              refine (show Go g κ 150 [some (.ref x), some (.int (nI i2)), some (.int (nI j)), some (.ref a2), some (.ref x30)] [.int (nI ((zRs C).length + 1))] [wc_9] 13 111 from ?_)
              exact g_iret B E dX1_add_150 (⟨i2, r2, j, r30, rq, _, rfl, rfl, hwc_9, rfl, hr_2, rfl, hr30, hrq, ⟨c45, c53, c69, Classical.not_not.mp c92, c104⟩, by omega⟩)
