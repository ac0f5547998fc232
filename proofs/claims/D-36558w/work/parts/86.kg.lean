set_option maxRecDepth 100000
/-- the lists of proposals, with the places of the packages -/
def PropQ (g : Gv) (a : Nat) (pks : List Nat) (r : PrS) (w : va_W) : Prop := PropP g pks a r w
def PropL (g : Gv) (p : Nat) (rs : List PrS) (cap : Nat) (pks : List Nat) (w : va_W) : Prop := LhP g (fun a r v => PropQ g a pks r v) p rs cap w
theorem PropL.hm {g : Gv} {p : Nat} {rs : List PrS} {cap : Nat} {pks : List Nat} {w : va_W} (h : PropL g p rs cap pks w) : ∃ fs, (p, .inr (21, fs)) ∈ w := LhP.hm h
def isF (n : Nat) (e : Option Nat) : Bool := match e with
  | none => false
  | some m => m + 1 == n
theorem moX1_in : Mo yX1_in 3 := by
  refine ⟨by decide, by decide, by decide +kernel⟩
theorem moX1_there : Mo yX1_there 1 := by
  refine ⟨by decide, by decide, by decide +kernel⟩
theorem ct_X1_personWith (g : Gv) (J : Jd g) {x : Nat} {lk : Nat} {b : Nat} {lp : Nat} {lr : Nat} {lt : Nat} {ls : Nat} {lm : Nat} {so : Nat} {bxs : Nat} {ps : List Nat} {Ps : List PeS} {pcap : Nat} {pks : List Nat} {pmd : Int32} {v : Int32} {w1 : va_W} (hw1 : PersL g lp ps Ps pcap x pks pmd w1) (hpn : Ps.length < 100) : Ct g yX1_personWith (ws_ yX1_personWith cX1_personWith 2 (some (.object "Keygrove$Person"))) 9 1 6 [.ref x, .int v] [[(x, .inr (0, [.ref b, .ref lp, .ref lk, .ref lr, .ref lt, .ref ls, .ref lm, .ref so, .int (nI bxs)]))], w1] (fun (rv_ : Option Value) (rL_ : List va_W) => ∃ (i : Nat) (a : Nat) (r : PeS), rv_ = some (.ref a) ∧ rL_ = [[(x, .inr (0, [.ref b, .ref lp, .ref lk, .ref lr, .ref lt, .ref ls, .ref lm, .ref so, .int (nI bxs)]))], w1] ∧ (v = nI i) ∧ (ps[i]? = some a) ∧ (Ps[i]? = some r)) (fun (rE_ : String) (rL_ : List va_W) => rL_ = [[(x, .inr (0, [.ref b, .ref lp, .ref lk, .ref lr, .ref lt, .ref ls, .ref lm, .ref so, .int (nI bxs)]))], w1] ∧ ((rE_ = "java/lang/IndexOutOfBoundsException" ∧ (¬ inR v Ps.length = true)))) := by
  refine Ct.of "Keygrove" [some (.ref x), some (.int v)] rfl (by decide) rfl (Nat.le_of_ble_eq_true rfl) rfl ?_
  intro κ B E tb
  refine g_iload_n (q := 1) B dX1_personWith_0 rfl rfl ?_
  refine g_iconst (v := nI 0) (q := 2) B dX1_personWith_1 rfl (by decide) ?_
  refine g_aload_n (q := 3) B dX1_personWith_2 rfl rfl (rv_r _) ?_
  refine g_get (q := 6) B (ci := 0) (k := 0) (j := 1) in_X1 rfl dX1_personWith_3 rfl rfl (Nat.le_of_ble_eq_true rfl) q278 rfl rfl ?_
  obtain ⟨hli_1, hln_1, hel_1⟩ := PersL.at (Sub.self hw1)
  refine g_callF (q := 11) (is := [1]) (kc2 := 1) (ks2 := 6) B [] (ct_J2_size_s g J (p := lp) (xs := ps) (md := pmd) (cap := pcap) (W0 := w1)  (hli_1)) dX1_personWith_6 rfl (ci := 21) rfl (rc_in B (ci := 21) rfl (k := 1) rfl (PersL.hm hw1)) q315 q319 q321 q81 q323 q317 q316 q322 q320 q318 rfl rfl mojava_util_List_size___I rfl rfl (by decide) (by decide) (Nat.le_of_ble_eq_true rfl) (Nat.le_of_ble_eq_true rfl) (Nat.le_of_ble_eq_true rfl) (fun _ _ hx => noX_x hx) (fun v6 L1 hp6 => ?_)
  obtain ⟨rfl, rfl⟩ := hp6
  refine (show Go g κ 11 [some (.ref x), some (.int v)] [.int (nI ps.length), .int (nI 0), .int v] [[(x, .inr (0, [.ref b, .ref lp, .ref lk, .ref lr, .ref lt, .ref ls, .ref lm, .ref so, .int (nI bxs)]))], w1] 1 6 from ?_)
  rw [hln_1.1]
  refine (show Go g κ 11 [some (.ref x), some (.int v)] [.int (nI Ps.length), .int (nI 0), .int v] [[(x, .inr (0, [.ref b, .ref lp, .ref lk, .ref lr, .ref lt, .ref ls, .ref lm, .ref so, .int (nI bxs)]))], w1] 1 6 from ?_)
  refine g_iconst (v := nI 1) (q := 12) B dX1_personWith_11 rfl (by decide) ?_
  refine g_isub (v := nI Ps.length - nI 1) (q := 13) B dX1_personWith_12 rfl rfl ?_
  refine g_callS (q := 16) (is := []) (kc2 := 1) (ks2 := 6) B [.int v, .int (nI 0), .int (nI Ps.length - nI 1)] (ct_X1_in g J (v := v) (n := Ps.length)  (by first | assumption | omega | rfl)) dX1_personWith_13 rfl q1965 q1966 q77 q1967 rfl rfl moX1_in rfl rfl (by decide) (by decide) (Nat.le_of_ble_eq_true rfl) (Nat.le_of_ble_eq_true rfl) (Nat.le_of_ble_eq_true rfl) (fun _ _ hx => noX_x hx) (fun v13 L1 hp13 => ?_)
  obtain ⟨rfl, rfl⟩ := hp13
  refine (show Go g κ 16 [some (.ref x), some (.int v)] [.int (nI (if inR v Ps.length = true then 1 else 0))] [[(x, .inr (0, [.ref b, .ref lp, .ref lk, .ref lr, .ref lt, .ref ls, .ref lm, .ref so, .int (nI bxs)]))], w1] 1 6 from ?_)
  refine g_callS (q := 19) (is := []) (kc2 := 0) (ks2 := 0) B [.int (nI (if inR v Ps.length = true then 1 else 0))] (ct_X1_there g J (c := inR v Ps.length = true) (dc := _)  ) dX1_personWith_16 rfl q1968 q1969 q77 q1970 rfl rfl moX1_there rfl rfl (by decide) (by decide) (Nat.le_of_ble_eq_true rfl) (Nat.le_of_ble_eq_true rfl) (Nat.le_of_ble_eq_true rfl) (fun E16 L1 hx16 => ?_) (fun v16 L1 hp16 => ?_)
  · skip
    obtain ⟨rfl, hx16⟩ := hx16
    obtain ⟨rfl, hx16⟩ := hx16
    refine gx_pk [0, 0] rfl rfl ?_
    exact g_out B E tb (by first | exact ⟨rfl, ⟨rfl, hx16⟩⟩ | exact ⟨rfl, ⟨rfl, by simp_all⟩⟩)
  obtain ⟨rfl, rfl, ht_16⟩ := hp16
  refine (show Go g κ 19 [some (.ref x), some (.int v)] [] [[(x, .inr (0, [.ref b, .ref lp, .ref lk, .ref lr, .ref lt, .ref ls, .ref lm, .ref so, .int (nI bxs)]))], w1] 0 0 from ?_)
  obtain ⟨i, hii, rfl⟩ := inR_t ht_16
  refine (show Go g κ 19 [some (.ref x), some (.int (nI i))] [] [[(x, .inr (0, [.ref b, .ref lp, .ref lk, .ref lr, .ref lt, .ref ls, .ref lm, .ref so, .int (nI bxs)]))], w1] 0 0 from ?_)
  refine g_aload_n (q := 20) B dX1_personWith_19 rfl rfl (rv_r _) ?_
  refine g_get (q := 23) B (ci := 0) (k := 0) (j := 1) in_X1 rfl dX1_personWith_20 rfl rfl (Nat.le_of_ble_eq_true rfl) q278 rfl rfl ?_
  refine g_iload_n (q := 24) B dX1_personWith_23 rfl rfl ?_
  obtain ⟨r24, hr24⟩ := get_ex (xs := Ps) (i := i) (by omega)
  obtain ⟨x24, hx24⟩ := get_ex (xs := ps) (i := i) (by have := get_lt2 hr24; have := hln_1.1; omega)
  have hE_2 := hel_1 _ _ _ hx24 hr24
  refine g_callF (q := 29) (is := [1]) (kc2 := 0) (ks2 := 0) B [.int (nI i)] (ct_J2_get_s g J (p := lp) (xs := ps) (md := pmd) (cap := pcap) (i := i) (x := x24) (W0 := w1)  (hli_1) (hx24)) dX1_personWith_24 rfl (ci := 21) rfl (rc_in B (ci := 21) rfl (k := 1) rfl (PersL.hm hw1)) q1138 q1093 q1095 q81 q1097 q1092 q1091 q1096 q1094 q318 rfl rfl mojava_util_List_get__I_Ljava_lang_Object_ rfl rfl (by decide) (by decide) (Nat.le_of_ble_eq_true rfl) (Nat.le_of_ble_eq_true rfl) (Nat.le_of_ble_eq_true rfl) (fun _ _ hx => noX_x hx) (fun v24 L1 hp24 => ?_)
  obtain ⟨rfl, rfl⟩ := hp24
  refine (show Go g κ 29 [some (.ref x), some (.int (nI i))] [.ref x24] [[(x, .inr (0, [.ref b, .ref lp, .ref lk, .ref lr, .ref lt, .ref ls, .ref lm, .ref so, .int (nI bxs)]))], w1] 0 0 from ?_)
  refine g_castRS (ci := 2) (q := 32) B rfl (rc_in B (ci := 2) rfl (k := 1) rfl (Sub.hm (hE_2) fun _ z => PersP.hm z)) dX1_personWith_29 rfl q1161 ?_
  exact g_aret B E dX1_personWith_32 (by first | exact Or.inl ⟨_, rfl⟩ | exact Or.inr ⟨_, rfl⟩) (rv_r _) (⟨i, x24, r24, rfl, rfl, rfl, hx24, hr24⟩)
theorem ct_X1_newest (g : Gv) (J : Jd g) {x : Nat} {lk : Nat} {b : Nat} {lp : Nat} {lr : Nat} {lt : Nat} {ls : Nat} {lm : Nat} {so : Nat} {bxs : Nat} {Ts : List TrS} {tcap : Nat} {w1 : va_W} (hw1 : LhP g (TreeP g) lt Ts tcap w1) : Ct g yX1_newest (ws_ yX1_newest cX1_newest 1 (some .int)) 3 0 0 [.ref x] [[(x, .inr (0, [.ref b, .ref lp, .ref lk, .ref lr, .ref lt, .ref ls, .ref lm, .ref so, .int (nI bxs)]))], w1] (fun (rv_ : Option Value) (rL_ : List va_W) => rv_ = some (.int (nI Ts.length - nI 1)) ∧ rL_ = [[(x, .inr (0, [.ref b, .ref lp, .ref lk, .ref lr, .ref lt, .ref ls, .ref lm, .ref so, .int (nI bxs)]))], w1]) noX := by
  refine Ct.of "Keygrove" [some (.ref x)] rfl (by decide) rfl (Nat.le_of_ble_eq_true rfl) rfl ?_
  intro κ B E tb
  refine g_aload_n (q := 1) B dX1_newest_0 rfl rfl (rv_r _) ?_
  refine g_get (q := 4) B (ci := 0) (k := 0) (j := 4) in_X1 rfl dX1_newest_1 rfl rfl (Nat.le_of_ble_eq_true rfl) q282 rfl rfl ?_
  obtain ⟨ps_1, md_1, hli_1, hln_1, hel_1⟩ := LhP.at (Sub.self hw1)
  refine g_callF (q := 9) (is := [1]) (kc2 := 0) (ks2 := 0) B [] (ct_J2_size_s g J (p := lt) (xs := ps_1) (md := md_1) (cap := tcap) (W0 := w1)  (hli_1)) dX1_newest_4 rfl (ci := 21) rfl (rc_in B (ci := 21) rfl (k := 1) rfl (LhP.hm hw1)) q315 q319 q321 q81 q323 q317 q316 q322 q320 q318 rfl rfl mojava_util_List_size___I rfl rfl (by decide) (by decide) (Nat.le_of_ble_eq_true rfl) (Nat.le_of_ble_eq_true rfl) (Nat.le_of_ble_eq_true rfl) (fun _ _ hx => noX_x hx) (fun v4 L1 hp4 => ?_)
  obtain ⟨rfl, rfl⟩ := hp4
  refine (show Go g κ 9 [some (.ref x)] [.int (nI ps_1.length)] [[(x, .inr (0, [.ref b, .ref lp, .ref lk, .ref lr, .ref lt, .ref ls, .ref lm, .ref so, .int (nI bxs)]))], w1] 0 0 from ?_)
  rw [hln_1.1]
  refine (show Go g κ 9 [some (.ref x)] [.int (nI Ts.length)] [[(x, .inr (0, [.ref b, .ref lp, .ref lk, .ref lr, .ref lt, .ref ls, .ref lm, .ref so, .int (nI bxs)]))], w1] 0 0 from ?_)
  refine g_iconst (v := nI 1) (q := 10) B dX1_newest_9 rfl (by decide) ?_
  refine g_isub (v := nI Ts.length - nI 1) (q := 11) B dX1_newest_10 rfl rfl ?_
  exact g_iret B E dX1_newest_11 (⟨rfl, rfl⟩)
theorem moX1_newest : Mo yX1_newest 0 := by
  refine ⟨by decide, by decide, by decide +kernel⟩
theorem ct_X1_tree (g : Gv) (J : Jd g) {x : Nat} {lk : Nat} {b : Nat} {lp : Nat} {lr : Nat} {lt : Nat} {ls : Nat} {lm : Nat} {so : Nat} {bxs : Nat} {Ts : List TrS} {tcap : Nat} {T : TrS} {w1 : va_W} (hw1 : LhP g (TreeP g) lt Ts tcap w1) (hT : Ts[Ts.length - 1]? = some T) : Ct g yX1_tree (ws_ yX1_tree cX1_tree 1 (some (.object "Keygrove$Tree"))) 4 0 0 [.ref x] [[(x, .inr (0, [.ref b, .ref lp, .ref lk, .ref lr, .ref lt, .ref ls, .ref lm, .ref so, .int (nI bxs)]))], w1] (fun (rv_ : Option Value) (rL_ : List va_W) => ∃ (t : Nat), rv_ = some (.ref t) ∧ rL_ = [[(x, .inr (0, [.ref b, .ref lp, .ref lk, .ref lr, .ref lt, .ref ls, .ref lm, .ref so, .int (nI bxs)]))], w1] ∧ (Sub (TreeP g t T) w1)) noX := by
  refine Ct.of "Keygrove" [some (.ref x)] rfl (by decide) rfl (Nat.le_of_ble_eq_true rfl) rfl ?_
  intro κ B E tb
  refine g_aload_n (q := 1) B dX1_tree_0 rfl rfl (rv_r _) ?_
  refine g_get (q := 4) B (ci := 0) (k := 0) (j := 4) in_X1 rfl dX1_tree_1 rfl rfl (Nat.le_of_ble_eq_true rfl) q282 rfl rfl ?_
  refine g_aload_n (q := 5) B dX1_tree_4 rfl rfl (rv_r _) ?_
  refine g_callV (q := 8) (is := [0, 0]) (kc2 := 0) (ks2 := 0) B [] (ct_X1_newest g J (x := x) (lk := lk) (b := b) (lp := lp) (lr := lr) (lt := lt) (ls := ls) (lm := lm) (so := so) (bxs := bxs) (Ts := Ts) (tcap := tcap) hw1 ) dX1_tree_5 rfl (rc_at B (ci := 0) rfl (k := 0) rfl) rfl q1120 q1122 qs8 q77 q1123 rfl rfl moX1_newest rfl rfl (by decide) (by decide) (Nat.le_of_ble_eq_true rfl) (Nat.le_of_ble_eq_true rfl) (Nat.le_of_ble_eq_true rfl) (fun _ _ hx => noX_x hx) (fun v5 L1 hp5 => ?_)
  obtain ⟨rfl, rfl⟩ := hp5
  refine (show Go g κ 8 [some (.ref x)] [.int (nI Ts.length - nI 1), .ref lt] [[(x, .inr (0, [.ref b, .ref lp, .ref lk, .ref lr, .ref lt, .ref ls, .ref lm, .ref so, .int (nI bxs)]))], w1] 0 0 from ?_)
  rw [(show nI Ts.length - nI 1 = nI (Ts.length - 1) from pk_sub (by have := get_lt2 hT; omega))]
  refine (show Go g κ 8 [some (.ref x)] [.int (nI (Ts.length - 1)), .ref lt] [[(x, .inr (0, [.ref b, .ref lp, .ref lk, .ref lr, .ref lt, .ref ls, .ref lm, .ref so, .int (nI bxs)]))], w1] 0 0 from ?_)
  obtain ⟨ps_1, md_1, hli_1, hln_1, hel_1⟩ := LhP.at (Sub.self hw1)
  obtain ⟨x8, hx8⟩ := get_ex (xs := ps_1) (i := Ts.length - 1) (by have := get_lt2 (show Ts[Ts.length - 1]? = some T from hT); have := hln_1.1; omega)
  have hE_2 := hel_1 _ _ _ hx8 (show Ts[Ts.length - 1]? = some T from hT)
  refine g_callF (q := 13) (is := [1]) (kc2 := 0) (ks2 := 0) B [.int (nI (Ts.length - 1))] (ct_J2_get_s g J (p := lt) (xs := ps_1) (md := md_1) (cap := tcap) (i := Ts.length - 1) (x := x8) (W0 := w1)  (hli_1) (hx8)) dX1_tree_8 rfl (ci := 21) rfl (rc_in B (ci := 21) rfl (k := 1) rfl (LhP.hm hw1)) q1138 q1093 q1095 q81 q1097 q1092 q1091 q1096 q1094 q318 rfl rfl mojava_util_List_get__I_Ljava_lang_Object_ rfl rfl (by decide) (by decide) (Nat.le_of_ble_eq_true rfl) (Nat.le_of_ble_eq_true rfl) (Nat.le_of_ble_eq_true rfl) (fun _ _ hx => noX_x hx) (fun v8 L1 hp8 => ?_)
  obtain ⟨rfl, rfl⟩ := hp8
  refine (show Go g κ 13 [some (.ref x)] [.ref x8] [[(x, .inr (0, [.ref b, .ref lp, .ref lk, .ref lr, .ref lt, .ref ls, .ref lm, .ref so, .int (nI bxs)]))], w1] 0 0 from ?_)
  refine g_castRS (ci := 5) (q := 16) B rfl (rc_in B (ci := 5) rfl (k := 1) rfl (Sub.hm (hE_2) fun _ z => TreeP.hm z)) dX1_tree_13 rfl q1139 ?_
  exact g_aret B E dX1_tree_16 (by first | exact Or.inl ⟨_, rfl⟩ | exact Or.inr ⟨_, rfl⟩) (rv_r _) (⟨x8, rfl, rfl, hE_2⟩)
theorem isF_iff {n : Nat} {e : Option Nat} (hn : n < 2 ^ 31) (h : ∀ m, e = some m → m < 2 ^ 31) (he : e ≠ none) : oI e ≠ nI n - nI 1 ↔ ¬ isF n e = true := by
  cases e with
  | none => exact absurd rfl he
  | some m =>
    show nI m ≠ _ ↔ _
    have hm := h m rfl
    unfold isF
    rcases Nat.eq_zero_or_pos n with rfl | h0
    · refine ⟨fun _ => by simp, fun _ z => ?_⟩
      have z2 := congrArg Int32.toInt z
      rw [nI_ti hm, hi_ti hn] at z2; omega
    · rw [pk_sub (by omega), Ne, nI_eq hm (by omega)]
      simp; omega
theorem isF_n {n : Nat} : ¬ isF n none = true := by unfold isF; simp
theorem ct_X1_isFresh (g : Gv) (J : Jd g) {x : Nat} {lk : Nat} {b : Nat} {lp : Nat} {lr : Nat} {lt : Nat} {ls : Nat} {lm : Nat} {so : Nat} {bxs : Nat} {ps : List Nat} {Ps : List PeS} {pcap : Nat} {pks : List Nat} {pmd : Int32} {Ts : List TrS} {tcap : Nat} {i : Nat} {a : Nat} {r : PeS} {w1 : va_W} {w2 : va_W} (hw1 : PersL g lp ps Ps pcap x pks pmd w1) (hw2 : LhP g (TreeP g) lt Ts tcap w2) (ha : ps[i]? = some a) (hr : Ps[i]? = some r) (htn : Ts.length < 1000) : Ct g yX1_isFresh (ws_ yX1_isFresh cX1_isFresh 2 (some .boolean)) 4 0 0 [.ref x, .ref a] [[(x, .inr (0, [.ref b, .ref lp, .ref lk, .ref lr, .ref lt, .ref ls, .ref lm, .ref so, .int (nI bxs)]))], w1, w2] (fun (rv_ : Option Value) (rL_ : List va_W) => rv_ = some (.int (nI (if isF Ts.length (pEp r) = true then 1 else 0))) ∧ rL_ = [[(x, .inr (0, [.ref b, .ref lp, .ref lk, .ref lr, .ref lt, .ref ls, .ref lm, .ref so, .int (nI bxs)]))], w1, w2]) noX := by
  refine Ct.of "Keygrove" [some (.ref x), some (.ref a)] rfl (by decide) rfl (Nat.le_of_ble_eq_true rfl) rfl ?_
  intro κ B E tb
  obtain ⟨hli_1, hln_1, hel_1⟩ := PersL.at (Sub.self hw1)
  have hE_2 := hel_1 _ _ _ ha hr
  refine g_aload_n (q := 1) B dX1_isFresh_0 rfl rfl (rv_r _) ?_
  refine g_callV (q := 4) (is := [1]) (kc2 := 0) (ks2 := 0) B [] (ct_X4_isIn_s g J (a := a) (x := x) (pks := pks) (r := r) (W0 := w1)  (hE_2)) dX1_isFresh_1 rfl (rc_in B (ci := 2) rfl (k := 1) rfl (Sub.hm (hE_2) fun _ z => PersP.hm z)) rfl q1211 q1207 q1208 q90 q1209 rfl rfl moX4_isIn rfl rfl (by decide) (by decide) (Nat.le_of_ble_eq_true rfl) (Nat.le_of_ble_eq_true rfl) (Nat.le_of_ble_eq_true rfl) (fun _ _ hx => noX_x hx) (fun v1 L1 hp1 => ?_)
  obtain ⟨rfl, rfl⟩ := hp1
  refine (show Go g κ 4 [some (.ref x), some (.ref a)] [.int (nI (if ¬ pEp r = none then 1 else 0))] [[(x, .inr (0, [.ref b, .ref lp, .ref lk, .ref lr, .ref lt, .ref ls, .ref lm, .ref so, .int (nI bxs)]))], w2, w1] 0 0 from ?_)
  refine g_if_eq (tgt := 22) (q := 7) B dX1_isFresh_4 rfl (by decide) (bo_eq) (fun c4 => ?_) (fun c4 => ?_)
  · skip
    have e4 := Classical.not_not.mp c4
    refine g_iconst (v := nI 0) (q := 23) B dX1_isFresh_22 rfl (by decide) ?_
    refine g_pk [0, 1, 0] rfl rfl ?_
    refine (show Go g κ 23 [some (.ref x), some (.ref a)] [.int (nI 0)] [[(x, .inr (0, [.ref b, .ref lp, .ref lk, .ref lr, .ref lt, .ref ls, .ref lm, .ref so, .int (nI bxs)]))], w1, w2] 0 0 from ?_)
    exact g_zret B E dX1_isFresh_23 (by decide) (⟨bo0 (by first | exact c15 | (rw [e4]; exact isF_n)), rfl⟩)
  · skip
    have c4 := Classical.not_not.mp c4
    refine g_aload_n (q := 8) B dX1_isFresh_7 rfl rfl (rv_r _) ?_
    obtain ⟨ev_3, pl_3, nd_3, ch_3, ecap_3, pcap_3, nn_3, nc_3, plc_3, md_3, hP_3, hpl_3, hec_3, hpc_3, hc_3_0, hs_3_0, hs_3_1, hs_3_2, hs_3_3⟩ := PersP.at (hE_2)
    refine g_getNM (q := 11) B (ci := 2) (k := 2) (j := 3) in_X4 rfl dX1_isFresh_8 rfl rfl (hc_3_0) (Nat.le_of_ble_eq_true rfl) q1901 rfl rfl ?_
    refine g_aload_n (q := 12) B dX1_isFresh_11 rfl rfl (rv_r _) ?_
    refine g_callV (q := 15) (is := [0, 0]) (kc2 := 0) (ks2 := 0) B [] (ct_X1_newest g J (x := x) (lk := lk) (b := b) (lp := lp) (lr := lr) (lt := lt) (ls := ls) (lm := lm) (so := so) (bxs := bxs) (Ts := Ts) (tcap := tcap) hw2 ) dX1_isFresh_12 rfl (rc_at B (ci := 0) rfl (k := 0) rfl) rfl q1120 q1122 qs8 q77 q1123 rfl rfl moX1_newest rfl rfl (by decide) (by decide) (Nat.le_of_ble_eq_true rfl) (Nat.le_of_ble_eq_true rfl) (Nat.le_of_ble_eq_true rfl) (fun _ _ hx => noX_x hx) (fun v12 L1 hp12 => ?_)
    obtain ⟨rfl, rfl⟩ := hp12
    refine (show Go g κ 15 [some (.ref x), some (.ref a)] [.int (nI Ts.length - nI 1), .int (oI (pEp r))] [w1, [(x, .inr (0, [.ref b, .ref lp, .ref lk, .ref lr, .ref lt, .ref ls, .ref lm, .ref so, .int (nI bxs)]))], w2] 0 0 from ?_)
    refine g_icmp_ne (tgt := 22) (q := 18) B dX1_isFresh_15 rfl (by decide) (isF_iff (by omega) ((fun n h => by have := hP_3.2.2.2.2.1 _ h; omega)) c4) (fun c15 => ?_) (fun c15 => ?_)
    · skip
      refine g_iconst (v := nI 0) (q := 23) B dX1_isFresh_22 rfl (by decide) ?_
      refine g_pk [1, 0, 0] rfl rfl ?_
      refine (show Go g κ 23 [some (.ref x), some (.ref a)] [.int (nI 0)] [[(x, .inr (0, [.ref b, .ref lp, .ref lk, .ref lr, .ref lt, .ref ls, .ref lm, .ref so, .int (nI bxs)]))], w1, w2] 0 0 from ?_)
      exact g_zret B E dX1_isFresh_23 (by decide) (⟨bo0 (by first | exact c15 | (rw [e4]; exact isF_n)), rfl⟩)
    · skip
      refine g_iconst (v := nI 1) (q := 19) B dX1_isFresh_18 rfl (by decide) ?_
      refine g_goto (tgt := 23) B dX1_isFresh_19 (by decide) ?_
      refine g_pk [1, 0, 0] rfl rfl ?_
      refine (show Go g κ 23 [some (.ref x), some (.ref a)] [.int (nI 1)] [[(x, .inr (0, [.ref b, .ref lp, .ref lk, .ref lr, .ref lt, .ref ls, .ref lm, .ref so, .int (nI bxs)]))], w1, w2] 0 0 from ?_)
      exact g_zret B E dX1_isFresh_23 (by decide) (⟨bo1 (Classical.not_not.mp c15), rfl⟩)
theorem ct_X1_hasEpoch (g : Gv) (J : Jd g) {x : Nat} {lk : Nat} {b : Nat} {lp : Nat} {lr : Nat} {lt : Nat} {ls : Nat} {lm : Nat} {so : Nat} {bxs : Nat} {Ts : List TrS} {tcap : Nat} {v : Int32} {w1 : va_W} (hw1 : LhP g (TreeP g) lt Ts tcap w1) (htn : Ts.length < 1000) : Ct g yX1_hasEpoch (ws_ yX1_hasEpoch cX1_hasEpoch 2 none) 9 1 6 [.ref x, .int v] [[(x, .inr (0, [.ref b, .ref lp, .ref lk, .ref lr, .ref lt, .ref ls, .ref lm, .ref so, .int (nI bxs)]))], w1] (fun (rv_ : Option Value) (rL_ : List va_W) => ∃ (i : Nat), rv_ = none ∧ rL_ = [[(x, .inr (0, [.ref b, .ref lp, .ref lk, .ref lr, .ref lt, .ref ls, .ref lm, .ref so, .int (nI bxs)]))], w1] ∧ (v = nI i) ∧ (i < Ts.length)) (fun (rE_ : String) (rL_ : List va_W) => rL_ = [[(x, .inr (0, [.ref b, .ref lp, .ref lk, .ref lr, .ref lt, .ref ls, .ref lm, .ref so, .int (nI bxs)]))], w1] ∧ ((rE_ = "java/lang/IndexOutOfBoundsException" ∧ (¬ inR v Ts.length = true)))) := by
  refine Ct.of "Keygrove" [some (.ref x), some (.int v)] rfl (by decide) rfl (Nat.le_of_ble_eq_true rfl) rfl ?_
  intro κ B E tb
  refine g_iload_n (q := 1) B dX1_hasEpoch_0 rfl rfl ?_
  refine g_iconst (v := nI 0) (q := 2) B dX1_hasEpoch_1 rfl (by decide) ?_
  refine g_aload_n (q := 3) B dX1_hasEpoch_2 rfl rfl (rv_r _) ?_
  refine g_callV (q := 6) (is := [0, 0]) (kc2 := 1) (ks2 := 6) B [] (ct_X1_newest g J (x := x) (lk := lk) (b := b) (lp := lp) (lr := lr) (lt := lt) (ls := ls) (lm := lm) (so := so) (bxs := bxs) (Ts := Ts) (tcap := tcap) hw1 ) dX1_hasEpoch_3 rfl (rc_at B (ci := 0) rfl (k := 0) rfl) rfl q1120 q1122 qs8 q77 q1123 rfl rfl moX1_newest rfl rfl (by decide) (by decide) (Nat.le_of_ble_eq_true rfl) (Nat.le_of_ble_eq_true rfl) (Nat.le_of_ble_eq_true rfl) (fun _ _ hx => noX_x hx) (fun v3 L1 hp3 => ?_)
  obtain ⟨rfl, rfl⟩ := hp3
  refine (show Go g κ 6 [some (.ref x), some (.int v)] [.int (nI Ts.length - nI 1), .int (nI 0), .int v] [[(x, .inr (0, [.ref b, .ref lp, .ref lk, .ref lr, .ref lt, .ref ls, .ref lm, .ref so, .int (nI bxs)]))], w1] 1 6 from ?_)
  refine g_callS (q := 9) (is := []) (kc2 := 1) (ks2 := 6) B [.int v, .int (nI 0), .int (nI Ts.length - nI 1)] (ct_X1_in g J (v := v) (n := Ts.length)  (by first | assumption | omega | rfl)) dX1_hasEpoch_6 rfl q1965 q1966 q77 q1967 rfl rfl moX1_in rfl rfl (by decide) (by decide) (Nat.le_of_ble_eq_true rfl) (Nat.le_of_ble_eq_true rfl) (Nat.le_of_ble_eq_true rfl) (fun _ _ hx => noX_x hx) (fun v6 L1 hp6 => ?_)
  obtain ⟨rfl, rfl⟩ := hp6
  refine (show Go g κ 9 [some (.ref x), some (.int v)] [.int (nI (if inR v Ts.length = true then 1 else 0))] [[(x, .inr (0, [.ref b, .ref lp, .ref lk, .ref lr, .ref lt, .ref ls, .ref lm, .ref so, .int (nI bxs)]))], w1] 1 6 from ?_)
  refine g_callS (q := 12) (is := []) (kc2 := 0) (ks2 := 0) B [.int (nI (if inR v Ts.length = true then 1 else 0))] (ct_X1_there g J (c := inR v Ts.length = true) (dc := _)  ) dX1_hasEpoch_9 rfl q1968 q1969 q77 q1970 rfl rfl moX1_there rfl rfl (by decide) (by decide) (Nat.le_of_ble_eq_true rfl) (Nat.le_of_ble_eq_true rfl) (Nat.le_of_ble_eq_true rfl) (fun E9 L1 hx9 => ?_) (fun v9 L1 hp9 => ?_)
  · skip
    obtain ⟨rfl, hx9⟩ := hx9
    obtain ⟨rfl, hx9⟩ := hx9
    refine gx_pk [0, 0] rfl rfl ?_
    exact g_out B E tb (by first | exact ⟨rfl, ⟨rfl, hx9⟩⟩ | exact ⟨rfl, ⟨rfl, by simp_all⟩⟩)
  obtain ⟨rfl, rfl, ht_9⟩ := hp9
  refine (show Go g κ 12 [some (.ref x), some (.int v)] [] [[(x, .inr (0, [.ref b, .ref lp, .ref lk, .ref lr, .ref lt, .ref ls, .ref lm, .ref so, .int (nI bxs)]))], w1] 0 0 from ?_)
  obtain ⟨i, hii, rfl⟩ := inR_t ht_9
  refine (show Go g κ 12 [some (.ref x), some (.int (nI i))] [] [[(x, .inr (0, [.ref b, .ref lp, .ref lk, .ref lr, .ref lt, .ref ls, .ref lm, .ref so, .int (nI bxs)]))], w1] 0 0 from ?_)
  exact g_vret B E dX1_hasEpoch_12 (⟨i, rfl, rfl, rfl, hii⟩)
theorem ct_X1_messageWith (g : Gv) (J : Jd g) {x : Nat} {lk : Nat} {b : Nat} {lp : Nat} {lr : Nat} {lt : Nat} {ls : Nat} {lm : Nat} {so : Nat} {bxs : Nat} {Ms : List MsS} {mcap : Nat} {v : Int32} {w1 : va_W} (hw1 : LhP g (MsgP g) lm Ms mcap w1) (hmn : Ms.length < 1000) : Ct g yX1_messageWith (ws_ yX1_messageWith cX1_messageWith 2 (some (.object "Keygrove$Message"))) 9 1 6 [.ref x, .int v] [[(x, .inr (0, [.ref b, .ref lp, .ref lk, .ref lr, .ref lt, .ref ls, .ref lm, .ref so, .int (nI bxs)]))], w1] (fun (rv_ : Option Value) (rL_ : List va_W) => ∃ (i : Nat) (a : Nat) (r : MsS), rv_ = some (.ref a) ∧ rL_ = [[(x, .inr (0, [.ref b, .ref lp, .ref lk, .ref lr, .ref lt, .ref ls, .ref lm, .ref so, .int (nI bxs)]))], w1] ∧ (v = nI i) ∧ (Ms[i]? = some r) ∧ (Sub (MsgP g a r) w1)) (fun (rE_ : String) (rL_ : List va_W) => rL_ = [[(x, .inr (0, [.ref b, .ref lp, .ref lk, .ref lr, .ref lt, .ref ls, .ref lm, .ref so, .int (nI bxs)]))], w1] ∧ ((rE_ = "java/lang/IndexOutOfBoundsException" ∧ (¬ inR v Ms.length = true)))) := by
  refine Ct.of "Keygrove" [some (.ref x), some (.int v)] rfl (by decide) rfl (Nat.le_of_ble_eq_true rfl) rfl ?_
  intro κ B E tb
  refine g_iload_n (q := 1) B dX1_messageWith_0 rfl rfl ?_
  refine g_iconst (v := nI 0) (q := 2) B dX1_messageWith_1 rfl (by decide) ?_
  refine g_aload_n (q := 3) B dX1_messageWith_2 rfl rfl (rv_r _) ?_
  refine g_get (q := 6) B (ci := 0) (k := 0) (j := 6) in_X1 rfl dX1_messageWith_3 rfl rfl (Nat.le_of_ble_eq_true rfl) q284 rfl rfl ?_
  obtain ⟨ps_1, md_1, hli_1, hln_1, hel_1⟩ := LhP.at (Sub.self hw1)
  refine g_callF (q := 11) (is := [1]) (kc2 := 1) (ks2 := 6) B [] (ct_J2_size_s g J (p := lm) (xs := ps_1) (md := md_1) (cap := mcap) (W0 := w1)  (hli_1)) dX1_messageWith_6 rfl (ci := 21) rfl (rc_in B (ci := 21) rfl (k := 1) rfl (LhP.hm hw1)) q315 q319 q321 q81 q323 q317 q316 q322 q320 q318 rfl rfl mojava_util_List_size___I rfl rfl (by decide) (by decide) (Nat.le_of_ble_eq_true rfl) (Nat.le_of_ble_eq_true rfl) (Nat.le_of_ble_eq_true rfl) (fun _ _ hx => noX_x hx) (fun v6 L1 hp6 => ?_)
  obtain ⟨rfl, rfl⟩ := hp6
  refine (show Go g κ 11 [some (.ref x), some (.int v)] [.int (nI ps_1.length), .int (nI 0), .int v] [[(x, .inr (0, [.ref b, .ref lp, .ref lk, .ref lr, .ref lt, .ref ls, .ref lm, .ref so, .int (nI bxs)]))], w1] 1 6 from ?_)
  rw [hln_1.1]
  refine (show Go g κ 11 [some (.ref x), some (.int v)] [.int (nI Ms.length), .int (nI 0), .int v] [[(x, .inr (0, [.ref b, .ref lp, .ref lk, .ref lr, .ref lt, .ref ls, .ref lm, .ref so, .int (nI bxs)]))], w1] 1 6 from ?_)
  refine g_iconst (v := nI 1) (q := 12) B dX1_messageWith_11 rfl (by decide) ?_
  refine g_isub (v := nI Ms.length - nI 1) (q := 13) B dX1_messageWith_12 rfl rfl ?_
  refine g_callS (q := 16) (is := []) (kc2 := 1) (ks2 := 6) B [.int v, .int (nI 0), .int (nI Ms.length - nI 1)] (ct_X1_in g J (v := v) (n := Ms.length)  (by first | assumption | omega | rfl)) dX1_messageWith_13 rfl q1965 q1966 q77 q1967 rfl rfl moX1_in rfl rfl (by decide) (by decide) (Nat.le_of_ble_eq_true rfl) (Nat.le_of_ble_eq_true rfl) (Nat.le_of_ble_eq_true rfl) (fun _ _ hx => noX_x hx) (fun v13 L1 hp13 => ?_)
  obtain ⟨rfl, rfl⟩ := hp13
  refine (show Go g κ 16 [some (.ref x), some (.int v)] [.int (nI (if inR v Ms.length = true then 1 else 0))] [[(x, .inr (0, [.ref b, .ref lp, .ref lk, .ref lr, .ref lt, .ref ls, .ref lm, .ref so, .int (nI bxs)]))], w1] 1 6 from ?_)
  refine g_callS (q := 19) (is := []) (kc2 := 0) (ks2 := 0) B [.int (nI (if inR v Ms.length = true then 1 else 0))] (ct_X1_there g J (c := inR v Ms.length = true) (dc := _)  ) dX1_messageWith_16 rfl q1968 q1969 q77 q1970 rfl rfl moX1_there rfl rfl (by decide) (by decide) (Nat.le_of_ble_eq_true rfl) (Nat.le_of_ble_eq_true rfl) (Nat.le_of_ble_eq_true rfl) (fun E16 L1 hx16 => ?_) (fun v16 L1 hp16 => ?_)
  · skip
    obtain ⟨rfl, hx16⟩ := hx16
    obtain ⟨rfl, hx16⟩ := hx16
    refine gx_pk [0, 0] rfl rfl ?_
    exact g_out B E tb (by first | exact ⟨rfl, ⟨rfl, hx16⟩⟩ | exact ⟨rfl, ⟨rfl, by simp_all⟩⟩)
  obtain ⟨rfl, rfl, ht_16⟩ := hp16
  refine (show Go g κ 19 [some (.ref x), some (.int v)] [] [[(x, .inr (0, [.ref b, .ref lp, .ref lk, .ref lr, .ref lt, .ref ls, .ref lm, .ref so, .int (nI bxs)]))], w1] 0 0 from ?_)
  obtain ⟨i, hii, rfl⟩ := inR_t ht_16
  refine (show Go g κ 19 [some (.ref x), some (.int (nI i))] [] [[(x, .inr (0, [.ref b, .ref lp, .ref lk, .ref lr, .ref lt, .ref ls, .ref lm, .ref so, .int (nI bxs)]))], w1] 0 0 from ?_)
  refine g_aload_n (q := 20) B dX1_messageWith_19 rfl rfl (rv_r _) ?_
  refine g_get (q := 23) B (ci := 0) (k := 0) (j := 6) in_X1 rfl dX1_messageWith_20 rfl rfl (Nat.le_of_ble_eq_true rfl) q284 rfl rfl ?_
  refine g_iload_n (q := 24) B dX1_messageWith_23 rfl rfl ?_
  obtain ⟨r24, hr24⟩ := get_ex (xs := Ms) (i := i) (by omega)
  obtain ⟨x24, hx24⟩ := get_ex (xs := ps_1) (i := i) (by have := get_lt2 hr24; have := hln_1.1; omega)
  have hE_2 := hel_1 _ _ _ hx24 hr24
  refine g_callF (q := 29) (is := [1]) (kc2 := 0) (ks2 := 0) B [.int (nI i)] (ct_J2_get_s g J (p := lm) (xs := ps_1) (md := md_1) (cap := mcap) (i := i) (x := x24) (W0 := w1)  (hli_1) (hx24)) dX1_messageWith_24 rfl (ci := 21) rfl (rc_in B (ci := 21) rfl (k := 1) rfl (LhP.hm hw1)) q1138 q1093 q1095 q81 q1097 q1092 q1091 q1096 q1094 q318 rfl rfl mojava_util_List_get__I_Ljava_lang_Object_ rfl rfl (by decide) (by decide) (Nat.le_of_ble_eq_true rfl) (Nat.le_of_ble_eq_true rfl) (Nat.le_of_ble_eq_true rfl) (fun _ _ hx => noX_x hx) (fun v24 L1 hp24 => ?_)
  obtain ⟨rfl, rfl⟩ := hp24
  refine (show Go g κ 29 [some (.ref x), some (.int (nI i))] [.ref x24] [[(x, .inr (0, [.ref b, .ref lp, .ref lk, .ref lr, .ref lt, .ref ls, .ref lm, .ref so, .int (nI bxs)]))], w1] 0 0 from ?_)
  refine g_castRS (ci := 11) (q := 32) B rfl (rc_in B (ci := 11) rfl (k := 1) rfl (Sub.hm (hE_2) fun _ z => MsgP.hm z)) dX1_messageWith_29 rfl q2868 ?_
  exact g_aret B E dX1_messageWith_32 (by first | exact Or.inl ⟨_, rfl⟩ | exact Or.inr ⟨_, rfl⟩) (rv_r _) (⟨i, x24, r24, rfl, rfl, rfl, hr24, hE_2⟩)
theorem mojava_util_List_isEmpty___Z : Mo ⟨"java/util/List", "isEmpty", "()Z"⟩ 0 := by
  refine ⟨by decide, by decide, by decide +kernel⟩
theorem moX1_tree : Mo yX1_tree 0 := by
  refine ⟨by decide, by decide, by decide +kernel⟩
theorem ct_X1_hasNode (g : Gv) (J : Jd g) {x : Nat} {lk : Nat} {b : Nat} {lp : Nat} {lr : Nat} {lt : Nat} {ls : Nat} {lm : Nat} {so : Nat} {bxs : Nat} {Ts : List TrS} {tcap : Nat} {T : TrS} {v : Int32} {w1 : va_W} (hw1 : LhP g (TreeP g) lt Ts tcap w1) (htn : Ts.length < 1000) (hT : Ts ≠ [] → Ts[Ts.length - 1]? = some T) : Ct g yX1_hasNode (ws_ yX1_hasNode cX1_hasNode 2 none) 9 1 6 [.ref x, .int v] [[(x, .inr (0, [.ref b, .ref lp, .ref lk, .ref lr, .ref lt, .ref ls, .ref lm, .ref so, .int (nI bxs)]))], w1] (fun (rv_ : Option Value) (rL_ : List va_W) => ∃ (i : Nat), rv_ = none ∧ rL_ = [[(x, .inr (0, [.ref b, .ref lp, .ref lk, .ref lr, .ref lt, .ref ls, .ref lm, .ref so, .int (nI bxs)]))], w1] ∧ (v = nI i) ∧ (Ts ≠ []) ∧ (i < 2 * 2 ^ T.1 - 1)) (fun (rE_ : String) (rL_ : List va_W) => rL_ = [[(x, .inr (0, [.ref b, .ref lp, .ref lk, .ref lr, .ref lt, .ref ls, .ref lm, .ref so, .int (nI bxs)]))], w1] ∧ ((rE_ = "java/lang/IndexOutOfBoundsException" ∧ (¬ (Ts ≠ [] ∧ inR v (2 * 2 ^ T.1 - 1) = true))))) := by
  refine Ct.of "Keygrove" [some (.ref x), some (.int v)] rfl (by decide) rfl (Nat.le_of_ble_eq_true rfl) rfl ?_
  intro κ B E tb
  refine g_aload_n (q := 1) B dX1_hasNode_0 rfl rfl (rv_r _) ?_
  refine g_get (q := 4) B (ci := 0) (k := 0) (j := 4) in_X1 rfl dX1_hasNode_1 rfl rfl (Nat.le_of_ble_eq_true rfl) q282 rfl rfl ?_
  obtain ⟨ps_1, md_1, hli_1, hln_1, hel_1⟩ := LhP.at (Sub.self hw1)
  refine g_callF (q := 9) (is := [1]) (kc2 := 1) (ks2 := 6) B [] (ct_J2_isEmpty_s g J (p := lt) (xs := ps_1) (md := md_1) (cap := tcap) (W0 := w1)  (hli_1)) dX1_hasNode_4 rfl (ci := 21) rfl (rc_in B (ci := 21) rfl (k := 1) rfl (LhP.hm hw1)) q1125 q1128 q1130 q81 q1132 q1127 q1126 q1131 q1129 q318 rfl rfl mojava_util_List_isEmpty___Z rfl rfl (by decide) (by decide) (Nat.le_of_ble_eq_true rfl) (Nat.le_of_ble_eq_true rfl) (Nat.le_of_ble_eq_true rfl) (fun _ _ hx => noX_x hx) (fun v4 L1 hp4 => ?_)
  obtain ⟨rfl, rfl⟩ := hp4
  refine (show Go g κ 9 [some (.ref x), some (.int v)] [.int (nI (if ps_1.length = 0 then 1 else 0))] [[(x, .inr (0, [.ref b, .ref lp, .ref lk, .ref lr, .ref lt, .ref ls, .ref lm, .ref so, .int (nI bxs)]))], w1] 1 6 from ?_)
  rw [hln_1.1]
  refine (show Go g κ 9 [some (.ref x), some (.int v)] [.int (nI (if Ts.length = 0 then 1 else 0))] [[(x, .inr (0, [.ref b, .ref lp, .ref lk, .ref lr, .ref lt, .ref ls, .ref lm, .ref so, .int (nI bxs)]))], w1] 1 6 from ?_)
  refine g_if_ne (tgt := 33) (q := 12) B dX1_hasNode_9 rfl (by decide) (bo_ne) (fun c9 => ?_) (fun c9 => ?_)
  · skip
    refine g_iconst (v := nI 0) (q := 34) B dX1_hasNode_33 rfl (by decide) ?_
    refine g_callS (q := 37) (is := []) (kc2 := 0) (ks2 := 0) B [.int (nI 0)] (ct_X1_there g J (c := False) (dc := instDecidableFalse)  ) dX1_hasNode_34 rfl q1968 q1969 q77 q1970 rfl rfl moX1_there rfl rfl (by decide) (by decide) (Nat.le_of_ble_eq_true rfl) (Nat.le_of_ble_eq_true rfl) (Nat.le_of_ble_eq_true rfl) (fun E34 L1 hx34 => ?_) (fun v34 L1 hp34 => ?_)
    · skip
      obtain ⟨rfl, hx34⟩ := hx34
      obtain ⟨rfl, hx34⟩ := hx34
      refine gx_pk [0, 0] rfl rfl ?_
      exact g_out B E tb (by first | exact ⟨rfl, ⟨rfl, hx34⟩⟩ | exact ⟨rfl, ⟨rfl, by rintro ⟨z1, z2⟩; first | exact c26 z2 | exact z1 (List.length_eq_zero_iff.mp c9)⟩⟩ | exact ⟨rfl, ⟨rfl, by simp_all⟩⟩)
    obtain ⟨rfl, rfl, ht_34⟩ := hp34
    exact ht_34.elim
  · skip
    have hne : Ts ≠ [] := fun z => c9 (by rw [z]; rfl)
    have hT1 := hT hne
    refine g_iload_n (q := 13) B dX1_hasNode_12 rfl rfl ?_
    refine g_iconst (v := nI 0) (q := 14) B dX1_hasNode_13 rfl (by decide) ?_
    refine g_aload_n (q := 15) B dX1_hasNode_14 rfl rfl (rv_r _) ?_
    refine g_callV (q := 18) (is := [0, 0]) (kc2 := 1) (ks2 := 6) B [] (ct_X1_tree g J (x := x) (lk := lk) (b := b) (lp := lp) (lr := lr) (lt := lt) (ls := ls) (lm := lm) (so := so) (bxs := bxs) (Ts := Ts) (tcap := tcap) (T := T) hw1 (hT1)) dX1_hasNode_15 rfl (rc_at B (ci := 0) rfl (k := 0) rfl) rfl q1133 q1135 qs9 q77 q1136 rfl rfl moX1_tree rfl rfl (by decide) (by decide) (Nat.le_of_ble_eq_true rfl) (Nat.le_of_ble_eq_true rfl) (Nat.le_of_ble_eq_true rfl) (fun _ _ hx => noX_x hx) (fun v15 L1 hp15 => ?_)
    obtain ⟨t15, rfl, rfl, hE_15⟩ := hp15
    refine (show Go g κ 18 [some (.ref x), some (.int v)] [.ref t15, .int (nI 0), .int v] [[(x, .inr (0, [.ref b, .ref lp, .ref lk, .ref lr, .ref lt, .ref ls, .ref lm, .ref so, .int (nI bxs)]))], w1] 1 6 from ?_)
    have hTB := TreeP.b2 hE_15
    have hp2 := p2_4 hTB.1
    refine g_callV (q := 21) (is := [1]) (kc2 := 1) (ks2 := 6) B [] (ct_X10_nodes_s g J (t := t15) (T := T) (W0 := w1)  (hE_15)) dX1_hasNode_18 rfl (rc_in B (ci := 5) rfl (k := 1) rfl (Sub.hm (hE_15) fun _ z => TreeP.hm z)) rfl q1140 q1141 q1142 q123 q1143 rfl rfl moX10_nodes rfl rfl (by decide) (by decide) (Nat.le_of_ble_eq_true rfl) (Nat.le_of_ble_eq_true rfl) (Nat.le_of_ble_eq_true rfl) (fun _ _ hx => noX_x hx) (fun v18 L1 hp18 => ?_)
    obtain ⟨rfl, rfl⟩ := hp18
    refine (show Go g κ 21 [some (.ref x), some (.int v)] [.int (nI (2 * 2 ^ T.1 - 1)), .int (nI 0), .int v] [[(x, .inr (0, [.ref b, .ref lp, .ref lk, .ref lr, .ref lt, .ref ls, .ref lm, .ref so, .int (nI bxs)]))], w1] 1 6 from ?_)
    refine g_iconst (v := nI 1) (q := 22) B dX1_hasNode_21 rfl (by decide) ?_
    refine g_isub (v := nI (2 * 2 ^ T.1 - 1) - nI 1) (q := 23) B dX1_hasNode_22 rfl rfl ?_
    refine g_callS (q := 26) (is := []) (kc2 := 1) (ks2 := 6) B [.int v, .int (nI 0), .int (nI (2 * 2 ^ T.1 - 1) - nI 1)] (ct_X1_in g J (v := v) (n := 2 * 2 ^ T.1 - 1)  (by omega)) dX1_hasNode_23 rfl q1965 q1966 q77 q1967 rfl rfl moX1_in rfl rfl (by decide) (by decide) (Nat.le_of_ble_eq_true rfl) (Nat.le_of_ble_eq_true rfl) (Nat.le_of_ble_eq_true rfl) (fun _ _ hx => noX_x hx) (fun v23 L1 hp23 => ?_)
    obtain ⟨rfl, rfl⟩ := hp23
    refine (show Go g κ 26 [some (.ref x), some (.int v)] [.int (nI (if inR v (2 * 2 ^ T.1 - 1) = true then 1 else 0))] [[(x, .inr (0, [.ref b, .ref lp, .ref lk, .ref lr, .ref lt, .ref ls, .ref lm, .ref so, .int (nI bxs)]))], w1] 1 6 from ?_)
    refine g_if_eq (tgt := 33) (q := 29) B dX1_hasNode_26 rfl (by decide) (bo_eq) (fun c26 => ?_) (fun c26 => ?_)
    · skip
      refine g_iconst (v := nI 0) (q := 34) B dX1_hasNode_33 rfl (by decide) ?_
      refine g_callS (q := 37) (is := []) (kc2 := 0) (ks2 := 0) B [.int (nI 0)] (ct_X1_there g J (c := False) (dc := instDecidableFalse)  ) dX1_hasNode_34 rfl q1968 q1969 q77 q1970 rfl rfl moX1_there rfl rfl (by decide) (by decide) (Nat.le_of_ble_eq_true rfl) (Nat.le_of_ble_eq_true rfl) (Nat.le_of_ble_eq_true rfl) (fun E34 L1 hx34 => ?_) (fun v34 L1 hp34 => ?_)
      · skip
        obtain ⟨rfl, hx34⟩ := hx34
        obtain ⟨rfl, hx34⟩ := hx34
        refine gx_pk [0, 0] rfl rfl ?_
        exact g_out B E tb (by first | exact ⟨rfl, ⟨rfl, hx34⟩⟩ | exact ⟨rfl, ⟨rfl, by rintro ⟨z1, z2⟩; first | exact c26 z2 | exact z1 (List.length_eq_zero_iff.mp c9)⟩⟩ | exact ⟨rfl, ⟨rfl, by simp_all⟩⟩)
      obtain ⟨rfl, rfl, ht_34⟩ := hp34
      exact ht_34.elim
    · skip
      have c26 := Classical.not_not.mp c26
      refine g_iconst (v := nI 1) (q := 30) B dX1_hasNode_29 rfl (by decide) ?_
      refine g_goto (tgt := 34) B dX1_hasNode_30 (by decide) ?_
      refine g_callS (q := 37) (is := []) (kc2 := 0) (ks2 := 0) B [.int (nI 1)] (ct_X1_there g J (c := True) (dc := instDecidableTrue)  ) dX1_hasNode_34 rfl q1968 q1969 q77 q1970 rfl rfl moX1_there rfl rfl (by decide) (by decide) (Nat.le_of_ble_eq_true rfl) (Nat.le_of_ble_eq_true rfl) (Nat.le_of_ble_eq_true rfl) (fun E34 L1 hx34 => ?_) (fun v34 L1 hp34 => ?_)
      · skip
        obtain ⟨rfl, hx34⟩ := hx34
        obtain ⟨rfl, hx34⟩ := hx34
        exact absurd trivial hx34
      obtain ⟨rfl, rfl, ht_34⟩ := hp34
      refine (show Go g κ 37 [some (.ref x), some (.int v)] [] [[(x, .inr (0, [.ref b, .ref lp, .ref lk, .ref lr, .ref lt, .ref ls, .ref lm, .ref so, .int (nI bxs)]))], w1] 0 0 from ?_)
      obtain ⟨i, hii, rfl⟩ := inR_t c26
      exact g_vret B E dX1_hasNode_37 (⟨i, rfl, rfl, rfl, hne, hii⟩)
theorem lo_s {S : Nat → Bool} {vs : List Nat} {f v : Nat} (hvs : ∀ x, x ∈ vs ↔ S x = true ∧ x < f) (h1 : f ≤ v) (h2 : S v = true) (h3 : ∀ j, f ≤ j → j < v → S j = false) : ∀ x, x ∈ vs ++ [v] ↔ S x = true ∧ x < v + 1 := by
  intro x
  rw [List.mem_append, List.mem_singleton, hvs x]
  constructor
  · rintro (⟨a, b⟩ | h)
    · exact ⟨a, by omega⟩
    · rw [h]; exact ⟨h2, by omega⟩
  · rintro ⟨a, b⟩
    rcases Nat.lt_or_ge x f with z | z
    · exact Or.inl ⟨a, z⟩
    · rcases Nat.lt_or_ge x v with z2 | z2
      · rw [h3 x z z2] at a; cases a
      · exact Or.inr (by omega)
theorem cap5 (n : Nat) : capF n / 5 ≤ capF (n + 1) / 5 ∧ (n = capF n → capF n / 5 + 1 ≤ capF (n + 1) / 5) := by
  refine ⟨Nat.div_le_div_right (capF_mo n), fun h => ?_⟩
  have e : capF (n + 1) = growN (capF n) := by show (if n = capF n then _ else _) = _; rw [if_pos h]
  have h3 := (capF_le n).2.2
  rw [e]
  unfold growN
  split
  · omega
  · have := h3 (by omega); omega
theorem cap5m {n m : Nat} (h : n ≤ m) : capF n / 5 ≤ capF m / 5 := Nat.div_le_div_right (capF_m h)
theorem moJ5_nextSetBit : Mo yJ5_nextSetBit 1 := by
  refine ⟨by decide, by decide, by decide +kernel⟩
theorem ct_X1_listOf (g : Gv) (J : Jd g) {so : Nat} {S : Nat → Bool} {cap : Nat} {n : Nat} {w0 : va_W} (hw0 : SetP g so S cap w0) (hSn : ∀ x, S x = true → x < n) (hn : n ≤ 1000) : Ct g yX1_listOf (ws_ yX1_listOf cX1_listOf 3 (some (.object "java/util/List"))) 8 (1 + n + capF n / 5) (3 + n + 4 * capF n) [.ref so] [w0] (fun (rv_ : Option Value) (rL_ : List va_W) => ∃ (p : Nat) (vs : List Nat) (u1 : va_W), rv_ = some (.ref p) ∧ rL_ = [w0, u1] ∧ LhP g (BxE g) p vs (capF vs.length) u1 ∧ (∀ v, v ∈ vs ↔ S v = true) ∧ (vs.length ≤ n)) noX := by
  refine Ct.of "Keygrove" [some (.ref so), none, none] rfl (by decide) rfl (Nat.le_of_ble_eq_true rfl) rfl ?_
  intro κ B E tb
  refine g_new (q := 3) (kc2 := (1 + n + capF n / 5) - 1) (ks2 := (3 + n + 4 * capF n) - 3) (fs := [.int (nI 0), .null, .int (nI 0)]) B (ci := 21) in_J2 tyJ2_ok rfl dX1_listOf_0 rfl q250 q166 q81 (nwJ2) (by omega) (by omega) (fun n0 => ?_)
  refine (show Go g κ 3 [some (.ref so), none, none] [.ref n0] [w0, [(n0, .inr (21, [.int (nI 0), .null, .int (nI 0)]))]] ((1 + n + capF n / 5) - 1) ((3 + n + 4 * capF n) - 3) from ?_)
  refine g_dup (q := 4) B dX1_listOf_3 rfl rfl ?_
  refine g_callI (q := 7) (is := [1]) (kc2 := (1 + n + capF n / 5) - 1) (ks2 := (3 + n + 4 * capF n) - 3) B [] (ct_J2_init g J (p := n0)  ) dX1_listOf_4 rfl rfl q251 q168 q81 q169 rfl rfl moJ2_init rfl rfl (by decide) (by decide) (Nat.le_of_ble_eq_true rfl) (by omega) (by omega) (fun _ _ hx => noX_x hx) (fun v4 L1 hp4 => ?_)
  obtain ⟨u0_4, rfl, rfl, hu0_4⟩ := hp4
  refine (show Go g κ 7 [some (.ref so), none, none] [.ref n0] [w0, u0_4] ((1 + n + capF n / 5) - 1) ((3 + n + 4 * capF n) - 3) from ?_)
  refine g_astore_n (q := 8) (lv2 := [some (.ref so), some (.ref n0), none]) B dX1_listOf_7 rfl (Nat.le_of_ble_eq_true rfl) (rv_r _) rfl ?_
  have hr_1 : LhP g (BxE g) n0 ([] : List Nat) (capF ([] : List Nat).length) u0_4 := (hu0_4.nilH)
  refine g_aload_n (q := 9) B dX1_listOf_8 rfl rfl (rv_r _) ?_
  refine g_iconst (v := nI 0) (q := 10) B dX1_listOf_9 rfl (by decide) ?_
  refine g_callV (q := 13) (is := [0]) (kc2 := (1 + n + capF n / 5) - 1) (ks2 := (3 + n + 4 * capF n) - 3) B [.int (nI 0)] (ct_J5_nextSetBit g J (b := so) (S := S) (cap := cap) (f := 0) hw0 (by decide)) dX1_listOf_10 rfl (rc_in B (ci := 26) rfl (k := 0) rfl (SetP.hm hw0)) rfl q335 q336 q337 q84 q338 rfl rfl moJ5_nextSetBit rfl rfl (by decide) (by decide) (Nat.le_of_ble_eq_true rfl) (by omega) (by omega) (fun _ _ hx => noX_x hx) (fun v10 L1 hp10 => ?_)
  obtain ⟨r10, rfl, rfl, hr_10⟩ := hp10
  refine (show Go g κ 13 [some (.ref so), some (.ref n0), none] [.int (oI r10)] [u0_4, w0] ((1 + n + capF n / 5) - 1) ((3 + n + 4 * capF n) - 3) from ?_)
  refine g_istore_n (q := 14) (lv2 := [some (.ref so), some (.ref n0), some (.int (oI r10))]) B dX1_listOf_13 rfl (Nat.le_of_ble_eq_true rfl) rfl ?_
  have lp14 : ∀ (n14 : Nat) (f : Nat) (q : Option Nat) (vs : List Nat) (l14_0 : va_W), LhP g (BxE g) n0 vs (capF vs.length) l14_0 → (nxt S f q) → (∀ v, v ∈ vs ↔ S v = true ∧ v < f) → (vs.length ≤ f) → (f ≤ n) → n + 1 - f = n14 → Go g κ 14 [some (.ref so), some (.ref n0), some (.int (oI q))] [] [l14_0, w0] (n - f + (capF n / 5 - capF vs.length / 5)) (n - f + 4 * (capF n - capF vs.length)) := by
    intro n14
    induction n14 using Nat.strongRecOn with
    | _ n14 ih14 =>
    intro f q vs l14_0 hl14_0 hnx hvs hlf hfn hmu14
    have hbd : ∀ m, q = some m → m < 2 ^ 31 := fun m e => by rw [e] at hnx; have := hSn m hnx.2.1; omega
    refine g_iload_n (q := 15) B dX1_listOf_14 rfl rfl ?_
    refine g_if_lt (tgt := 40) (q := 18) B dX1_listOf_15 rfl (by decide) (oI_lt (by assumption)) (fun c15 => ?_) (fun c15 => ?_)
    · skip
      refine g_lvs (lv2 := [some (.ref so), some (.ref n0), some (.int (-1))]) (st2 := []) (by rw [(show oI q = -1 from by rw [c15]; rfl)]) (by first | rfl | rw [(show oI q = -1 from by rw [c15]; rfl)]) ?_
      refine g_aload_n (q := 41) B dX1_listOf_40 rfl rfl (rv_r _) ?_
      refine g_pk [1, 0] rfl rfl ?_
      refine (show Go g κ 41 [some (.ref so), some (.ref n0), some (.int (-1))] [.ref n0] [w0, l14_0] (n - f + (capF n / 5 - capF vs.length / 5)) (n - f + 4 * (capF n - capF vs.length)) from ?_)
      exact g_aret B E dX1_listOf_41 (by first | exact Or.inl ⟨_, rfl⟩ | exact Or.inr ⟨_, rfl⟩) (rv_r _) (⟨n0, vs, l14_0, rfl, rfl, hl14_0, (fun v => by rw [hvs v]; refine ⟨fun h => h.1, fun h => ⟨h, Nat.lt_of_not_le fun z => ?_⟩⟩; rw [c15] at hnx; rw [hnx v z] at h; cases h), (by omega)⟩)
    · skip
      obtain ⟨v15, ev15⟩ := Option.ne_none_iff_exists'.mp c15
      refine g_lvs (lv2 := [some (.ref so), some (.ref n0), some (.int (nI v15))]) (st2 := []) (by rw [(show oI q = nI v15 from by rw [ev15]; rfl)]) (by first | rfl | rw [(show oI q = nI v15 from by rw [ev15]; rfl)]) ?_
      have hn15 : f ≤ v15 ∧ S v15 = true ∧ ∀ j, f ≤ j → j < v15 → S j = false := by rw [ev15] at hnx; exact hnx
      have hvn : v15 + 1 ≤ n := hSn v15 hn15.2.1
      have h5m := cap5m (show vs.length + 1 ≤ n by omega)
      have h5n := cap5 vs.length
      have h5c := capF_m (show vs.length + 1 ≤ n by omega)
      have h5d := capF_mo vs.length
      have h5l : (vs ++ [v15]).length = vs.length + 1 := by simp
      have h5e : capF (vs ++ [v15]).length = capF (vs.length + 1) := by rw [h5l]
      refine g_aload_n (q := 19) B dX1_listOf_18 rfl rfl (rv_r _) ?_
      refine g_iload_n (q := 20) B dX1_listOf_19 rfl rfl ?_
      refine g_callS (q := 23) (is := []) (kc2 := (n - f + (capF n / 5 - capF vs.length / 5)) - 1) (ks2 := (n - f + 4 * (capF n - capF vs.length)) - 1) B [.int (nI v15)] (ct_J26_valueOf g J (v := nI v15)  ) dX1_listOf_20 rfl q685 q686 q111 q687 rfl rfl moJ26_valueOf rfl rfl (by decide) (by decide) (Nat.le_of_ble_eq_true rfl) (by omega) (by omega) (fun _ _ hx => noX_x hx) (fun v20 L1 hp20 => ?_)
      obtain ⟨a20, u0_20, rfl, rfl, hu0_20⟩ := hp20
      refine (show Go g κ 23 [some (.ref so), some (.ref n0), some (.int (nI v15))] [.ref a20, .ref n0] [l14_0, w0, u0_20] ((n - f + (capF n / 5 - capF vs.length / 5)) - 1) ((n - f + 4 * (capF n - capF vs.length)) - 1) from ?_)
      obtain ⟨ps_2, md_2, hli_2, hln_2, hel_2⟩ := LhP.at (Sub.self hl14_0)
      refine g_callF (q := 28) (is := [0, 1]) (kc2 := ((n - f + (capF n / 5 - capF vs.length / 5)) - 1) - (capF (vs.length + 1) / 5 - capF vs.length / 5)) (ks2 := ((n - f + 4 * (capF n - capF vs.length)) - 1) - (4 * (capF (vs.length + 1) - capF vs.length))) B [.ref a20] (ct_add_IlP g J (p := n0) (rs := vs) (cap := (capF vs.length)) (a := a20) (r := v15) (mc := (capF (vs.length + 1) / 5 - capF vs.length / 5)) (ms := (4 * (capF (vs.length + 1) - capF vs.length))) hl14_0 hu0_20 (by have := capF_le vs.length; omega) (fun h => ⟨by have := (cap5 _).2 h; omega, capF_ms _ h⟩)) dX1_listOf_23 rfl (ci := 21) rfl (rc_in B (ci := 21) rfl (k := 0) rfl (LhP.hm hl14_0)) q706 q709 q711 q81 q713 q708 q707 q712 q710 q318 rfl rfl mojava_util_List_add__Ljava_lang_Object__Z rfl rfl (by decide) (by decide) (Nat.le_of_ble_eq_true rfl) (by omega) (by omega) (fun _ _ hx => noX_x hx) (fun v23 L1 hp23 => ?_)
      obtain ⟨u0_23, rfl, rfl, hu0_23⟩ := hp23
      refine (show Go g κ 28 [some (.ref so), some (.ref n0), some (.int (nI v15))] [.int (nI 1)] [w0, u0_23] (((n - f + (capF n / 5 - capF vs.length / 5)) - 1) - (capF (vs.length + 1) / 5 - capF vs.length / 5)) (((n - f + 4 * (capF n - capF vs.length)) - 1) - (4 * (capF (vs.length + 1) - capF vs.length))) from ?_)
      have hr_3 : LhP g (BxE g) n0 (vs ++ [v15]) (capF (vs ++ [v15]).length) u0_23 := by have z := hu0_23; rw [capF_s] at z; rw [h5e]; exact z
      refine g_pop (q := 29) B dX1_listOf_28 rfl rfl ?_
      refine g_aload_n (q := 30) B dX1_listOf_29 rfl rfl (rv_r _) ?_
      refine g_iload_n (q := 31) B dX1_listOf_30 rfl rfl ?_
      refine g_iconst (v := nI 1) (q := 32) B dX1_listOf_31 rfl (by decide) ?_
      refine g_iadd (v := nI (v15 + 1)) (q := 33) B dX1_listOf_32 rfl (nI_add _ _) ?_
      refine g_callV (q := 36) (is := [0]) (kc2 := ((n - f + (capF n / 5 - capF vs.length / 5)) - 1) - (capF (vs.length + 1) / 5 - capF vs.length / 5)) (ks2 := ((n - f + 4 * (capF n - capF vs.length)) - 1) - (4 * (capF (vs.length + 1) - capF vs.length))) B [.int (nI (v15 + 1))] (ct_J5_nextSetBit g J (b := so) (S := S) (cap := cap) (f := v15 + 1) hw0 (by omega)) dX1_listOf_33 rfl (rc_in B (ci := 26) rfl (k := 0) rfl (SetP.hm hw0)) rfl q335 q336 q337 q84 q338 rfl rfl moJ5_nextSetBit rfl rfl (by decide) (by decide) (Nat.le_of_ble_eq_true rfl) (by omega) (by omega) (fun _ _ hx => noX_x hx) (fun v33 L1 hp33 => ?_)
      obtain ⟨r33, rfl, rfl, hr_33⟩ := hp33
      refine (show Go g κ 36 [some (.ref so), some (.ref n0), some (.int (nI v15))] [.int (oI r33)] [u0_23, w0] (((n - f + (capF n / 5 - capF vs.length / 5)) - 1) - (capF (vs.length + 1) / 5 - capF vs.length / 5)) (((n - f + 4 * (capF n - capF vs.length)) - 1) - (4 * (capF (vs.length + 1) - capF vs.length))) from ?_)
      refine g_istore_n (q := 37) (lv2 := [some (.ref so), some (.ref n0), some (.int (oI r33))]) B dX1_listOf_36 rfl (Nat.le_of_ble_eq_true rfl) rfl ?_
      refine g_goto (tgt := 14) B dX1_listOf_37 (by decide) ?_
      refine g_room (kc2 := n - (v15 + 1) + (capF n / 5 - capF (vs ++ [v15]).length / 5)) (ks2 := n - (v15 + 1) + 4 * (capF n - capF (vs ++ [v15]).length)) (by omega) (by omega) ?_
      exact ih14 _ (by omega) (v15 + 1) _ (vs ++ [v15]) u0_23 hr_3 (by assumption) (lo_s hvs hn15.1 hn15.2.1 hn15.2.2) (by rw [List.length_append]; show vs.length + 1 ≤ _; have := hn15.1; omega) (hvn) rfl
  refine g_room (kc2 := n - 0 + (capF n / 5 - capF ([] : List Nat).length / 5)) (ks2 := n - 0 + 4 * (capF n - capF ([] : List Nat).length)) (by omega) (by omega) ?_
  exact lp14 _ 0 _ ([] : List Nat) u0_4 hr_1 (by assumption) (fun v => ⟨(fun h => by cases h), fun h => absurd h.2 (Nat.not_lt_zero v)⟩) (Nat.le_refl _) (Nat.zero_le _) rfl
theorem any_tk {α : Type} {l : List α} {f : α → Bool} {k : Nat} {r : α} (h : l[k]? = some r) : (l.take (k + 1)).any f = ((l.take k).any f || f r) := by rw [List.take_add_one, h]; simp
def rmB (Rs : List PrS) (l : Nat) : Bool := Rs.any fun r => r.1 == 1 && r.2.1 == l
def adP (Ks : List PkS) (p : Nat) (r : PrS) : Bool := r.1 == 0 && (match Ks[r.2.1]? with
  | some q => q.1 == p
  | none => false)
def adB (Ks : List PkS) (Rs : List PrS) (p : Nat) : Bool := Rs.any (adP Ks p)
theorem adP_e {Ks : List PkS} {p : Nat} {r : PrS} {q : PkS} (h0 : r.1 = 0) (hq : Ks[r.2.1]? = some q) : adP Ks p r = (q.1 == p) := by unfold adP; rw [h0, hq]; rfl
theorem adP_n {Ks : List PkS} {p : Nat} {r : PrS} (h0 : r.1 ≠ 0) : adP Ks p r = false := by unfold adP; simp [h0]
theorem nc_526 : Cond.not (.castable "Keygrove$Add" "Keygrove$Remove") ∈ gNc := List.mem_of_getElem? (i := 526) (by decide +kernel)
theorem nc_528 : Cond.not (.castable "Keygrove$Renew" "Keygrove$Remove") ∈ gNc := List.mem_of_getElem? (i := 528) (by decide +kernel)
theorem ct_X1_isToBeRemoved (g : Gv) (J : Jd g) {x : Nat} {lk : Nat} {b : Nat} {lp : Nat} {lr : Nat} {lt : Nat} {ls : Nat} {lm : Nat} {so : Nat} {bxs : Nat} {Rs : List PrS} {rcap : Nat} {pks : List Nat} {l : Nat} {w1 : va_W} (hw1 : PropL g lr Rs rcap pks w1) (hl : l < 1000) (hRl : ∀ r ∈ Rs, r.2.1 < 1000) : Ct g yX1_isToBeRemoved (ws_ yX1_isToBeRemoved cX1_isToBeRemoved 5 (some .boolean)) 4 1 4 [.ref x, .int (nI l)] [[(x, .inr (0, [.ref b, .ref lp, .ref lk, .ref lr, .ref lt, .ref ls, .ref lm, .ref so, .int (nI bxs)]))], w1] (fun (rv_ : Option Value) (rL_ : List va_W) => rv_ = some (.int (nI (if rmB Rs l = true then 1 else 0))) ∧ rL_ = [[(x, .inr (0, [.ref b, .ref lp, .ref lk, .ref lr, .ref lt, .ref ls, .ref lm, .ref so, .int (nI bxs)]))], w1]) noX := by
  refine Ct.of "Keygrove" [some (.ref x), some (.int (nI l)), none, none, none] rfl (by decide) rfl (Nat.le_of_ble_eq_true rfl) rfl ?_
  intro κ B E tb
  refine g_iconst (v := nI 0) (q := 1) B dX1_isToBeRemoved_0 rfl (by decide) ?_
  refine g_istore_n (q := 2) (lv2 := [some (.ref x), some (.int (nI l)), some (.int (nI 0)), none, none]) B dX1_isToBeRemoved_1 rfl (Nat.le_of_ble_eq_true rfl) rfl ?_
  refine g_aload_n (q := 3) B dX1_isToBeRemoved_2 rfl rfl (rv_r _) ?_
  refine g_get (q := 6) B (ci := 0) (k := 0) (j := 3) in_X1 rfl dX1_isToBeRemoved_3 rfl rfl (Nat.le_of_ble_eq_true rfl) q280 rfl rfl ?_
  obtain ⟨ps_1, md_1, hli_1, hln_1, hel_1⟩ := LhP.at (Sub.self hw1)
  refine g_callF (q := 11) (is := [1]) (kc2 := 0) (ks2 := 0) B [] (ct_J2_iterator_s g J (p := lr) (xs := ps_1) (md := md_1) (cap := rcap) (W0 := w1)  (hli_1)) dX1_isToBeRemoved_6 rfl (ci := 21) rfl (rc_in B (ci := 21) rfl (k := 1) rfl (PropL.hm hw1)) q1153 q1156 q805 q81 q807 q1155 q1154 q806 q804 q318 rfl rfl mojava_util_List_iterator___Ljava_util_Iterator_ rfl rfl (by decide) (by decide) (Nat.le_of_ble_eq_true rfl) (Nat.le_of_ble_eq_true rfl) (Nat.le_of_ble_eq_true rfl) (fun _ _ hx => noX_x hx) (fun v6 L1 hp6 => ?_)
  obtain ⟨it6, rfl, rfl⟩ := hp6
  refine (show Go g κ 11 [some (.ref x), some (.int (nI l)), some (.int (nI 0)), none, none] [.ref it6] [[(x, .inr (0, [.ref b, .ref lp, .ref lk, .ref lr, .ref lt, .ref ls, .ref lm, .ref so, .int (nI bxs)]))], [(it6, .inr (22, [.int (nI 0), .int (-1), .int md_1, .ref lr]))], w1] 0 0 from ?_)
  refine g_astore_n (q := 12) (lv2 := [some (.ref x), some (.int (nI l)), some (.int (nI 0)), some (.ref it6), none]) B dX1_isToBeRemoved_11 rfl (Nat.le_of_ble_eq_true rfl) (rv_r _) rfl ?_
  have lp12 : ∀ (n12 : Nat) (k : Nat) (lrt : Int32) (is : Bool) , (k ≤ Rs.length) → (is = (Rs.take k).any (fun r => r.1 == 1 && r.2.1 == l)) → Rs.length - k = n12 → Go g κ 12 [some (.ref x), some (.int (nI l)), some (.int (nI (if is = true then 1 else 0))), some (.ref it6), none] [] [[(x, .inr (0, [.ref b, .ref lp, .ref lk, .ref lr, .ref lt, .ref ls, .ref lm, .ref so, .int (nI bxs)]))], [(it6, .inr (22, [.int (nI k), .int lrt, .int md_1, .ref lr]))], w1] 0 0 := by
    intro n12
    induction n12 using Nat.strongRecOn with
    | _ n12 ih12 =>
    intro k lrt is  hk his hmu12
    refine g_aload_n (q := 13) B dX1_isToBeRemoved_12 rfl rfl (rv_r _) ?_
    refine g_callF (q := 18) (is := [1, 1]) (kc2 := 0) (ks2 := 0) B [] (ct_J19_hasNext_s g J (p := lr) (xs := ps_1) (md := md_1) (cap := rcap) (it := it6) (c := k) (lr := lrt) (W1 := w1)  (hli_1) (by have := hln_1.1; omega)) dX1_isToBeRemoved_13 rfl (ci := 22) rfl (rc_at B (ci := 22) rfl (k := 1) rfl) q1158 q940 q942 q104 q944 q938 q937 q943 q941 q939 rfl rfl mojava_util_Iterator_hasNext___Z rfl rfl (by decide) (by decide) (Nat.le_of_ble_eq_true rfl) (Nat.le_of_ble_eq_true rfl) (Nat.le_of_ble_eq_true rfl) (fun _ _ hx => noX_x hx) (fun v13 L1 hp13 => ?_)
    obtain ⟨rfl, rfl⟩ := hp13
    refine (show Go g κ 18 [some (.ref x), some (.int (nI l)), some (.int (nI (if is = true then 1 else 0))), some (.ref it6), none] [.int (nI (if ¬ k = ps_1.length then 1 else 0))] [[(x, .inr (0, [.ref b, .ref lp, .ref lk, .ref lr, .ref lt, .ref ls, .ref lm, .ref so, .int (nI bxs)]))], [(it6, .inr (22, [.int (nI k), .int lrt, .int md_1, .ref lr]))], w1] 0 0 from ?_)
    rw [hln_1.1]
    refine (show Go g κ 18 [some (.ref x), some (.int (nI l)), some (.int (nI (if is = true then 1 else 0))), some (.ref it6), none] [.int (nI (if ¬ k = Rs.length then 1 else 0))] [[(x, .inr (0, [.ref b, .ref lp, .ref lk, .ref lr, .ref lt, .ref ls, .ref lm, .ref so, .int (nI bxs)]))], [(it6, .inr (22, [.int (nI k), .int lrt, .int md_1, .ref lr]))], w1] 0 0 from ?_)
    refine g_if_eq (tgt := 65) (q := 21) B dX1_isToBeRemoved_18 rfl (by decide) (bo_eq) (fun c18 => ?_) (fun c18 => ?_)
    · skip
      refine g_iload_n (q := 66) B dX1_isToBeRemoved_65 rfl rfl ?_
      refine g_pk [0, 1] rfl rfl ?_
      refine (show Go g κ 66 [some (.ref x), some (.int (nI l)), some (.int (nI (if is = true then 1 else 0))), some (.ref it6), none] [.int (nI (if is = true then 1 else 0))] [[(x, .inr (0, [.ref b, .ref lp, .ref lk, .ref lr, .ref lt, .ref ls, .ref lm, .ref so, .int (nI bxs)]))], w1] 0 0 from ?_)
      exact g_zret B E dX1_isToBeRemoved_66 (by split <;> decide) (⟨by unfold rmB; rw [his, show k = Rs.length by omega, List.take_length], rfl⟩)
    · skip
      have c18 := Classical.not_not.mp c18
      refine g_aload_n (q := 22) B dX1_isToBeRemoved_21 rfl rfl (rv_r _) ?_
      obtain ⟨r22, hr22⟩ := get_ex (xs := Rs) (i := k) (by omega)
      obtain ⟨x22, hx22⟩ := get_ex (xs := ps_1) (i := k) (by have := get_lt2 hr22; have := hln_1.1; omega)
      have hE_2 := hel_1 _ _ _ hx22 hr22
      refine g_callF (q := 27) (is := [1, 1]) (kc2 := 0) (ks2 := 0) B [] (ct_J19_next_s g J (p := lr) (xs := ps_1) (md := md_1) (cap := rcap) (it := it6) (c := k) (lr := lrt) (x := x22) (W1 := w1)  (hli_1) (hx22)) dX1_isToBeRemoved_22 rfl (ci := 22) rfl (rc_at B (ci := 22) rfl (k := 1) rfl) q1160 q967 q969 q104 q971 q966 q965 q970 q968 q939 rfl rfl mojava_util_Iterator_next___Ljava_lang_Object_ rfl rfl (by decide) (by decide) (Nat.le_of_ble_eq_true rfl) (Nat.le_of_ble_eq_true rfl) (Nat.le_of_ble_eq_true rfl) (fun _ _ hx => noX_x hx) (fun v22 L1 hp22 => ?_)
      obtain ⟨rfl, rfl⟩ := hp22
      refine (show Go g κ 27 [some (.ref x), some (.int (nI l)), some (.int (nI (if is = true then 1 else 0))), some (.ref it6), none] [.ref x22] [[(x, .inr (0, [.ref b, .ref lp, .ref lk, .ref lr, .ref lt, .ref ls, .ref lm, .ref so, .int (nI bxs)]))], [(it6, .inr (22, [.int (nI (k + 1)), .int (nI k), .int md_1, .ref lr]))], w1] 0 0 from ?_)
      rcases (PropP.at (show Sub (PropP g pks x22 r22) _ from hE_2)) with ⟨hkd, kp, hkp, hcp⟩ | ⟨hkd, hcp⟩ | ⟨hkd, hcp⟩
      · skip
        refine g_castR (q := 30) B (rc_in B (ci := 8) rfl (k := 2) rfl ⟨_, hcp⟩) dX1_isToBeRemoved_27 rfl q2391 q3673 ?_
        refine g_astore (q := 32) (lv2 := [some (.ref x), some (.int (nI l)), some (.int (nI (if is = true then 1 else 0))), some (.ref it6), some (.ref x22)]) B dX1_isToBeRemoved_30 rfl (Nat.le_of_ble_eq_true rfl) (rv_r _) rfl ?_
        refine g_iload_n (q := 33) B dX1_isToBeRemoved_32 rfl rfl ?_
        refine g_if_ne (tgt := 56) (q := 36) B dX1_isToBeRemoved_33 rfl (by decide) (bo_ne) (fun c33 => ?_) (fun c33 => ?_)
        · skip
          refine g_iconst (v := nI 1) (q := 57) B dX1_isToBeRemoved_56 rfl (by decide) ?_
          refine g_goto (tgt := 61) B dX1_isToBeRemoved_57 (by decide) ?_
          refine g_istore_n (q := 62) (lv2 := [some (.ref x), some (.int (nI l)), some (.int (nI 1)), some (.ref it6), some (.ref x22)]) B dX1_isToBeRemoved_61 rfl (Nat.le_of_ble_eq_true rfl) rfl ?_
          refine g_goto (tgt := 12) B dX1_isToBeRemoved_62 (by decide) ?_
          refine g_fg 4 rfl ?_
          exact ih12 _ (by have := get_lt2 hr22; omega) (k + 1) (nI k) true (by first | assumption | omega | rfl) (by rw [any_tk hr22, ← his, show is = true from c33]; rfl) rfl
        · skip
          refine g_aload (q := 38) B dX1_isToBeRemoved_36 rfl rfl (rv_r _) ?_
          refine g_instRNo (q := 41) B (rc_in B (ci := 8) rfl (k := 2) rfl ⟨_, hcp⟩) dX1_isToBeRemoved_38 rfl q2421 nc_526 ?_
          refine g_if_eq (tgt := 60) (q := 44) B dX1_isToBeRemoved_41 rfl (by decide) (iff_true_intro (by decide)) (fun _ => ?_) (fun z => absurd trivial z)
          refine g_iconst (v := nI 0) (q := 61) B dX1_isToBeRemoved_60 rfl (by decide) ?_
          refine g_istore_n (q := 62) (lv2 := [some (.ref x), some (.int (nI l)), some (.int (nI 0)), some (.ref it6), some (.ref x22)]) B dX1_isToBeRemoved_61 rfl (Nat.le_of_ble_eq_true rfl) rfl ?_
          refine g_goto (tgt := 12) B dX1_isToBeRemoved_62 (by decide) ?_
          refine g_fg 4 rfl ?_
          exact ih12 _ (by have := get_lt2 hr22; omega) (k + 1) (nI k) false (by first | assumption | omega | rfl) (by rw [any_tk hr22, ← his, show is = false by simpa using c33, hkd]; rfl) rfl
      · skip
        refine g_castR (q := 30) B (rc_in B (ci := 9) rfl (k := 2) rfl ⟨_, hcp⟩) dX1_isToBeRemoved_27 rfl q2391 q3674 ?_
        refine g_astore (q := 32) (lv2 := [some (.ref x), some (.int (nI l)), some (.int (nI (if is = true then 1 else 0))), some (.ref it6), some (.ref x22)]) B dX1_isToBeRemoved_30 rfl (Nat.le_of_ble_eq_true rfl) (rv_r _) rfl ?_
        refine g_iload_n (q := 33) B dX1_isToBeRemoved_32 rfl rfl ?_
        refine g_if_ne (tgt := 56) (q := 36) B dX1_isToBeRemoved_33 rfl (by decide) (bo_ne) (fun c33 => ?_) (fun c33 => ?_)
        · skip
          refine g_iconst (v := nI 1) (q := 57) B dX1_isToBeRemoved_56 rfl (by decide) ?_
          refine g_goto (tgt := 61) B dX1_isToBeRemoved_57 (by decide) ?_
          refine g_istore_n (q := 62) (lv2 := [some (.ref x), some (.int (nI l)), some (.int (nI 1)), some (.ref it6), some (.ref x22)]) B dX1_isToBeRemoved_61 rfl (Nat.le_of_ble_eq_true rfl) rfl ?_
          refine g_goto (tgt := 12) B dX1_isToBeRemoved_62 (by decide) ?_
          refine g_fg 4 rfl ?_
          exact ih12 _ (by have := get_lt2 hr22; omega) (k + 1) (nI k) true (by first | assumption | omega | rfl) (by rw [any_tk hr22, ← his, show is = true from c33]; rfl) rfl
        · skip
          refine g_aload (q := 38) B dX1_isToBeRemoved_36 rfl rfl (rv_r _) ?_
          refine g_instRS (ci := 9) (q := 41) B rfl (rc_in B (ci := 9) rfl (k := 2) rfl ⟨_, hcp⟩) dX1_isToBeRemoved_38 rfl q2421 ?_
          refine g_if_eq (tgt := 60) (q := 44) B dX1_isToBeRemoved_41 rfl (by decide) (iff_false_intro (by decide)) (fun z => z.elim) (fun _ => ?_)
          refine g_aload (q := 46) B dX1_isToBeRemoved_44 rfl rfl (rv_r _) ?_
          refine g_castRS (ci := 9) (q := 49) B rfl (rc_in B (ci := 9) rfl (k := 2) rfl ⟨_, hcp⟩) dX1_isToBeRemoved_46 rfl q2421 ?_
          refine g_getNM (q := 52) B (ci := 9) (k := 2) (j := 0) in_X18 rfl dX1_isToBeRemoved_49 rfl rfl (hcp) (Nat.le_of_ble_eq_true rfl) q2428 rfl rfl ?_
          refine g_iload_n (q := 53) B dX1_isToBeRemoved_52 rfl rfl ?_
          have hrb := hRl r22 (List.mem_of_getElem? hr22)
          refine g_icmp_ne (tgt := 60) (q := 56) B dX1_isToBeRemoved_53 rfl (by decide) (not_congr (nI_eq (by omega) (by omega))) (fun c53 => ?_) (fun c53 => ?_)
          · skip
            refine g_iconst (v := nI 0) (q := 61) B dX1_isToBeRemoved_60 rfl (by decide) ?_
            refine g_istore_n (q := 62) (lv2 := [some (.ref x), some (.int (nI l)), some (.int (nI 0)), some (.ref it6), some (.ref x22)]) B dX1_isToBeRemoved_61 rfl (Nat.le_of_ble_eq_true rfl) rfl ?_
            refine g_goto (tgt := 12) B dX1_isToBeRemoved_62 (by decide) ?_
            refine g_fg 4 rfl ?_
            exact ih12 _ (by have := get_lt2 hr22; omega) (k + 1) (nI k) false (by first | assumption | omega | rfl) (by rw [any_tk hr22, ← his, show is = false by simpa using c33, hkd]; simp [c53]) rfl
          · skip
            refine g_iconst (v := nI 1) (q := 57) B dX1_isToBeRemoved_56 rfl (by decide) ?_
            refine g_goto (tgt := 61) B dX1_isToBeRemoved_57 (by decide) ?_
            refine g_istore_n (q := 62) (lv2 := [some (.ref x), some (.int (nI l)), some (.int (nI 1)), some (.ref it6), some (.ref x22)]) B dX1_isToBeRemoved_61 rfl (Nat.le_of_ble_eq_true rfl) rfl ?_
            refine g_goto (tgt := 12) B dX1_isToBeRemoved_62 (by decide) ?_
            refine g_fg 4 rfl ?_
            exact ih12 _ (by have := get_lt2 hr22; omega) (k + 1) (nI k) true (by first | assumption | omega | rfl) (by rw [any_tk hr22, ← his, show is = false by simpa using c33, hkd]; simp [Classical.not_not.mp c53]) rfl
      · skip
        refine g_castR (q := 30) B (rc_in B (ci := 10) rfl (k := 2) rfl ⟨_, hcp⟩) dX1_isToBeRemoved_27 rfl q2391 q3675 ?_
        refine g_astore (q := 32) (lv2 := [some (.ref x), some (.int (nI l)), some (.int (nI (if is = true then 1 else 0))), some (.ref it6), some (.ref x22)]) B dX1_isToBeRemoved_30 rfl (Nat.le_of_ble_eq_true rfl) (rv_r _) rfl ?_
        refine g_iload_n (q := 33) B dX1_isToBeRemoved_32 rfl rfl ?_
        refine g_if_ne (tgt := 56) (q := 36) B dX1_isToBeRemoved_33 rfl (by decide) (bo_ne) (fun c33 => ?_) (fun c33 => ?_)
        · skip
          refine g_iconst (v := nI 1) (q := 57) B dX1_isToBeRemoved_56 rfl (by decide) ?_
          refine g_goto (tgt := 61) B dX1_isToBeRemoved_57 (by decide) ?_
          refine g_istore_n (q := 62) (lv2 := [some (.ref x), some (.int (nI l)), some (.int (nI 1)), some (.ref it6), some (.ref x22)]) B dX1_isToBeRemoved_61 rfl (Nat.le_of_ble_eq_true rfl) rfl ?_
          refine g_goto (tgt := 12) B dX1_isToBeRemoved_62 (by decide) ?_
          refine g_fg 4 rfl ?_
          exact ih12 _ (by have := get_lt2 hr22; omega) (k + 1) (nI k) true (by first | assumption | omega | rfl) (by rw [any_tk hr22, ← his, show is = true from c33]; rfl) rfl
        · skip
          refine g_aload (q := 38) B dX1_isToBeRemoved_36 rfl rfl (rv_r _) ?_
          refine g_instRNo (q := 41) B (rc_in B (ci := 10) rfl (k := 2) rfl ⟨_, hcp⟩) dX1_isToBeRemoved_38 rfl q2421 nc_528 ?_
          refine g_if_eq (tgt := 60) (q := 44) B dX1_isToBeRemoved_41 rfl (by decide) (iff_true_intro (by decide)) (fun _ => ?_) (fun z => absurd trivial z)
          refine g_iconst (v := nI 0) (q := 61) B dX1_isToBeRemoved_60 rfl (by decide) ?_
          refine g_istore_n (q := 62) (lv2 := [some (.ref x), some (.int (nI l)), some (.int (nI 0)), some (.ref it6), some (.ref x22)]) B dX1_isToBeRemoved_61 rfl (Nat.le_of_ble_eq_true rfl) rfl ?_
          refine g_goto (tgt := 12) B dX1_isToBeRemoved_62 (by decide) ?_
          refine g_fg 4 rfl ?_
          exact ih12 _ (by have := get_lt2 hr22; omega) (k + 1) (nI k) false (by first | assumption | omega | rfl) (by rw [any_tk hr22, ← his, show is = false by simpa using c33, hkd]; rfl) rfl
  exact lp12 _ 0 (-1) false (Nat.zero_le _) (rfl) rfl
theorem nc_478 : Cond.not (.castable "Keygrove$Remove" "Keygrove$Add") ∈ gNc := List.mem_of_getElem? (i := 478) (by decide +kernel)
theorem nc_479 : Cond.not (.castable "Keygrove$Renew" "Keygrove$Add") ∈ gNc := List.mem_of_getElem? (i := 479) (by decide +kernel)
theorem ct_X1_isToBeAdded (g : Gv) (J : Jd g) {x : Nat} {lk : Nat} {b : Nat} {lp : Nat} {lr : Nat} {lt : Nat} {ls : Nat} {lm : Nat} {so : Nat} {bxs : Nat} {Rs : List PrS} {rcap : Nat} {pks : List Nat} {Ks : List PkS} {kcap : Nat} {p : Nat} {w1 : va_W} {w2 : va_W} (hw1 : PropL g lr Rs rcap pks w1) (hw2 : LoP g (PackP g) lk pks Ks kcap w2) (hp : p < 1000) : Ct g yX1_isToBeAdded (ws_ yX1_isToBeAdded cX1_isToBeAdded 5 (some .boolean)) 4 1 4 [.ref x, .int (nI p)] [[(x, .inr (0, [.ref b, .ref lp, .ref lk, .ref lr, .ref lt, .ref ls, .ref lm, .ref so, .int (nI bxs)]))], w1, w2] (fun (rv_ : Option Value) (rL_ : List va_W) => rv_ = some (.int (nI (if adB Ks Rs p = true then 1 else 0))) ∧ rL_ = [[(x, .inr (0, [.ref b, .ref lp, .ref lk, .ref lr, .ref lt, .ref ls, .ref lm, .ref so, .int (nI bxs)]))], w1, w2]) noX := by
  refine Ct.of "Keygrove" [some (.ref x), some (.int (nI p)), none, none, none] rfl (by decide) rfl (Nat.le_of_ble_eq_true rfl) rfl ?_
  intro κ B E tb
  refine g_iconst (v := nI 0) (q := 1) B dX1_isToBeAdded_0 rfl (by decide) ?_
  refine g_istore_n (q := 2) (lv2 := [some (.ref x), some (.int (nI p)), some (.int (nI 0)), none, none]) B dX1_isToBeAdded_1 rfl (Nat.le_of_ble_eq_true rfl) rfl ?_
  refine g_aload_n (q := 3) B dX1_isToBeAdded_2 rfl rfl (rv_r _) ?_
  refine g_get (q := 6) B (ci := 0) (k := 0) (j := 3) in_X1 rfl dX1_isToBeAdded_3 rfl rfl (Nat.le_of_ble_eq_true rfl) q280 rfl rfl ?_
  obtain ⟨ps_1, md_1, hli_1, hln_1, hel_1⟩ := LhP.at (Sub.self hw1)
  refine g_callF (q := 11) (is := [1]) (kc2 := 0) (ks2 := 0) B [] (ct_J2_iterator_s g J (p := lr) (xs := ps_1) (md := md_1) (cap := rcap) (W0 := w1)  (hli_1)) dX1_isToBeAdded_6 rfl (ci := 21) rfl (rc_in B (ci := 21) rfl (k := 1) rfl (PropL.hm hw1)) q1153 q1156 q805 q81 q807 q1155 q1154 q806 q804 q318 rfl rfl mojava_util_List_iterator___Ljava_util_Iterator_ rfl rfl (by decide) (by decide) (Nat.le_of_ble_eq_true rfl) (Nat.le_of_ble_eq_true rfl) (Nat.le_of_ble_eq_true rfl) (fun _ _ hx => noX_x hx) (fun v6 L1 hp6 => ?_)
  obtain ⟨it6, rfl, rfl⟩ := hp6
  refine (show Go g κ 11 [some (.ref x), some (.int (nI p)), some (.int (nI 0)), none, none] [.ref it6] [[(x, .inr (0, [.ref b, .ref lp, .ref lk, .ref lr, .ref lt, .ref ls, .ref lm, .ref so, .int (nI bxs)]))], w2, [(it6, .inr (22, [.int (nI 0), .int (-1), .int md_1, .ref lr]))], w1] 0 0 from ?_)
  refine g_astore_n (q := 12) (lv2 := [some (.ref x), some (.int (nI p)), some (.int (nI 0)), some (.ref it6), none]) B dX1_isToBeAdded_11 rfl (Nat.le_of_ble_eq_true rfl) (rv_r _) rfl ?_
  have lp12 : ∀ (n12 : Nat) (k : Nat) (lrt : Int32) (is : Bool) , (k ≤ Rs.length) → (is = (Rs.take k).any (adP Ks p)) → Rs.length - k = n12 → Go g κ 12 [some (.ref x), some (.int (nI p)), some (.int (nI (if is = true then 1 else 0))), some (.ref it6), none] [] [[(x, .inr (0, [.ref b, .ref lp, .ref lk, .ref lr, .ref lt, .ref ls, .ref lm, .ref so, .int (nI bxs)]))], w2, [(it6, .inr (22, [.int (nI k), .int lrt, .int md_1, .ref lr]))], w1] 0 0 := by
    intro n12
    induction n12 using Nat.strongRecOn with
    | _ n12 ih12 =>
    intro k lrt is  hk his hmu12
    refine g_aload_n (q := 13) B dX1_isToBeAdded_12 rfl rfl (rv_r _) ?_
    refine g_callF (q := 18) (is := [2, 2]) (kc2 := 0) (ks2 := 0) B [] (ct_J19_hasNext_s g J (p := lr) (xs := ps_1) (md := md_1) (cap := rcap) (it := it6) (c := k) (lr := lrt) (W1 := w1)  (hli_1) (by have := hln_1.1; omega)) dX1_isToBeAdded_13 rfl (ci := 22) rfl (rc_at B (ci := 22) rfl (k := 2) rfl) q1158 q940 q942 q104 q944 q938 q937 q943 q941 q939 rfl rfl mojava_util_Iterator_hasNext___Z rfl rfl (by decide) (by decide) (Nat.le_of_ble_eq_true rfl) (Nat.le_of_ble_eq_true rfl) (Nat.le_of_ble_eq_true rfl) (fun _ _ hx => noX_x hx) (fun v13 L1 hp13 => ?_)
    obtain ⟨rfl, rfl⟩ := hp13
    refine (show Go g κ 18 [some (.ref x), some (.int (nI p)), some (.int (nI (if is = true then 1 else 0))), some (.ref it6), none] [.int (nI (if ¬ k = ps_1.length then 1 else 0))] [[(x, .inr (0, [.ref b, .ref lp, .ref lk, .ref lr, .ref lt, .ref ls, .ref lm, .ref so, .int (nI bxs)]))], w2, [(it6, .inr (22, [.int (nI k), .int lrt, .int md_1, .ref lr]))], w1] 0 0 from ?_)
    rw [hln_1.1]
    refine (show Go g κ 18 [some (.ref x), some (.int (nI p)), some (.int (nI (if is = true then 1 else 0))), some (.ref it6), none] [.int (nI (if ¬ k = Rs.length then 1 else 0))] [[(x, .inr (0, [.ref b, .ref lp, .ref lk, .ref lr, .ref lt, .ref ls, .ref lm, .ref so, .int (nI bxs)]))], w2, [(it6, .inr (22, [.int (nI k), .int lrt, .int md_1, .ref lr]))], w1] 0 0 from ?_)
    refine g_if_eq (tgt := 68) (q := 21) B dX1_isToBeAdded_18 rfl (by decide) (bo_eq) (fun c18 => ?_) (fun c18 => ?_)
    · skip
      refine g_iload_n (q := 69) B dX1_isToBeAdded_68 rfl rfl ?_
      refine g_pk [0, 2, 0] rfl rfl ?_
      refine (show Go g κ 69 [some (.ref x), some (.int (nI p)), some (.int (nI (if is = true then 1 else 0))), some (.ref it6), none] [.int (nI (if is = true then 1 else 0))] [[(x, .inr (0, [.ref b, .ref lp, .ref lk, .ref lr, .ref lt, .ref ls, .ref lm, .ref so, .int (nI bxs)]))], w1, w2] 0 0 from ?_)
      exact g_zret B E dX1_isToBeAdded_69 (by split <;> decide) (⟨by unfold adB; rw [his, show k = Rs.length by omega, List.take_length], rfl⟩)
    · skip
      have c18 := Classical.not_not.mp c18
      refine g_aload_n (q := 22) B dX1_isToBeAdded_21 rfl rfl (rv_r _) ?_
      obtain ⟨r22, hr22⟩ := get_ex (xs := Rs) (i := k) (by omega)
      obtain ⟨x22, hx22⟩ := get_ex (xs := ps_1) (i := k) (by have := get_lt2 hr22; have := hln_1.1; omega)
      have hE_2 := hel_1 _ _ _ hx22 hr22
      refine g_callF (q := 27) (is := [2, 2]) (kc2 := 0) (ks2 := 0) B [] (ct_J19_next_s g J (p := lr) (xs := ps_1) (md := md_1) (cap := rcap) (it := it6) (c := k) (lr := lrt) (x := x22) (W1 := w1)  (hli_1) (hx22)) dX1_isToBeAdded_22 rfl (ci := 22) rfl (rc_at B (ci := 22) rfl (k := 2) rfl) q1160 q967 q969 q104 q971 q966 q965 q970 q968 q939 rfl rfl mojava_util_Iterator_next___Ljava_lang_Object_ rfl rfl (by decide) (by decide) (Nat.le_of_ble_eq_true rfl) (Nat.le_of_ble_eq_true rfl) (Nat.le_of_ble_eq_true rfl) (fun _ _ hx => noX_x hx) (fun v22 L1 hp22 => ?_)
      obtain ⟨rfl, rfl⟩ := hp22
      refine (show Go g κ 27 [some (.ref x), some (.int (nI p)), some (.int (nI (if is = true then 1 else 0))), some (.ref it6), none] [.ref x22] [[(x, .inr (0, [.ref b, .ref lp, .ref lk, .ref lr, .ref lt, .ref ls, .ref lm, .ref so, .int (nI bxs)]))], w2, [(it6, .inr (22, [.int (nI (k + 1)), .int (nI k), .int md_1, .ref lr]))], w1] 0 0 from ?_)
      rcases (PropP.at (show Sub (PropP g pks x22 r22) _ from hE_2)) with ⟨hkd, kp, hkp, hcp⟩ | ⟨hkd, hcp⟩ | ⟨hkd, hcp⟩
      · skip
        refine g_castR (q := 30) B (rc_in B (ci := 8) rfl (k := 3) rfl ⟨_, hcp⟩) dX1_isToBeAdded_27 rfl q2391 q3673 ?_
        refine g_astore (q := 32) (lv2 := [some (.ref x), some (.int (nI p)), some (.int (nI (if is = true then 1 else 0))), some (.ref it6), some (.ref x22)]) B dX1_isToBeAdded_30 rfl (Nat.le_of_ble_eq_true rfl) (rv_r _) rfl ?_
        refine g_iload_n (q := 33) B dX1_isToBeAdded_32 rfl rfl ?_
        refine g_if_ne (tgt := 59) (q := 36) B dX1_isToBeAdded_33 rfl (by decide) (bo_ne) (fun c33 => ?_) (fun c33 => ?_)
        · skip
          refine g_iconst (v := nI 1) (q := 60) B dX1_isToBeAdded_59 rfl (by decide) ?_
          refine g_goto (tgt := 64) B dX1_isToBeAdded_60 (by decide) ?_
          refine g_istore_n (q := 65) (lv2 := [some (.ref x), some (.int (nI p)), some (.int (nI 1)), some (.ref it6), some (.ref x22)]) B dX1_isToBeAdded_64 rfl (Nat.le_of_ble_eq_true rfl) rfl ?_
          refine g_goto (tgt := 12) B dX1_isToBeAdded_65 (by decide) ?_
          refine g_fg 4 rfl ?_
          exact ih12 _ (by have := get_lt2 hr22; omega) (k + 1) (nI k) true (by first | assumption | omega | rfl) (by rw [any_tk hr22, ← his, show is = true from c33]; rfl) rfl
        · skip
          refine g_aload (q := 38) B dX1_isToBeAdded_36 rfl rfl (rv_r _) ?_
          refine g_instRS (ci := 8) (q := 41) B rfl (rc_in B (ci := 8) rfl (k := 3) rfl ⟨_, hcp⟩) dX1_isToBeAdded_38 rfl q2392 ?_
          refine g_if_eq (tgt := 63) (q := 44) B dX1_isToBeAdded_41 rfl (by decide) (iff_false_intro (by decide)) (fun z => z.elim) (fun _ => ?_)
          refine g_aload (q := 46) B dX1_isToBeAdded_44 rfl rfl (rv_r _) ?_
          refine g_castRS (ci := 8) (q := 49) B rfl (rc_in B (ci := 8) rfl (k := 3) rfl ⟨_, hcp⟩) dX1_isToBeAdded_46 rfl q2392 ?_
          refine g_getNM (q := 52) B (ci := 8) (k := 3) (j := 0) in_X16 rfl dX1_isToBeAdded_49 rfl rfl (hcp) (Nat.le_of_ble_eq_true rfl) q2402 rfl rfl ?_
          obtain ⟨md_3, hli_3, hln_3, hel_3⟩ := LoP.at (Sub.self hw2)
          obtain ⟨q22, hq22⟩ := get_ex (xs := Ks) (i := r22.2.1) (by have := get_lt2 hkp; have := hln_3.1; omega)
          have hE_4 := hel_3 _ _ _ hkp hq22
          have hqb := (PackP.at (hE_4)).1
          have hqb1 := hqb.1
          obtain ⟨hK_5, hc_5_0⟩ := PackP.at (hE_4)
          refine g_getNM (q := 55) B (ci := 4) (k := 1) (j := 0) in_X7 rfl dX1_isToBeAdded_52 rfl rfl (hc_5_0) (Nat.le_of_ble_eq_true rfl) q1988 rfl rfl ?_
          refine g_iload_n (q := 56) B dX1_isToBeAdded_55 rfl rfl ?_
          refine g_icmp_ne (tgt := 63) (q := 59) B dX1_isToBeAdded_56 rfl (by decide) (not_congr (nI_eq (by omega) (by omega))) (fun c56 => ?_) (fun c56 => ?_)
          · skip
            refine g_iconst (v := nI 0) (q := 64) B dX1_isToBeAdded_63 rfl (by decide) ?_
            refine g_istore_n (q := 65) (lv2 := [some (.ref x), some (.int (nI p)), some (.int (nI 0)), some (.ref it6), some (.ref x22)]) B dX1_isToBeAdded_64 rfl (Nat.le_of_ble_eq_true rfl) rfl ?_
            refine g_goto (tgt := 12) B dX1_isToBeAdded_65 (by decide) ?_
            refine g_fg 4 rfl ?_
            exact ih12 _ (by have := get_lt2 hr22; omega) (k + 1) (nI k) false (by first | assumption | omega | rfl) (by rw [any_tk hr22, ← his, show is = false by simpa using c33, adP_e hkd hq22]; simp [c56]) rfl
          · skip
            refine g_iconst (v := nI 1) (q := 60) B dX1_isToBeAdded_59 rfl (by decide) ?_
            refine g_goto (tgt := 64) B dX1_isToBeAdded_60 (by decide) ?_
            refine g_istore_n (q := 65) (lv2 := [some (.ref x), some (.int (nI p)), some (.int (nI 1)), some (.ref it6), some (.ref x22)]) B dX1_isToBeAdded_64 rfl (Nat.le_of_ble_eq_true rfl) rfl ?_
            refine g_goto (tgt := 12) B dX1_isToBeAdded_65 (by decide) ?_
            refine g_fg 4 rfl ?_
            exact ih12 _ (by have := get_lt2 hr22; omega) (k + 1) (nI k) true (by first | assumption | omega | rfl) (by rw [any_tk hr22, ← his, show is = false by simpa using c33, adP_e hkd hq22]; simp [Classical.not_not.mp c56]) rfl
      · skip
        refine g_castR (q := 30) B (rc_in B (ci := 9) rfl (k := 3) rfl ⟨_, hcp⟩) dX1_isToBeAdded_27 rfl q2391 q3674 ?_
        refine g_astore (q := 32) (lv2 := [some (.ref x), some (.int (nI p)), some (.int (nI (if is = true then 1 else 0))), some (.ref it6), some (.ref x22)]) B dX1_isToBeAdded_30 rfl (Nat.le_of_ble_eq_true rfl) (rv_r _) rfl ?_
        refine g_iload_n (q := 33) B dX1_isToBeAdded_32 rfl rfl ?_
        refine g_if_ne (tgt := 59) (q := 36) B dX1_isToBeAdded_33 rfl (by decide) (bo_ne) (fun c33 => ?_) (fun c33 => ?_)
        · skip
          refine g_iconst (v := nI 1) (q := 60) B dX1_isToBeAdded_59 rfl (by decide) ?_
          refine g_goto (tgt := 64) B dX1_isToBeAdded_60 (by decide) ?_
          refine g_istore_n (q := 65) (lv2 := [some (.ref x), some (.int (nI p)), some (.int (nI 1)), some (.ref it6), some (.ref x22)]) B dX1_isToBeAdded_64 rfl (Nat.le_of_ble_eq_true rfl) rfl ?_
          refine g_goto (tgt := 12) B dX1_isToBeAdded_65 (by decide) ?_
          refine g_fg 4 rfl ?_
          exact ih12 _ (by have := get_lt2 hr22; omega) (k + 1) (nI k) true (by first | assumption | omega | rfl) (by rw [any_tk hr22, ← his, show is = true from c33]; rfl) rfl
        · skip
          refine g_aload (q := 38) B dX1_isToBeAdded_36 rfl rfl (rv_r _) ?_
          refine g_instRNo (q := 41) B (rc_in B (ci := 9) rfl (k := 3) rfl ⟨_, hcp⟩) dX1_isToBeAdded_38 rfl q2392 nc_478 ?_
          refine g_if_eq (tgt := 63) (q := 44) B dX1_isToBeAdded_41 rfl (by decide) (iff_true_intro (by decide)) (fun _ => ?_) (fun z => absurd trivial z)
          refine g_iconst (v := nI 0) (q := 64) B dX1_isToBeAdded_63 rfl (by decide) ?_
          refine g_istore_n (q := 65) (lv2 := [some (.ref x), some (.int (nI p)), some (.int (nI 0)), some (.ref it6), some (.ref x22)]) B dX1_isToBeAdded_64 rfl (Nat.le_of_ble_eq_true rfl) rfl ?_
          refine g_goto (tgt := 12) B dX1_isToBeAdded_65 (by decide) ?_
          refine g_fg 4 rfl ?_
          exact ih12 _ (by have := get_lt2 hr22; omega) (k + 1) (nI k) false (by first | assumption | omega | rfl) (by rw [any_tk hr22, ← his, show is = false by simpa using c33, adP_n (by rw [hkd]; decide)]; rfl) rfl
      · skip
        refine g_castR (q := 30) B (rc_in B (ci := 10) rfl (k := 3) rfl ⟨_, hcp⟩) dX1_isToBeAdded_27 rfl q2391 q3675 ?_
        refine g_astore (q := 32) (lv2 := [some (.ref x), some (.int (nI p)), some (.int (nI (if is = true then 1 else 0))), some (.ref it6), some (.ref x22)]) B dX1_isToBeAdded_30 rfl (Nat.le_of_ble_eq_true rfl) (rv_r _) rfl ?_
        refine g_iload_n (q := 33) B dX1_isToBeAdded_32 rfl rfl ?_
        refine g_if_ne (tgt := 59) (q := 36) B dX1_isToBeAdded_33 rfl (by decide) (bo_ne) (fun c33 => ?_) (fun c33 => ?_)
        · skip
          refine g_iconst (v := nI 1) (q := 60) B dX1_isToBeAdded_59 rfl (by decide) ?_
          refine g_goto (tgt := 64) B dX1_isToBeAdded_60 (by decide) ?_
          refine g_istore_n (q := 65) (lv2 := [some (.ref x), some (.int (nI p)), some (.int (nI 1)), some (.ref it6), some (.ref x22)]) B dX1_isToBeAdded_64 rfl (Nat.le_of_ble_eq_true rfl) rfl ?_
          refine g_goto (tgt := 12) B dX1_isToBeAdded_65 (by decide) ?_
          refine g_fg 4 rfl ?_
          exact ih12 _ (by have := get_lt2 hr22; omega) (k + 1) (nI k) true (by first | assumption | omega | rfl) (by rw [any_tk hr22, ← his, show is = true from c33]; rfl) rfl
        · skip
          refine g_aload (q := 38) B dX1_isToBeAdded_36 rfl rfl (rv_r _) ?_
          refine g_instRNo (q := 41) B (rc_in B (ci := 10) rfl (k := 3) rfl ⟨_, hcp⟩) dX1_isToBeAdded_38 rfl q2392 nc_479 ?_
          refine g_if_eq (tgt := 63) (q := 44) B dX1_isToBeAdded_41 rfl (by decide) (iff_true_intro (by decide)) (fun _ => ?_) (fun z => absurd trivial z)
          refine g_iconst (v := nI 0) (q := 64) B dX1_isToBeAdded_63 rfl (by decide) ?_
          refine g_istore_n (q := 65) (lv2 := [some (.ref x), some (.int (nI p)), some (.int (nI 0)), some (.ref it6), some (.ref x22)]) B dX1_isToBeAdded_64 rfl (Nat.le_of_ble_eq_true rfl) rfl ?_
          refine g_goto (tgt := 12) B dX1_isToBeAdded_65 (by decide) ?_
          refine g_fg 4 rfl ?_
          exact ih12 _ (by have := get_lt2 hr22; omega) (k + 1) (nI k) false (by first | assumption | omega | rfl) (by rw [any_tk hr22, ← his, show is = false by simpa using c33, adP_n (by rw [hkd]; decide)]; rfl) rfl
  exact lp12 _ 0 (-1) false (Nat.zero_le _) (rfl) rfl
