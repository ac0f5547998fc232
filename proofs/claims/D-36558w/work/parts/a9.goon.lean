set_option maxRecDepth 100000
theorem nodup_fl {f : Nat → va_W} : ∀ n, (((List.range n).map f).flatten.map (·.1)).Nodup → ∀ i j, i < j → j < n → ∀ x ∈ f i, ∀ y ∈ f j, x.1 ≠ y.1
  | 0, _, i, j, _, hj, _, _, _, _ => absurd hj (Nat.not_lt_zero j)
  | n + 1, h, i, j, hij, hj, x, hx, y, hy => by
    rw [List.range_succ, List.map_append, List.flatten_append, List.map_append, List.nodup_append] at h
    rcases Nat.lt_or_ge j n with z | z
    · exact nodup_fl n h.1 i j hij z x hx y hy
    · have e : j = n := by omega
      subst e
      refine h.2.2 x.1 (List.mem_map.mpr ⟨x, List.mem_flatten.mpr ⟨f i, List.mem_map.mpr ⟨i, List.mem_range.mpr hij, rfl⟩, hx⟩, rfl⟩) y.1 (List.mem_map.mpr ⟨y, by simpa using hy, rfl⟩)
theorem LoP.nd {g : Gv} {α : Type} {F : Nat → α → va_W → Prop} {p : Nat} {ps : List Nat} {rs : List α} {cap : Nat} {w : va_W} (h : LoP g F p ps rs cap w) (hF : ∀ a r v, F a r v → ∃ e, (a, e) ∈ v) (hn : (w.map (·.1)).Nodup) : ps.Nodup := by
  obtain ⟨md, w1, w2, -, ⟨hl, wk, h1, rfl⟩, rfl⟩ := h
  rw [List.flatten_cons, List.flatten_cons, List.flatten_nil, List.append_nil, List.map_append, List.nodup_append] at hn
  have hk := nodup_fl _ hn.2.1
  refine List.pairwise_iff_getElem.mpr fun i j hi hj hij e => ?_
  obtain ⟨ri, hri⟩ := get_ex (xs := rs) (i := i) (by omega)
  obtain ⟨rj, hrj⟩ := get_ex (xs := rs) (i := j) (by omega)
  obtain ⟨ei, hei⟩ := hF _ _ _ (h1 i hi _ _ (List.getElem?_eq_getElem hi) hri)
  obtain ⟨ej, hej⟩ := hF _ _ _ (h1 j hj _ _ (List.getElem?_eq_getElem hj) hrj)
  exact hk i j hij hj _ hei _ hej e
theorem g_nd {g : Gv} {κ : Kx} {pc : Nat} {lv : List (Option Value)} {st : List Value} {L : List va_W} {kc ks : Nat} {α : Type} {F : Nat → α → va_W → Prop} {p : Nat} {ps : List Nat} {rs : List α} {cap : Nat} {w : va_W} {Lr : List va_W} (k : Nat) (hx : xt L [k] = ([w], Lr)) (h : LoP g F p ps rs cap w) (hF : ∀ a r v, F a r v → ∃ e, (a, e) ∈ v) (kk : ps.Nodup → Go g κ pc lv st L kc ks) : Go g κ pc lv st L kc ks := by
  obtain ⟨p, l, e, R, s, m, args, below, meth, c, A, mc, ms, Q⟩ := κ
  intro H locs cells slots ls h1 h2 h3 h4 h5
  refine kk (h.nd hF ?_) H locs cells slots ls h1 h2 h3 h4 h5
  have h6 := (cd_iff.mp (h4.xt hx).left.2).1
  rw [List.flatten_cons, List.flatten_nil, List.append_nil] at h6
  exact h6
theorem plc_idx {pks : List Nat} (hn : pks.Nodup) {kk pa : Nat} (hk : pks[kk]? = some pa) : ∀ (ids plc : List Nat), Plc pks ids plc → plc.idxOf pa = ids.idxOf kk
  | [], [], _ => rfl
  | [], a :: t, h => by cases h
  | i :: t, [], h => by cases h
  | i :: t, a :: u, h => by
    unfold Plc at h
    rw [List.map_cons, List.map_cons, List.cons.injEq] at h
    have ih := plc_idx hn hk t u h.2
    have e : (a == pa) = (i == kk) := by
      rw [Bool.eq_iff_iff, beq_iff_eq, beq_iff_eq]
      constructor
      · intro z
        subst z
        have h1 := h.1.symm
        obtain ⟨l1, e1⟩ := List.getElem?_eq_some_iff.mp h1
        obtain ⟨l2, e2⟩ := List.getElem?_eq_some_iff.mp hk
        have hp := List.pairwise_iff_getElem.mp hn
        rcases Nat.lt_trichotomy i kk with z | z | z
        · exact absurd (e1.trans e2.symm) (hp i kk l1 l2 z)
        · exact z
        · exact absurd (e2.trans e1.symm) (hp kk i l2 l1 z)
      · intro z
        subst z
        rw [hk] at h
        exact Option.some.inj h.1
    rw [List.idxOf_cons, List.idxOf_cons, e, ih]
/-- a renewal is carried out -/
def rnN (T : TrS) (r : PeS) (own : Nat) : Nat → Option Nat := if T.2.1 (2 * own) = pRn r ∧ pRn r ≠ none then fup (pNd r) (2 * own) (pRn r) else pNd r
theorem rnN_b {Ks : List PkS} {T : TrS} {r : PeS} {own B : Nat} (h : ∀ x, helP Ks r x → x < B) : ∀ n x, rnN T r own n = some x → x < B := by
  intro n x hx
  unfold rnN at hx
  split at hx
  · unfold fup at hx
    split at hx
    · exact h x (Or.inr (Or.inr (Or.inr hx)))
    · exact h x (Or.inr (Or.inl ⟨n, hx⟩))
  · exact h x (Or.inr (Or.inl ⟨n, hx⟩))
theorem nw_le {e n : Nat} (he : e < 2 ^ 31) (hn : n < 2 ^ 31) : nI n - nI 1 ≤ nI e ↔ ¬ e + 1 < n := by
  rw [← Int32.not_lt, Int32.lt_iff_toInt_lt, hi_ti hn, nI_ti he]; omega
theorem ct_X1_climbs_s (g : Gv) (J : Jd g) {x : Nat} {lk : Nat} {b : Nat} {lp : Nat} {lr : Nat} {lt : Nat} {ls : Nat} {lm : Nat} {so : Nat} {bxs : Nat} {a : Nat} {pks : List Nat} {r : PeS} {ss : List Sec} {bx : List (Nat × Nat)} {z : Int32} {t : Nat} {T : TrS} {l : Nat} {fm : Nat} {sec : Nat} {TA : Nat} {w1 : va_W} {w2 : va_W} {W3 : va_W} (hw1 : BookP g b ss bx z w1) (hw2 : PersP g a x pks r w2) (hS3 : Sub (TreeP g t T) W3) (hl : l < 2 ^ T.1) (hfm : fm < 31) (hsc : ∀ k, k ≤ T.1 → (clmK T l fm ((ss, sec, false, pNd r) : CmS) k).2.1 < (clmK T l fm ((ss, sec, false, pNd r) : CmS) k).1.length) (hfl : (clmK T l fm ((ss, sec, false, pNd r) : CmS) T.1).1.length ≤ 990) (hTA : PhS (clmK T l fm ((ss, sec, false, pNd r) : CmS) T.1).1 ≤ TA) : Ct g yX1_climbs (ws_ yX1_climbs cX1_climbs 11 (some .int)) 14 (200 + 13 * (TA - PhS ss)) (1300 + 55 * (TA - PhS ss)) [.ref x, .ref a, .ref t, .int (nI l), .int (nI fm), .int (nI sec)] [[(x, .inr (0, [.ref b, .ref lp, .ref lk, .ref lr, .ref lt, .ref ls, .ref lm, .ref so, .int (nI bxs)]))], w1, w2, W3] (fun (rv_ : Option Value) (rL_ : List va_W) => ∃ (u1 : va_W) (u2 : va_W), rv_ = some (.int (nI ((clmK T l fm ((ss, sec, false, pNd r) : CmS) T.1).2.1))) ∧ rL_ = [[(x, .inr (0, [.ref b, .ref lp, .ref lk, .ref lr, .ref lt, .ref ls, .ref lm, .ref so, .int (nI bxs)]))], u1, u2, W3] ∧ BookP g b ((clmK T l fm ((ss, sec, false, pNd r) : CmS) T.1).1) bx z u1 ∧ PersP g a x pks ((pNo r, pEv r, pPk r, pEp r, pLf r, (clmK T l fm ((ss, sec, false, pNd r) : CmS) T.1).2.2.2, pOn r, pKy r, pCh r, pRn r) : PeS) u2) noX := by
  obtain ⟨w_, R_, hp_, hw_⟩ := hS3
  refine Ct.lift (ct_X1_climbs g J (x := x) (lk := lk) (b := b) (lp := lp) (lr := lr) (lt := lt) (ls := ls) (lm := lm) (so := so) (bxs := bxs) (a := a) (pks := pks) (r := r) (ss := ss) (bx := bx) (z := z) (t := t) (T := T) (l := l) (fm := fm) (sec := sec) (TA := TA) hw1 hw2 hw_ hl hfm hsc hfl hTA) [R_] ?_ ?_
  · refine sub_in 3 rfl hp_ rfl
  · rintro v L ⟨u1, u2, e1, rfl, hu1, hu2⟩
    exact ⟨_, [], sub_out 3 rfl hp_ rfl, ⟨u1, u2, e1, rfl, hu1, hu2⟩⟩
theorem ct_X1_climbs_s_L (g : Gv) (J : Jd g) {pps : List Nat} {Ps : List PeS} {pcp : Nat} {ix : Nat} {pmd : Int32} {x : Nat} {lk : Nat} {b : Nat} {lp : Nat} {lr : Nat} {lt : Nat} {ls : Nat} {lm : Nat} {so : Nat} {bxs : Nat} {a : Nat} {pks : List Nat} {r : PeS} {ss : List Sec} {bx : List (Nat × Nat)} {z : Int32} {t : Nat} {T : TrS} {l : Nat} {fm : Nat} {sec : Nat} {TA : Nat} {w1 : va_W} {w2 : va_W} {W3 : va_W} (hw1 : BookP g b ss bx z w1) (hw2 : PersL g lp pps Ps pcp x pks pmd w2) (ha : pps[ix]? = some a) (hr : Ps[ix]? = some r) (hS3 : Sub (TreeP g t T) W3) (hl : l < 2 ^ T.1) (hfm : fm < 31) (hsc : ∀ k, k ≤ T.1 → (clmK T l fm ((ss, sec, false, pNd r) : CmS) k).2.1 < (clmK T l fm ((ss, sec, false, pNd r) : CmS) k).1.length) (hfl : (clmK T l fm ((ss, sec, false, pNd r) : CmS) T.1).1.length ≤ 990) (hTA : PhS (clmK T l fm ((ss, sec, false, pNd r) : CmS) T.1).1 ≤ TA) : Ct g yX1_climbs (ws_ yX1_climbs cX1_climbs 11 (some .int)) 14 (200 + 13 * (TA - PhS ss)) (1300 + 55 * (TA - PhS ss)) [.ref x, .ref a, .ref t, .int (nI l), .int (nI fm), .int (nI sec)] [[(x, .inr (0, [.ref b, .ref lp, .ref lk, .ref lr, .ref lt, .ref ls, .ref lm, .ref so, .int (nI bxs)]))], w1, w2, W3] (fun (rv_ : Option Value) (rL_ : List va_W) => ∃ (u1 : va_W) (u2 : va_W), rv_ = some (.int (nI ((clmK T l fm ((ss, sec, false, pNd r) : CmS) T.1).2.1))) ∧ rL_ = [[(x, .inr (0, [.ref b, .ref lp, .ref lk, .ref lr, .ref lt, .ref ls, .ref lm, .ref so, .int (nI bxs)]))], u1, u2, W3] ∧ BookP g b ((clmK T l fm ((ss, sec, false, pNd r) : CmS) T.1).1) bx z u1 ∧ PersL g lp pps (Ps.set ix ((pNo r, pEv r, pPk r, pEp r, pLf r, (clmK T l fm ((ss, sec, false, pNd r) : CmS) T.1).2.2.2, pOn r, pKy r, pCh r, pRn r) : PeS)) pcp x pks pmd u2) noX := by
  obtain ⟨u1_, wi_, u2_, hwi_, hcl_, he_⟩ := PersL.opn hw2 ha hr
  subst he_
  refine Ct.lift (ct_X1_climbs_s g J (x := x) (lk := lk) (b := b) (lp := lp) (lr := lr) (lt := lt) (ls := ls) (lm := lm) (so := so) (bxs := bxs) (a := a) (pks := pks) (r := r) (ss := ss) (bx := bx) (z := z) (t := t) (T := T) (l := l) (fm := fm) (sec := sec) (TA := TA) hw1 hwi_ hS3 hl hfm hsc hfl hTA) [u1_, u2_] (perm_cnt fun ct h h0 => by simp only [List.flatten_cons, List.flatten_nil, List.flatten_append, h, h0]; omega) ?_
  rintro v L ⟨z1_, z2_, e1, rfl, hz1_, hz2_⟩
  exact ⟨[[(x, .inr (0, [.ref b, .ref lp, .ref lk, .ref lr, .ref lt, .ref ls, .ref lm, .ref so, .int (nI bxs)]))], z1_, ([u1_, z2_, u2_] : List va_W).flatten, W3], [], (perm_cnt fun ct h h0 => by simp only [List.flatten_cons, List.flatten_nil, List.flatten_append, h, h0]; omega), z1_, ([u1_, z2_, u2_] : List va_W).flatten, e1, rfl, hz1_, hcl_ _ _ hz2_⟩
theorem ct_X1_meeting_s (g : Gv) (J : Jd g) {t : Nat} {T : TrS} {l : Nat} {o : Nat} {W0 : va_W} (hS0 : Sub (TreeP g t T) W0) (hl : l < 2 ^ T.1) (ho : o < 16) : Ct g yX1_meeting (ws_ yX1_meeting cX1_meeting 6 (some .int)) 8 3 17 [.ref t, .int (nI l), .int (nI o)] [W0] (fun (rv_ : Option Value) (rL_ : List va_W) => rv_ = some (.int (oI (mtg T l o))) ∧ rL_ = [W0]) noX := by
  obtain ⟨w_, R_, hp_, hw_⟩ := hS0
  refine Ct.lift (ct_X1_meeting g J (t := t) (T := T) (l := l) (o := o) hw_ hl ho) [R_] ?_ ?_
  · refine sub_in 0 rfl hp_ rfl
  · rintro v L ⟨e1, rfl⟩
    exact ⟨_, [], sub_out 0 rfl hp_ rfl, ⟨e1, rfl⟩⟩
theorem ct_X1_goOn_x (g : Gv) (J : Jd g) {x : Nat} {C : KsS} {v : Int32} {w0 : va_W} (hw0 : KgP g x C w0) (hC : KsB C) (hno : ¬ (inR v (zPs C).length = true ∧ ∃ (i : Nat) (r : PeS) (e : Nat), v = nI i ∧ (zPs C)[i]? = some r ∧ pEp r = some e ∧ e + 1 < (zTs C).length)) : Ct g yX1_goOn (ws_ yX1_goOn cX1_goOn 12 (some .char)) 17 10 60 [.ref x, .int v] [w0] (fun (rv_ : Option Value) (rL_ : List va_W) => ∃ (u0 : va_W), rv_ = some (.int 0) ∧ rL_ = [u0] ∧ KgP g x C u0 ∧ (False)) (fun (rE_ : String) (rL_ : List va_W) => rL_ = [w0] ∧ ((rE_ = "java/lang/IndexOutOfBoundsException" ∧ (¬ inR v (zPs C).length = true)) ∨ (rE_ = "java/lang/UnsupportedOperationException" ∧ (∃ (i : Nat) (r : PeS), v = nI i ∧ (zPs C)[i]? = some r ∧ ¬ (∃ e, pEp r = some e ∧ e + 1 < (zTs C).length))))) := by
  refine Ct.of "Keygrove" [some (.ref x), some (.int v), none, none, none, none, none, none, none, none, none, none] rfl (by decide) rfl (Nat.le_of_ble_eq_true rfl) rfl ?_
  intro κ B E tb
  have hC0 := hC
  obtain ⟨hc1, hc2, hc3, hc4, hc5, hc6, hc7, hc8, hc9, hc10, hc11⟩ := hC0
  obtain ⟨b, lp, lk, lr, lt, ls, lm, so, pcap, kcap, rcap, tcap, scap, mcap, socap, ps, pks, pmd, v0, v1, v2, v3, v4, v5, v6, v7, hcap, hv0, hv1, hv2, hv3, hv4, hv5, hv6, hv7, rfl⟩ := hw0
  refine g_open 0 rfl rfl rfl ?_
  refine (show Go g κ 0 [some (.ref x), some (.int v), none, none, none, none, none, none, none, none, none, none] [] [[(x, .inr (0, [.ref b, .ref lp, .ref lk, .ref lr, .ref lt, .ref ls, .ref lm, .ref so, .int (nI (zBn C))]))], v0, v1, v2, v3, v4, v5, v6, v7] 10 60 from ?_)
  refine g_aload_n (q := 1) B dX1_goOn_0 rfl rfl (rv_r _) ?_
  refine g_iload_n (q := 2) B dX1_goOn_1 rfl rfl ?_
  refine g_callV (q := 5) (is := [0, 1]) (kc2 := 9) (ks2 := 54) B [.int v] (ct_X1_personWith g J (x := x) (lk := lk) (b := b) (lp := lp) (lr := lr) (lt := lt) (ls := ls) (lm := lm) (so := so) (bxs := zBn C) (ps := ps) (Ps := (zPs C)) (pcap := pcap) (pks := pks) (pmd := pmd) (v := v) hv1 (by first | assumption | omega | rfl)) dX1_goOn_2 rfl (rc_at B (ci := 0) rfl (k := 0) rfl) rfl q1961 q1963 qs15 q77 q1964 rfl rfl moX1_personWith rfl rfl (by decide) (by decide) (Nat.le_of_ble_eq_true rfl) (Nat.le_of_ble_eq_true rfl) (Nat.le_of_ble_eq_true rfl) (fun E2 L1 hx2 => ?_) (fun v2 L1 hp2 => ?_)
  · skip
    obtain ⟨rfl, hx2⟩ := hx2
    obtain ⟨rfl, hx2⟩ := hx2
    refine gx_cl [7, 0, 6, 0, 0, 0, 0, 0, 0] rfl ?_
    exact g_out B E tb (by first | exact ⟨rfl, Or.inl ⟨rfl, hx2⟩⟩ | exact ⟨rfl, Or.inl ⟨rfl, by simp_all⟩⟩)
  obtain ⟨i2, a2, r2, rfl, rfl, hv_2, ha_2, hr_2⟩ := hp2
  refine (show Go g κ 5 [some (.ref x), some (.int v), none, none, none, none, none, none, none, none, none, none] [.ref a2] [v0, v2, v3, v4, v5, v6, v7, [(x, .inr (0, [.ref b, .ref lp, .ref lk, .ref lr, .ref lt, .ref ls, .ref lm, .ref so, .int (nI (zBn C))]))], v1] 9 54 from ?_)
  subst hv_2
  obtain ⟨hli_1, hln_1, hel_1⟩ := PersL.at (Sub.self hv1)
  have hE_2 := hel_1 _ _ _ ha_2 hr_2
  refine (show Go g κ 5 [some (.ref x), some (.int (nI i2)), none, none, none, none, none, none, none, none, none, none] [.ref a2] [v0, v2, v3, v4, v5, v6, v7, [(x, .inr (0, [.ref b, .ref lp, .ref lk, .ref lr, .ref lt, .ref ls, .ref lm, .ref so, .int (nI (zBn C))]))], v1] 9 54 from ?_)
  obtain ⟨kc1, kc2, kc3, kc4, kc5, kc6, kc7⟩ := (show capB pcap kcap rcap tcap scap mcap socap from hcap)
  have hPB := pLf_b (hE_2)
  have hlf16 := hPB.2.1
  refine g_astore_n (q := 6) (lv2 := [some (.ref x), some (.int (nI i2)), some (.ref a2), none, none, none, none, none, none, none, none, none]) B dX1_goOn_5 rfl (Nat.le_of_ble_eq_true rfl) (rv_r _) rfl ?_
  refine g_aload_n (q := 7) B dX1_goOn_6 rfl rfl (rv_r _) ?_
  refine g_callV (q := 10) (is := [8]) (kc2 := 9) (ks2 := 54) B [] (ct_X4_isIn_s g J (a := a2) (x := x) (pks := pks) (r := r2) (W0 := v1)  (hE_2)) dX1_goOn_7 rfl (rc_in B (ci := 2) rfl (k := 8) rfl (Sub.hm (hE_2) fun _ z => PersP.hm z)) rfl q1211 q1207 q1208 q90 q1209 rfl rfl moX4_isIn rfl rfl (by decide) (by decide) (Nat.le_of_ble_eq_true rfl) (Nat.le_of_ble_eq_true rfl) (Nat.le_of_ble_eq_true rfl) (fun _ _ hx => noX_x hx) (fun v7 L1 hp7 => ?_)
  obtain ⟨rfl, rfl⟩ := hp7
  refine (show Go g κ 10 [some (.ref x), some (.int (nI i2)), some (.ref a2), none, none, none, none, none, none, none, none, none] [.int (nI (if ¬ pEp r2 = none then 1 else 0))] [v0, v2, v3, v4, v5, v6, v7, [(x, .inr (0, [.ref b, .ref lp, .ref lk, .ref lr, .ref lt, .ref ls, .ref lm, .ref so, .int (nI (zBn C))]))], v1] 9 54 from ?_)
  refine g_if_eq (tgt := 28) (q := 13) B dX1_goOn_10 rfl (by decide) (bo_eq) (fun c10 => ?_) (fun c10 => ?_)
  · skip
    refine g_iconst (v := nI 0) (q := 29) B dX1_goOn_28 rfl (by decide) ?_
    refine g_callS (q := 32) (is := []) (kc2 := 8) (ks2 := 48) B [.int (nI 0)] (ct_X1_can g J (c := False) (dc := instDecidableFalse)  ) dX1_goOn_29 rfl q2331 q2332 q77 q2333 rfl rfl moX1_can rfl rfl (by decide) (by decide) (Nat.le_of_ble_eq_true rfl) (Nat.le_of_ble_eq_true rfl) (Nat.le_of_ble_eq_true rfl) (fun E29 L1 hx29 => ?_) (fun v29 L1 hp29 => ?_)
    · skip
      obtain ⟨rfl, hx29⟩ := hx29
      obtain ⟨rfl, hx29⟩ := hx29
      refine gx_cl [7, 0, 6, 0, 0, 0, 0, 0, 0] rfl ?_
      exact g_out B E tb (by first | exact ⟨rfl, Or.inr (⟨rfl, hx29⟩)⟩ | exact ⟨rfl, Or.inr (⟨rfl, ⟨i2, r2, rfl, hr_2, by rintro ⟨e1, z1, z2⟩; first | (rw [Classical.not_not.mp c10] at z1; cases z1) | (rw [he] at z1; cases z1; exact c21 z2)⟩⟩)⟩ | exact ⟨rfl, Or.inr (⟨rfl, by simp_all⟩)⟩)
    obtain ⟨rfl, rfl, ht_29⟩ := hp29
    exact ht_29.elim
  · skip
    have c10 := Classical.not_not.mp c10
    obtain ⟨e, he⟩ := Option.ne_none_iff_exists'.mp c10
    have heb := hPB.2.2.2.2.1 e he
    refine g_aload_n (q := 14) B dX1_goOn_13 rfl rfl (rv_r _) ?_
    obtain ⟨ev_3, pl_3, nd_3, ch_3, ecap_3, pcap_3, nn_3, nc_3, plc_3, md_3, hP_3, hpl_3, hec_3, hpc_3, hc_3_0, hs_3_0, hs_3_1, hs_3_2, hs_3_3⟩ := PersP.at (hE_2)
    refine g_getNM (q := 17) B (ci := 2) (k := 8) (j := 3) in_X4 rfl dX1_goOn_14 rfl rfl (hc_3_0) (Nat.le_of_ble_eq_true rfl) q1901 rfl rfl ?_
    refine g_stk (y := .int (nI e)) (by rw [he]; rfl) ?_
    refine g_aload_n (q := 18) B dX1_goOn_17 rfl rfl (rv_r _) ?_
    refine g_callV (q := 21) (is := [7, 3]) (kc2 := 9) (ks2 := 54) B [] (ct_X1_newest g J (x := x) (lk := lk) (b := b) (lp := lp) (lr := lr) (lt := lt) (ls := ls) (lm := lm) (so := so) (bxs := (zBn C)) (Ts := (zTs C)) (tcap := tcap) hv4 ) dX1_goOn_18 rfl (rc_at B (ci := 0) rfl (k := 7) rfl) rfl q1120 q1122 qs8 q77 q1123 rfl rfl moX1_newest rfl rfl (by decide) (by decide) (Nat.le_of_ble_eq_true rfl) (Nat.le_of_ble_eq_true rfl) (Nat.le_of_ble_eq_true rfl) (fun _ _ hx => noX_x hx) (fun v18 L1 hp18 => ?_)
    obtain ⟨rfl, rfl⟩ := hp18
    refine (show Go g κ 21 [some (.ref x), some (.int (nI i2)), some (.ref a2), none, none, none, none, none, none, none, none, none] [.int (nI (zTs C).length - nI 1), .int (nI e)] [v0, v2, v3, v5, v6, v7, v1, [(x, .inr (0, [.ref b, .ref lp, .ref lk, .ref lr, .ref lt, .ref ls, .ref lm, .ref so, .int (nI (zBn C))]))], v4] 9 54 from ?_)
    refine g_icmp_ge (tgt := 28) (q := 24) B dX1_goOn_21 rfl (by decide) (nw_le (by omega) (by omega)) (fun c21 => ?_) (fun c21 => ?_)
    · skip
      refine g_iconst (v := nI 0) (q := 29) B dX1_goOn_28 rfl (by decide) ?_
      refine g_callS (q := 32) (is := []) (kc2 := 8) (ks2 := 48) B [.int (nI 0)] (ct_X1_can g J (c := False) (dc := instDecidableFalse)  ) dX1_goOn_29 rfl q2331 q2332 q77 q2333 rfl rfl moX1_can rfl rfl (by decide) (by decide) (Nat.le_of_ble_eq_true rfl) (Nat.le_of_ble_eq_true rfl) (Nat.le_of_ble_eq_true rfl) (fun E29 L1 hx29 => ?_) (fun v29 L1 hp29 => ?_)
      · skip
        obtain ⟨rfl, hx29⟩ := hx29
        obtain ⟨rfl, hx29⟩ := hx29
        refine gx_cl [7, 0, 5, 0, 0, 3, 0, 0, 0] rfl ?_
        exact g_out B E tb (by first | exact ⟨rfl, Or.inr (⟨rfl, hx29⟩)⟩ | exact ⟨rfl, Or.inr (⟨rfl, ⟨i2, r2, rfl, hr_2, by rintro ⟨e1, z1, z2⟩; first | (rw [Classical.not_not.mp c10] at z1; cases z1) | (rw [he] at z1; cases z1; exact c21 z2)⟩⟩)⟩ | exact ⟨rfl, Or.inr (⟨rfl, by simp_all⟩)⟩)
      obtain ⟨rfl, rfl, ht_29⟩ := hp29
      exact ht_29.elim
    · skip
      refine g_iconst (v := nI 1) (q := 25) B dX1_goOn_24 rfl (by decide) ?_
      refine g_goto (tgt := 29) B dX1_goOn_25 (by decide) ?_
      refine g_callS (q := 32) (is := []) (kc2 := 8) (ks2 := 48) B [.int (nI 1)] (ct_X1_can g J (c := True) (dc := instDecidableTrue)  ) dX1_goOn_29 rfl q2331 q2332 q77 q2333 rfl rfl moX1_can rfl rfl (by decide) (by decide) (Nat.le_of_ble_eq_true rfl) (Nat.le_of_ble_eq_true rfl) (Nat.le_of_ble_eq_true rfl) (fun E29 L1 hx29 => ?_) (fun v29 L1 hp29 => ?_)
      · skip
        obtain ⟨rfl, hx29⟩ := hx29
        obtain ⟨rfl, hx29⟩ := hx29
        exact absurd trivial hx29
      obtain ⟨rfl, rfl, ht_29⟩ := hp29
      refine (show Go g κ 32 [some (.ref x), some (.int (nI i2)), some (.ref a2), none, none, none, none, none, none, none, none, none] [] [v0, v2, v3, v5, v6, v7, v1, [(x, .inr (0, [.ref b, .ref lp, .ref lk, .ref lr, .ref lt, .ref ls, .ref lm, .ref so, .int (nI (zBn C))]))], v4] 8 48 from ?_)
      have hil2 := get_lt2 hr_2
      exact absurd ⟨by rw [inR_k (by omega)]; simpa using get_lt2 hr_2, i2, r2, e, rfl, hr_2, he, Classical.not_not.mp c21⟩ hno
theorem moX4_leaves : Mo yX4_leaves 0 := by
  refine ⟨by decide, by decide, by decide +kernel⟩
theorem ct_X1_goOn_o (g : Gv) (J : Jd g) {x : Nat} {C : KsS} {v : Int32} {i : Nat} {r : PeS} {e : Nat} {T : TrS} {w0 : va_W} (hw0 : KgP g x C w0) (hC : KsB C) (hv : v = nI i) (hr : (zPs C)[i]? = some r) (he : pEp r = some e) (hlt : e + 1 < (zTs C).length) (hT : (zTs C)[e + 1]? = some T) (hlo : lof T i = none) : Ct g yX1_goOn (ws_ yX1_goOn cX1_goOn 12 (some .char)) 17 10 60 [.ref x, .int v] [w0] (fun (rv_ : Option Value) (rL_ : List va_W) => ∃ (u0 : va_W), rv_ = some (.int (nI 111)) ∧ rL_ = [u0] ∧ KgP g x ((zSs C, zBx C, zZz C, (zPs C).set i ((r.1, r.2.1, r.2.2.1, none, r.2.2.2.2.1, fun _ => none, pOn r, pKy r, fun _ => none, none) : PeS), zKs C, zRs C, zTs C, zSt C, zMs C, zSo C, zBn C) : KsS) u0) noX := by
  refine Ct.of "Keygrove" [some (.ref x), some (.int v), none, none, none, none, none, none, none, none, none, none] rfl (by decide) rfl (Nat.le_of_ble_eq_true rfl) rfl ?_
  intro κ B E tb
  have hC0 := hC
  obtain ⟨hc1, hc2, hc3, hc4, hc5, hc6, hc7, hc8, hc9, hc10, hc11⟩ := hC0
  obtain ⟨b, lp, lk, lr, lt, ls, lm, so, pcap, kcap, rcap, tcap, scap, mcap, socap, ps, pks, pmd, v0, v1, v2, v3, v4, v5, v6, v7, hcap, hv0, hv1, hv2, hv3, hv4, hv5, hv6, hv7, rfl⟩ := hw0
  refine g_open 0 rfl rfl rfl ?_
  refine (show Go g κ 0 [some (.ref x), some (.int v), none, none, none, none, none, none, none, none, none, none] [] [[(x, .inr (0, [.ref b, .ref lp, .ref lk, .ref lr, .ref lt, .ref ls, .ref lm, .ref so, .int (nI (zBn C))]))], v0, v1, v2, v3, v4, v5, v6, v7] 10 60 from ?_)
  refine g_aload_n (q := 1) B dX1_goOn_0 rfl rfl (rv_r _) ?_
  refine g_iload_n (q := 2) B dX1_goOn_1 rfl rfl ?_
  refine g_callV (q := 5) (is := [0, 1]) (kc2 := 9) (ks2 := 54) B [.int v] (ct_X1_personWith g J (x := x) (lk := lk) (b := b) (lp := lp) (lr := lr) (lt := lt) (ls := ls) (lm := lm) (so := so) (bxs := zBn C) (ps := ps) (Ps := (zPs C)) (pcap := pcap) (pks := pks) (pmd := pmd) (v := v) hv1 (by first | assumption | omega | rfl)) dX1_goOn_2 rfl (rc_at B (ci := 0) rfl (k := 0) rfl) rfl q1961 q1963 qs15 q77 q1964 rfl rfl moX1_personWith rfl rfl (by decide) (by decide) (Nat.le_of_ble_eq_true rfl) (Nat.le_of_ble_eq_true rfl) (Nat.le_of_ble_eq_true rfl) (fun E2 L1 hx2 => ?_) (fun v2 L1 hp2 => ?_)
  · skip
    obtain ⟨rfl, hx2⟩ := hx2
    obtain ⟨rfl, hx2⟩ := hx2
    exact absurd (by rw [hv, inR_k (by have := get_lt2 hr; omega)]; simpa using get_lt2 hr) hx2
  obtain ⟨i2, a2, r2, rfl, rfl, hv_2, ha_2, hr_2⟩ := hp2
  refine (show Go g κ 5 [some (.ref x), some (.int v), none, none, none, none, none, none, none, none, none, none] [.ref a2] [v0, v2, v3, v4, v5, v6, v7, [(x, .inr (0, [.ref b, .ref lp, .ref lk, .ref lr, .ref lt, .ref ls, .ref lm, .ref so, .int (nI (zBn C))]))], v1] 9 54 from ?_)
  have hil := get_lt2 hr
  have hil2 := get_lt2 hr_2
  have hie : i = i2 := (nI_eq (by omega) (by omega)).mp (hv.symm.trans hv_2)
  subst hie
  have hre : r = r2 := Option.some.inj (hr.symm.trans hr_2)
  subst hre
  subst hv
  obtain ⟨kc1, kc2, kc3, kc4, kc5, kc6, kc7⟩ := (show capB pcap kcap rcap tcap scap mcap socap from hcap)
  obtain ⟨hli_1, hln_1, hel_1⟩ := PersL.at (Sub.self hv1)
  have hE_2 := hel_1 _ _ _ ha_2 hr
  have hPB := pLf_b (hE_2)
  obtain ⟨hp0, hp1, hp2, hp3, hp4, hp5, hp6, hp7, hp8⟩ := hPB
  obtain ⟨hno_i, hpk_i, hhl_i, hev_i⟩ := hc11 _ _ hr
  have heb := hp4 _ he
  refine (show Go g κ 5 [some (.ref x), some (.int (nI i)), none, none, none, none, none, none, none, none, none, none] [.ref a2] [v0, v2, v3, v4, v5, v6, v7, [(x, .inr (0, [.ref b, .ref lp, .ref lk, .ref lr, .ref lt, .ref ls, .ref lm, .ref so, .int (nI (zBn C))]))], v1] 9 54 from ?_)
  refine g_astore_n (q := 6) (lv2 := [some (.ref x), some (.int (nI i)), some (.ref a2), none, none, none, none, none, none, none, none, none]) B dX1_goOn_5 rfl (Nat.le_of_ble_eq_true rfl) (rv_r _) rfl ?_
  refine g_aload_n (q := 7) B dX1_goOn_6 rfl rfl (rv_r _) ?_
  refine g_callV (q := 10) (is := [8]) (kc2 := 9) (ks2 := 54) B [] (ct_X4_isIn_s g J (a := a2) (x := x) (pks := pks) (r := r) (W0 := v1)  (hE_2)) dX1_goOn_7 rfl (rc_in B (ci := 2) rfl (k := 8) rfl (Sub.hm (hE_2) fun _ z => PersP.hm z)) rfl q1211 q1207 q1208 q90 q1209 rfl rfl moX4_isIn rfl rfl (by decide) (by decide) (Nat.le_of_ble_eq_true rfl) (Nat.le_of_ble_eq_true rfl) (Nat.le_of_ble_eq_true rfl) (fun _ _ hx => noX_x hx) (fun v7 L1 hp7 => ?_)
  obtain ⟨rfl, rfl⟩ := hp7
  refine (show Go g κ 10 [some (.ref x), some (.int (nI i)), some (.ref a2), none, none, none, none, none, none, none, none, none] [.int (nI (if ¬ pEp r = none then 1 else 0))] [v0, v2, v3, v4, v5, v6, v7, [(x, .inr (0, [.ref b, .ref lp, .ref lk, .ref lr, .ref lt, .ref ls, .ref lm, .ref so, .int (nI (zBn C))]))], v1] 9 54 from ?_)
  refine g_if_eq (tgt := 28) (q := 13) B dX1_goOn_10 rfl (by decide) (bo_eq) (fun c10 => ?_) (fun c10 => ?_)
  · skip
    exact absurd (by rw [he]; simp) c10
  · skip
    have c10 := Classical.not_not.mp c10
    refine g_aload_n (q := 14) B dX1_goOn_13 rfl rfl (rv_r _) ?_
    obtain ⟨ev_3, pl_3, nd_3, ch_3, ecap_3, pcap_3, nn_3, nc_3, plc_3, md_3, hP_3, hpl_3, hec_3, hpc_3, hc_3_0, hs_3_0, hs_3_1, hs_3_2, hs_3_3⟩ := PersP.at (hE_2)
    refine g_getNM (q := 17) B (ci := 2) (k := 8) (j := 3) in_X4 rfl dX1_goOn_14 rfl rfl (hc_3_0) (Nat.le_of_ble_eq_true rfl) q1901 rfl rfl ?_
    refine g_stk (y := .int (nI e)) (by rw [he]; rfl) ?_
    refine g_aload_n (q := 18) B dX1_goOn_17 rfl rfl (rv_r _) ?_
    refine g_callV (q := 21) (is := [7, 3]) (kc2 := 9) (ks2 := 54) B [] (ct_X1_newest g J (x := x) (lk := lk) (b := b) (lp := lp) (lr := lr) (lt := lt) (ls := ls) (lm := lm) (so := so) (bxs := (zBn C)) (Ts := (zTs C)) (tcap := tcap) hv4 ) dX1_goOn_18 rfl (rc_at B (ci := 0) rfl (k := 7) rfl) rfl q1120 q1122 qs8 q77 q1123 rfl rfl moX1_newest rfl rfl (by decide) (by decide) (Nat.le_of_ble_eq_true rfl) (Nat.le_of_ble_eq_true rfl) (Nat.le_of_ble_eq_true rfl) (fun _ _ hx => noX_x hx) (fun v18 L1 hp18 => ?_)
    obtain ⟨rfl, rfl⟩ := hp18
    refine (show Go g κ 21 [some (.ref x), some (.int (nI i)), some (.ref a2), none, none, none, none, none, none, none, none, none] [.int (nI (zTs C).length - nI 1), .int (nI e)] [v0, v2, v3, v5, v6, v7, v1, [(x, .inr (0, [.ref b, .ref lp, .ref lk, .ref lr, .ref lt, .ref ls, .ref lm, .ref so, .int (nI (zBn C))]))], v4] 9 54 from ?_)
    refine g_icmp_ge (tgt := 28) (q := 24) B dX1_goOn_21 rfl (by decide) (nw_le (by omega) (by omega)) (fun c21 => ?_) (fun c21 => ?_)
    · skip
      exact absurd hlt c21
    · skip
      refine g_iconst (v := nI 1) (q := 25) B dX1_goOn_24 rfl (by decide) ?_
      refine g_goto (tgt := 29) B dX1_goOn_25 (by decide) ?_
      refine g_callS (q := 32) (is := []) (kc2 := 8) (ks2 := 48) B [.int (nI 1)] (ct_X1_can g J (c := True) (dc := instDecidableTrue)  ) dX1_goOn_29 rfl q2331 q2332 q77 q2333 rfl rfl moX1_can rfl rfl (by decide) (by decide) (Nat.le_of_ble_eq_true rfl) (Nat.le_of_ble_eq_true rfl) (Nat.le_of_ble_eq_true rfl) (fun E29 L1 hx29 => ?_) (fun v29 L1 hp29 => ?_)
      · skip
        obtain ⟨rfl, hx29⟩ := hx29
        obtain ⟨rfl, hx29⟩ := hx29
        exact absurd trivial hx29
      obtain ⟨rfl, rfl, ht_29⟩ := hp29
      refine (show Go g κ 32 [some (.ref x), some (.int (nI i)), some (.ref a2), none, none, none, none, none, none, none, none, none] [] [v0, v2, v3, v5, v6, v7, v1, [(x, .inr (0, [.ref b, .ref lp, .ref lk, .ref lr, .ref lt, .ref ls, .ref lm, .ref so, .int (nI (zBn C))]))], v4] 8 48 from ?_)
      refine g_aload_n (q := 33) B dX1_goOn_32 rfl rfl (rv_r _) ?_
      refine g_getNM (q := 36) B (ci := 2) (k := 6) (j := 3) in_X4 rfl dX1_goOn_33 rfl rfl (hc_3_0) (Nat.le_of_ble_eq_true rfl) q1901 rfl rfl ?_
      refine g_stk (y := .int (nI e)) (by rw [he]; rfl) ?_
      refine g_iconst (v := nI 1) (q := 37) B dX1_goOn_36 rfl (by decide) ?_
      refine g_iadd (v := nI (e + 1)) (q := 38) B dX1_goOn_37 rfl (nI_add _ _) ?_
      refine g_istore_n (q := 39) (lv2 := [some (.ref x), some (.int (nI i)), some (.ref a2), some (.int (nI (e + 1))), none, none, none, none, none, none, none, none]) B dX1_goOn_38 rfl (Nat.le_of_ble_eq_true rfl) rfl ?_
      refine g_aload_n (q := 40) B dX1_goOn_39 rfl rfl (rv_r _) ?_
      refine g_get (q := 43) B (ci := 0) (k := 7) (j := 4) in_X1 rfl dX1_goOn_40 rfl rfl (Nat.le_of_ble_eq_true rfl) q282 rfl rfl ?_
      refine g_iload_n (q := 44) B dX1_goOn_43 rfl rfl ?_
      obtain ⟨ps_4, md_4, hli_4, hln_4, hel_4⟩ := LhP.at (Sub.self hv4)
      obtain ⟨x44, hx44⟩ := get_ex (xs := ps_4) (i := e + 1) (by have := get_lt2 (show (zTs C)[e + 1]? = some T from hT); have := hln_4.1; omega)
      have hE_5 := hel_4 _ _ _ hx44 (show (zTs C)[e + 1]? = some T from hT)
      refine g_callF (q := 49) (is := [8]) (kc2 := 8) (ks2 := 48) B [.int (nI (e + 1))] (ct_J2_get_s g J (p := lt) (xs := ps_4) (md := md_4) (cap := tcap) (i := e + 1) (x := x44) (W0 := v4)  (hli_4) (hx44)) dX1_goOn_44 rfl (ci := 21) rfl (rc_in B (ci := 21) rfl (k := 8) rfl (LhP.hm hv4)) q1138 q1093 q1095 q81 q1097 q1092 q1091 q1096 q1094 q318 rfl rfl mojava_util_List_get__I_Ljava_lang_Object_ rfl rfl (by decide) (by decide) (Nat.le_of_ble_eq_true rfl) (Nat.le_of_ble_eq_true rfl) (Nat.le_of_ble_eq_true rfl) (fun _ _ hx => noX_x hx) (fun v44 L1 hp44 => ?_)
      obtain ⟨rfl, rfl⟩ := hp44
      refine (show Go g κ 49 [some (.ref x), some (.int (nI i)), some (.ref a2), some (.int (nI (e + 1))), none, none, none, none, none, none, none, none] [.ref x44] [v0, v2, v3, v5, v6, v7, v1, [(x, .inr (0, [.ref b, .ref lp, .ref lk, .ref lr, .ref lt, .ref ls, .ref lm, .ref so, .int (nI (zBn C))]))], v4] 8 48 from ?_)
      refine g_castRS (ci := 5) (q := 52) B rfl (rc_in B (ci := 5) rfl (k := 8) rfl (Sub.hm (hE_5) fun _ z => TreeP.hm z)) dX1_goOn_49 rfl q1139 ?_
      refine g_astore (q := 54) (lv2 := [some (.ref x), some (.int (nI i)), some (.ref a2), some (.int (nI (e + 1))), some (.ref x44), none, none, none, none, none, none, none]) B dX1_goOn_52 rfl (Nat.le_of_ble_eq_true rfl) (rv_r _) rfl ?_
      refine g_aload (q := 56) B dX1_goOn_54 rfl rfl (rv_r _) ?_
      refine g_iload_n (q := 57) B dX1_goOn_56 rfl rfl ?_
      refine g_callV (q := 60) (is := [8]) (kc2 := 8) (ks2 := 48) B [.int (nI i)] (ct_X10_leafOf_s g J (t := x44) (T := T) (p := i) (W0 := v4)  (hE_5) (by omega)) dX1_goOn_57 rfl (rc_in B (ci := 5) rfl (k := 8) rfl (Sub.hm (hE_5) fun _ z => TreeP.hm z)) rfl q1220 q1221 q1222 q123 q1223 rfl rfl moX10_leafOf rfl rfl (by decide) (by decide) (Nat.le_of_ble_eq_true rfl) (Nat.le_of_ble_eq_true rfl) (Nat.le_of_ble_eq_true rfl) (fun _ _ hx => noX_x hx) (fun v57 L1 hp57 => ?_)
      obtain ⟨rfl, rfl⟩ := hp57
      refine (show Go g κ 60 [some (.ref x), some (.int (nI i)), some (.ref a2), some (.int (nI (e + 1))), some (.ref x44), none, none, none, none, none, none, none] [.int (oI (lof T i))] [v0, v2, v3, v5, v6, v7, v1, [(x, .inr (0, [.ref b, .ref lp, .ref lk, .ref lr, .ref lt, .ref ls, .ref lm, .ref so, .int (nI (zBn C))]))], v4] 8 48 from ?_)
      refine g_stk (y := .int (-1)) (by rw [hlo]; rfl) ?_
      refine g_iconst (v := -1) (q := 61) B dX1_goOn_60 rfl (by decide) ?_
      refine g_icmp_ne (tgt := 71) (q := 64) B dX1_goOn_61 rfl (by decide) (iff_false_intro (by decide)) (fun z => z.elim) (fun _ => ?_)
      refine g_aload_n (q := 65) B dX1_goOn_64 rfl rfl (rv_r _) ?_
      refine g_callV (q := 68) (is := [6]) (kc2 := 8) (ks2 := 48) B [] (ct_X4_leaves_L g J (lp := lp) (pps := ps) (Ps := (zPs C)) (pcp := pcap) (ix := i) (pmd := pmd) (a := a2) (x := x) (pks := pks) (r := r) hv1 (ha_2) (hr)) dX1_goOn_65 rfl (rc_in B (ci := 2) rfl (k := 6) rfl (Sub.hm (hE_2) fun _ z => PersP.hm z)) rfl q2757 q2758 q2759 q90 q2760 rfl rfl moX4_leaves rfl rfl (by decide) (by decide) (Nat.le_of_ble_eq_true rfl) (Nat.le_of_ble_eq_true rfl) (Nat.le_of_ble_eq_true rfl) (fun _ _ hx => noX_x hx) (fun v65 L1 hp65 => ?_)
      obtain ⟨u0_65, rfl, rfl, hu0_65⟩ := hp65
      refine (show Go g κ 68 [some (.ref x), some (.int (nI i)), some (.ref a2), some (.int (nI (e + 1))), some (.ref x44), none, none, none, none, none, none, none] [] [v0, v2, v3, v5, v6, v7, [(x, .inr (0, [.ref b, .ref lp, .ref lk, .ref lr, .ref lt, .ref ls, .ref lm, .ref so, .int (nI (zBn C))]))], v4, u0_65] 8 48 from ?_)
      refine g_bipush (v := nI 111) (q := 70) B dX1_goOn_68 rfl (by decide) ?_
      obtain ⟨wc_6, ewc_6⟩ : ∃ w : va_W, w = ([[(x, .inr (0, [.ref b, .ref lp, .ref lk, .ref lr, .ref lt, .ref ls, .ref lm, .ref so, .int (nI (zBn C))]))], v0, u0_65, v2, v3, v4, v5, v6, v7] : List va_W).flatten := ⟨_, rfl⟩
      have hwc_6 : KgP g x ((zSs C, zBx C, zZz C, (zPs C).set i ((r.1, r.2.1, r.2.2.1, none, r.2.2.2.2.1, fun _ => none, pOn r, pKy r, fun _ => none, none) : PeS), zKs C, zRs C, zTs C, zSt C, zMs C, zSo C, zBn C) : KsS) wc_6 := by
        rw [ewc_6]
        exact ⟨b, lp, lk, lr, lt, ls, lm, so, pcap, kcap, rcap, tcap, scap, mcap, socap, ps, pks, pmd, _, _, _, _, _, _, _, _, hcap, hv0, hu0_65, hv2, hv3, hv4, hv5, hv6, hv7, rfl⟩
      refine g_close (w := wc_6) [6, 0, 6, 0, 0, 3, 0, 0, 0] rfl ewc_6 rfl ?_
      refine (show Go g κ 70 [some (.ref x), some (.int (nI i)), some (.ref a2), some (.int (nI (e + 1))), some (.ref x44), none, none, none, none, none, none, none] [.int (nI 111)] [wc_6] 8 48 from ?_)
      exact g_zret B E dX1_goOn_70 (by decide) (⟨wc_6, rfl, rfl, hwc_6⟩)
theorem moX1_climbs : Mo yX1_climbs 5 := by
  refine ⟨by decide, by decide, by decide +kernel⟩
theorem moX2_opened : Mo yX2_opened 3 := by
  refine ⟨by decide, by decide, by decide +kernel⟩
theorem ct_X1_goOn_m (g : Gv) (J : Jd g) {x : Nat} {C : KsS} {v : Int32} {i : Nat} {r : PeS} {e : Nat} {T : TrS} {st : StS} {own : Nat} {nd : Nat} {bg : Nat} {en : Nat} {sc : Nat} {last : Nat} {isb : Bool} {N2 : Nat → Option Nat} {u : Nat} {bf : Nat} {es : Nat} {on : Nat} {ky : Nat} {CH : Nat → Option ChS} {w0 : va_W} (hw0 : KgP g x C w0) (hC : KsB C) (hv : v = nI i) (hr : (zPs C)[i]? = some r) (he : pEp r = some e) (hlt : e + 1 < (zTs C).length) (hT : (zTs C)[e + 1]? = some T) (hst : (zSt C)[e + 1]? = some st) (hlo : lof T i = some own) (hsl : st.1 < 2 ^ T.1) (hmt : mtg T st.1 own = some nd) (hbg : st.2.2.2.1 nd = some bg) (hen : st.2.2.2.2 nd = some en) (hble : bg ≤ en) (hbe : en ≤ (zBx C).length) (hex : ∃ n x, rnN T r own n = some x ∧ ∃ o q, fnd (zSs C) (x, none, 1) = some o ∧ bg ≤ q ∧ q < en ∧ (zBx C)[q]? = some (o, sc)) (hall : ∀ j p, bg ≤ j → j < en → (zBx C)[j]? = some p → p.2 = sc) (hscl : sc < (zSs C).length) (hnd : nd < 31) (hM : (clmK T st.1 nd ((zSs C, sc, false, rnN T r own) : CmS) T.1) = (zSs C, last, isb, N2)) (hsc : ∀ k, k ≤ T.1 → (clmK T st.1 nd ((zSs C, sc, false, rnN T r own) : CmS) k).2.1 < (clmK T st.1 nd ((zSs C, sc, false, rnN T r own) : CmS) k).1.length) (hll : last < (zSs C).length) (hu : fnd (zSs C) (last, none, 2) = some u) (hb : fnd (zSs C) (pOn r, some u, 3) = some bf) (hes : fnd (zSs C) (bf, none, 4) = some es) (hk5 : fnd (zSs C) (es, none, 5) = some on) (hk6 : fnd (zSs C) (es, none, 6) = some ky) (hchs : chS T es (zSs C) (2 ^ T.1) = (zSs C, CH)) : Ct g yX1_goOn (ws_ yX1_goOn cX1_goOn 12 (some .char)) 17 1400 12500 [.ref x, .int v] [w0] (fun (rv_ : Option Value) (rL_ : List va_W) => ∃ (E : Nat → Bool) (u0 : va_W), rv_ = some (.int (nI 109)) ∧ rL_ = [u0] ∧ KgP g x ((zSs C, zBx C, zZz C, (zPs C).set i ((pNo r, E, pPk r, some (e + 1), own, drpF T N2, on, ky, CH, none) : PeS), zKs C, zRs C, zTs C, zSt C, zMs C, zSo C, zBn C) : KsS) u0 ∧ (∀ y, E y = true ↔ pEv r y = true ∨ helP (zKs C) ((pNo r, pEv r, pPk r, some (e + 1), own, drpF T N2, on, ky, CH, none) : PeS) y)) noX := by
  refine Ct.of "Keygrove" [some (.ref x), some (.int v), none, none, none, none, none, none, none, none, none, none] rfl (by decide) rfl (Nat.le_of_ble_eq_true rfl) rfl ?_
  intro κ B E tb
  have hC0 := hC
  obtain ⟨hc1, hc2, hc3, hc4, hc5, hc6, hc7, hc8, hc9, hc10, hc11⟩ := hC0
  obtain ⟨b, lp, lk, lr, lt, ls, lm, so, pcap, kcap, rcap, tcap, scap, mcap, socap, ps, pks, pmd, v0, v1, v2, v3, v4, v5, v6, v7, hcap, hv0, hv1, hv2, hv3, hv4, hv5, hv6, hv7, rfl⟩ := hw0
  refine g_open 0 rfl rfl rfl ?_
  refine (show Go g κ 0 [some (.ref x), some (.int v), none, none, none, none, none, none, none, none, none, none] [] [[(x, .inr (0, [.ref b, .ref lp, .ref lk, .ref lr, .ref lt, .ref ls, .ref lm, .ref so, .int (nI (zBn C))]))], v0, v1, v2, v3, v4, v5, v6, v7] 1400 12500 from ?_)
  refine g_aload_n (q := 1) B dX1_goOn_0 rfl rfl (rv_r _) ?_
  refine g_iload_n (q := 2) B dX1_goOn_1 rfl rfl ?_
  refine g_callV (q := 5) (is := [0, 1]) (kc2 := 1399) (ks2 := 12494) B [.int v] (ct_X1_personWith g J (x := x) (lk := lk) (b := b) (lp := lp) (lr := lr) (lt := lt) (ls := ls) (lm := lm) (so := so) (bxs := zBn C) (ps := ps) (Ps := (zPs C)) (pcap := pcap) (pks := pks) (pmd := pmd) (v := v) hv1 (by first | assumption | omega | rfl)) dX1_goOn_2 rfl (rc_at B (ci := 0) rfl (k := 0) rfl) rfl q1961 q1963 qs15 q77 q1964 rfl rfl moX1_personWith rfl rfl (by decide) (by decide) (Nat.le_of_ble_eq_true rfl) (Nat.le_of_ble_eq_true rfl) (Nat.le_of_ble_eq_true rfl) (fun E2 L1 hx2 => ?_) (fun v2 L1 hp2 => ?_)
  · skip
    obtain ⟨rfl, hx2⟩ := hx2
    obtain ⟨rfl, hx2⟩ := hx2
    exact absurd (by rw [hv, inR_k (by have := get_lt2 hr; omega)]; simpa using get_lt2 hr) hx2
  obtain ⟨i2, a2, r2, rfl, rfl, hv_2, ha_2, hr_2⟩ := hp2
  refine (show Go g κ 5 [some (.ref x), some (.int v), none, none, none, none, none, none, none, none, none, none] [.ref a2] [v0, v2, v3, v4, v5, v6, v7, [(x, .inr (0, [.ref b, .ref lp, .ref lk, .ref lr, .ref lt, .ref ls, .ref lm, .ref so, .int (nI (zBn C))]))], v1] 1399 12494 from ?_)
  have hil := get_lt2 hr
  have hil2 := get_lt2 hr_2
  have hie : i = i2 := (nI_eq (by omega) (by omega)).mp (hv.symm.trans hv_2)
  subst hie
  have hre : r = r2 := Option.some.inj (hr.symm.trans hr_2)
  subst hre
  subst hv
  obtain ⟨kc1, kc2, kc3, kc4, kc5, kc6, kc7⟩ := (show capB pcap kcap rcap tcap scap mcap socap from hcap)
  obtain ⟨hli_1, hln_1, hel_1⟩ := PersL.at (Sub.self hv1)
  have hE_2 := hel_1 _ _ _ ha_2 hr
  have hPB := pLf_b (hE_2)
  obtain ⟨hp0, hp1, hp2, hp3, hp4, hp5, hp6, hp7, hp8⟩ := hPB
  obtain ⟨hno_i, hpk_i, hhl_i, hev_i⟩ := hc11 _ _ hr
  have heb := hp4 _ he
  refine (show Go g κ 5 [some (.ref x), some (.int (nI i)), none, none, none, none, none, none, none, none, none, none] [.ref a2] [v0, v2, v3, v4, v5, v6, v7, [(x, .inr (0, [.ref b, .ref lp, .ref lk, .ref lr, .ref lt, .ref ls, .ref lm, .ref so, .int (nI (zBn C))]))], v1] 1399 12494 from ?_)
  refine g_astore_n (q := 6) (lv2 := [some (.ref x), some (.int (nI i)), some (.ref a2), none, none, none, none, none, none, none, none, none]) B dX1_goOn_5 rfl (Nat.le_of_ble_eq_true rfl) (rv_r _) rfl ?_
  refine g_aload_n (q := 7) B dX1_goOn_6 rfl rfl (rv_r _) ?_
  refine g_callV (q := 10) (is := [8]) (kc2 := 1399) (ks2 := 12494) B [] (ct_X4_isIn_s g J (a := a2) (x := x) (pks := pks) (r := r) (W0 := v1)  (hE_2)) dX1_goOn_7 rfl (rc_in B (ci := 2) rfl (k := 8) rfl (Sub.hm (hE_2) fun _ z => PersP.hm z)) rfl q1211 q1207 q1208 q90 q1209 rfl rfl moX4_isIn rfl rfl (by decide) (by decide) (Nat.le_of_ble_eq_true rfl) (Nat.le_of_ble_eq_true rfl) (Nat.le_of_ble_eq_true rfl) (fun _ _ hx => noX_x hx) (fun v7 L1 hp7 => ?_)
  obtain ⟨rfl, rfl⟩ := hp7
  refine (show Go g κ 10 [some (.ref x), some (.int (nI i)), some (.ref a2), none, none, none, none, none, none, none, none, none] [.int (nI (if ¬ pEp r = none then 1 else 0))] [v0, v2, v3, v4, v5, v6, v7, [(x, .inr (0, [.ref b, .ref lp, .ref lk, .ref lr, .ref lt, .ref ls, .ref lm, .ref so, .int (nI (zBn C))]))], v1] 1399 12494 from ?_)
  refine g_if_eq (tgt := 28) (q := 13) B dX1_goOn_10 rfl (by decide) (bo_eq) (fun c10 => ?_) (fun c10 => ?_)
  · skip
    exact absurd (by rw [he]; simp) c10
  · skip
    have c10 := Classical.not_not.mp c10
    refine g_aload_n (q := 14) B dX1_goOn_13 rfl rfl (rv_r _) ?_
    obtain ⟨ev_3, pl_3, nd_3, ch_3, ecap_3, pcap_3, nn_3, nc_3, plc_3, md_3, hP_3, hpl_3, hec_3, hpc_3, hc_3_0, hs_3_0, hs_3_1, hs_3_2, hs_3_3⟩ := PersP.at (hE_2)
    refine g_getNM (q := 17) B (ci := 2) (k := 8) (j := 3) in_X4 rfl dX1_goOn_14 rfl rfl (hc_3_0) (Nat.le_of_ble_eq_true rfl) q1901 rfl rfl ?_
    refine g_stk (y := .int (nI e)) (by rw [he]; rfl) ?_
    refine g_aload_n (q := 18) B dX1_goOn_17 rfl rfl (rv_r _) ?_
    refine g_callV (q := 21) (is := [7, 3]) (kc2 := 1399) (ks2 := 12494) B [] (ct_X1_newest g J (x := x) (lk := lk) (b := b) (lp := lp) (lr := lr) (lt := lt) (ls := ls) (lm := lm) (so := so) (bxs := (zBn C)) (Ts := (zTs C)) (tcap := tcap) hv4 ) dX1_goOn_18 rfl (rc_at B (ci := 0) rfl (k := 7) rfl) rfl q1120 q1122 qs8 q77 q1123 rfl rfl moX1_newest rfl rfl (by decide) (by decide) (Nat.le_of_ble_eq_true rfl) (Nat.le_of_ble_eq_true rfl) (Nat.le_of_ble_eq_true rfl) (fun _ _ hx => noX_x hx) (fun v18 L1 hp18 => ?_)
    obtain ⟨rfl, rfl⟩ := hp18
    refine (show Go g κ 21 [some (.ref x), some (.int (nI i)), some (.ref a2), none, none, none, none, none, none, none, none, none] [.int (nI (zTs C).length - nI 1), .int (nI e)] [v0, v2, v3, v5, v6, v7, v1, [(x, .inr (0, [.ref b, .ref lp, .ref lk, .ref lr, .ref lt, .ref ls, .ref lm, .ref so, .int (nI (zBn C))]))], v4] 1399 12494 from ?_)
    refine g_icmp_ge (tgt := 28) (q := 24) B dX1_goOn_21 rfl (by decide) (nw_le (by omega) (by omega)) (fun c21 => ?_) (fun c21 => ?_)
    · skip
      exact absurd hlt c21
    · skip
      refine g_iconst (v := nI 1) (q := 25) B dX1_goOn_24 rfl (by decide) ?_
      refine g_goto (tgt := 29) B dX1_goOn_25 (by decide) ?_
      refine g_callS (q := 32) (is := []) (kc2 := 1398) (ks2 := 12488) B [.int (nI 1)] (ct_X1_can g J (c := True) (dc := instDecidableTrue)  ) dX1_goOn_29 rfl q2331 q2332 q77 q2333 rfl rfl moX1_can rfl rfl (by decide) (by decide) (Nat.le_of_ble_eq_true rfl) (Nat.le_of_ble_eq_true rfl) (Nat.le_of_ble_eq_true rfl) (fun E29 L1 hx29 => ?_) (fun v29 L1 hp29 => ?_)
      · skip
        obtain ⟨rfl, hx29⟩ := hx29
        obtain ⟨rfl, hx29⟩ := hx29
        exact absurd trivial hx29
      obtain ⟨rfl, rfl, ht_29⟩ := hp29
      refine (show Go g κ 32 [some (.ref x), some (.int (nI i)), some (.ref a2), none, none, none, none, none, none, none, none, none] [] [v0, v2, v3, v5, v6, v7, v1, [(x, .inr (0, [.ref b, .ref lp, .ref lk, .ref lr, .ref lt, .ref ls, .ref lm, .ref so, .int (nI (zBn C))]))], v4] 1398 12488 from ?_)
      refine g_aload_n (q := 33) B dX1_goOn_32 rfl rfl (rv_r _) ?_
      refine g_getNM (q := 36) B (ci := 2) (k := 6) (j := 3) in_X4 rfl dX1_goOn_33 rfl rfl (hc_3_0) (Nat.le_of_ble_eq_true rfl) q1901 rfl rfl ?_
      refine g_stk (y := .int (nI e)) (by rw [he]; rfl) ?_
      refine g_iconst (v := nI 1) (q := 37) B dX1_goOn_36 rfl (by decide) ?_
      refine g_iadd (v := nI (e + 1)) (q := 38) B dX1_goOn_37 rfl (nI_add _ _) ?_
      refine g_istore_n (q := 39) (lv2 := [some (.ref x), some (.int (nI i)), some (.ref a2), some (.int (nI (e + 1))), none, none, none, none, none, none, none, none]) B dX1_goOn_38 rfl (Nat.le_of_ble_eq_true rfl) rfl ?_
      refine g_aload_n (q := 40) B dX1_goOn_39 rfl rfl (rv_r _) ?_
      refine g_get (q := 43) B (ci := 0) (k := 7) (j := 4) in_X1 rfl dX1_goOn_40 rfl rfl (Nat.le_of_ble_eq_true rfl) q282 rfl rfl ?_
      refine g_iload_n (q := 44) B dX1_goOn_43 rfl rfl ?_
      obtain ⟨ps_4, md_4, hli_4, hln_4, hel_4⟩ := LhP.at (Sub.self hv4)
      obtain ⟨x44, hx44⟩ := get_ex (xs := ps_4) (i := e + 1) (by have := get_lt2 (show (zTs C)[e + 1]? = some T from hT); have := hln_4.1; omega)
      have hE_5 := hel_4 _ _ _ hx44 (show (zTs C)[e + 1]? = some T from hT)
      refine g_callF (q := 49) (is := [8]) (kc2 := 1398) (ks2 := 12488) B [.int (nI (e + 1))] (ct_J2_get_s g J (p := lt) (xs := ps_4) (md := md_4) (cap := tcap) (i := e + 1) (x := x44) (W0 := v4)  (hli_4) (hx44)) dX1_goOn_44 rfl (ci := 21) rfl (rc_in B (ci := 21) rfl (k := 8) rfl (LhP.hm hv4)) q1138 q1093 q1095 q81 q1097 q1092 q1091 q1096 q1094 q318 rfl rfl mojava_util_List_get__I_Ljava_lang_Object_ rfl rfl (by decide) (by decide) (Nat.le_of_ble_eq_true rfl) (Nat.le_of_ble_eq_true rfl) (Nat.le_of_ble_eq_true rfl) (fun _ _ hx => noX_x hx) (fun v44 L1 hp44 => ?_)
      obtain ⟨rfl, rfl⟩ := hp44
      refine (show Go g κ 49 [some (.ref x), some (.int (nI i)), some (.ref a2), some (.int (nI (e + 1))), none, none, none, none, none, none, none, none] [.ref x44] [v0, v2, v3, v5, v6, v7, v1, [(x, .inr (0, [.ref b, .ref lp, .ref lk, .ref lr, .ref lt, .ref ls, .ref lm, .ref so, .int (nI (zBn C))]))], v4] 1398 12488 from ?_)
      refine g_castRS (ci := 5) (q := 52) B rfl (rc_in B (ci := 5) rfl (k := 8) rfl (Sub.hm (hE_5) fun _ z => TreeP.hm z)) dX1_goOn_49 rfl q1139 ?_
      refine g_astore (q := 54) (lv2 := [some (.ref x), some (.int (nI i)), some (.ref a2), some (.int (nI (e + 1))), some (.ref x44), none, none, none, none, none, none, none]) B dX1_goOn_52 rfl (Nat.le_of_ble_eq_true rfl) (rv_r _) rfl ?_
      refine g_aload (q := 56) B dX1_goOn_54 rfl rfl (rv_r _) ?_
      refine g_iload_n (q := 57) B dX1_goOn_56 rfl rfl ?_
      refine g_callV (q := 60) (is := [8]) (kc2 := 1398) (ks2 := 12488) B [.int (nI i)] (ct_X10_leafOf_s g J (t := x44) (T := T) (p := i) (W0 := v4)  (hE_5) (by omega)) dX1_goOn_57 rfl (rc_in B (ci := 5) rfl (k := 8) rfl (Sub.hm (hE_5) fun _ z => TreeP.hm z)) rfl q1220 q1221 q1222 q123 q1223 rfl rfl moX10_leafOf rfl rfl (by decide) (by decide) (Nat.le_of_ble_eq_true rfl) (Nat.le_of_ble_eq_true rfl) (Nat.le_of_ble_eq_true rfl) (fun _ _ hx => noX_x hx) (fun v57 L1 hp57 => ?_)
      obtain ⟨rfl, rfl⟩ := hp57
      refine (show Go g κ 60 [some (.ref x), some (.int (nI i)), some (.ref a2), some (.int (nI (e + 1))), some (.ref x44), none, none, none, none, none, none, none] [.int (oI (lof T i))] [v0, v2, v3, v5, v6, v7, v1, [(x, .inr (0, [.ref b, .ref lp, .ref lk, .ref lr, .ref lt, .ref ls, .ref lm, .ref so, .int (nI (zBn C))]))], v4] 1398 12488 from ?_)
      have hTBy := TreeP.b2 (hE_5)
      have hown := (lof_o hlo).1
      have hp2y := p2_4 hTBy.1
      refine g_stk (y := .int (nI own)) (by rw [hlo]; rfl) ?_
      refine g_iconst (v := -1) (q := 61) B dX1_goOn_60 rfl (by decide) ?_
      refine g_icmp_ne (tgt := 71) (q := 64) B dX1_goOn_61 rfl (by decide) (iff_true_intro (nI_nm1 (by omega))) (fun _ => ?_) (fun z => absurd trivial z)
      refine g_aload_n (q := 72) B dX1_goOn_71 rfl rfl (rv_r _) ?_
      refine g_get (q := 75) B (ci := 0) (k := 7) (j := 5) in_X1 rfl dX1_goOn_72 rfl rfl (Nat.le_of_ble_eq_true rfl) q283 rfl rfl ?_
      refine g_iload_n (q := 76) B dX1_goOn_75 rfl rfl ?_
      obtain ⟨ps_6, md_6, hli_6, hln_6, hel_6⟩ := LhP.at (Sub.self hv5)
      obtain ⟨x76, hx76⟩ := get_ex (xs := ps_6) (i := e + 1) (by have := get_lt2 (show (zSt C)[e + 1]? = some st from hst); have := hln_6.1; omega)
      have hE_7 := hel_6 _ _ _ hx76 (show (zSt C)[e + 1]? = some st from hst)
      refine g_callF (q := 81) (is := [3]) (kc2 := 1398) (ks2 := 12488) B [.int (nI (e + 1))] (ct_J2_get_s g J (p := ls) (xs := ps_6) (md := md_6) (cap := scap) (i := e + 1) (x := x76) (W0 := v5)  (hli_6) (hx76)) dX1_goOn_76 rfl (ci := 21) rfl (rc_in B (ci := 21) rfl (k := 3) rfl (LhP.hm hv5)) q1138 q1093 q1095 q81 q1097 q1092 q1091 q1096 q1094 q318 rfl rfl mojava_util_List_get__I_Ljava_lang_Object_ rfl rfl (by decide) (by decide) (Nat.le_of_ble_eq_true rfl) (Nat.le_of_ble_eq_true rfl) (Nat.le_of_ble_eq_true rfl) (fun _ _ hx => noX_x hx) (fun v76 L1 hp76 => ?_)
      obtain ⟨rfl, rfl⟩ := hp76
      refine (show Go g κ 81 [some (.ref x), some (.int (nI i)), some (.ref a2), some (.int (nI (e + 1))), some (.ref x44), none, none, none, none, none, none, none] [.ref x76] [v0, v2, v3, v6, v7, v1, [(x, .inr (0, [.ref b, .ref lp, .ref lk, .ref lr, .ref lt, .ref ls, .ref lm, .ref so, .int (nI (zBn C))]))], v4, v5] 1398 12488 from ?_)
      refine g_castRS (ci := 6) (q := 84) B rfl (rc_in B (ci := 6) rfl (k := 8) rfl (Sub.hm (hE_7) fun _ z => StepP.hm z)) dX1_goOn_81 rfl q1228 ?_
      refine g_astore (q := 86) (lv2 := [some (.ref x), some (.int (nI i)), some (.ref a2), some (.int (nI (e + 1))), some (.ref x44), some (.ref x76), none, none, none, none, none, none]) B dX1_goOn_84 rfl (Nat.le_of_ble_eq_true rfl) (rv_r _) rfl ?_
      refine g_aload (q := 88) B dX1_goOn_86 rfl rfl (rv_r _) ?_
      refine g_iload_n (q := 89) B dX1_goOn_88 rfl rfl ?_
      refine g_callV (q := 92) (is := [7]) (kc2 := 1398) (ks2 := 12488) B [.int (nI i)] (ct_X10_leafOf_s g J (t := x44) (T := T) (p := i) (W0 := v4)  (hE_5) (by omega)) dX1_goOn_89 rfl (rc_in B (ci := 5) rfl (k := 7) rfl (Sub.hm (hE_5) fun _ z => TreeP.hm z)) rfl q1220 q1221 q1222 q123 q1223 rfl rfl moX10_leafOf rfl rfl (by decide) (by decide) (Nat.le_of_ble_eq_true rfl) (Nat.le_of_ble_eq_true rfl) (Nat.le_of_ble_eq_true rfl) (fun _ _ hx => noX_x hx) (fun v89 L1 hp89 => ?_)
      obtain ⟨rfl, rfl⟩ := hp89
      refine (show Go g κ 92 [some (.ref x), some (.int (nI i)), some (.ref a2), some (.int (nI (e + 1))), some (.ref x44), some (.ref x76), none, none, none, none, none, none] [.int (oI (lof T i))] [v0, v2, v3, v6, v7, v1, [(x, .inr (0, [.ref b, .ref lp, .ref lk, .ref lr, .ref lt, .ref ls, .ref lm, .ref so, .int (nI (zBn C))]))], v5, v4] 1398 12488 from ?_)
      refine g_stk (y := .int (nI own)) (by rw [hlo]; rfl) ?_
      refine g_istore (q := 94) (lv2 := [some (.ref x), some (.int (nI i)), some (.ref a2), some (.int (nI (e + 1))), some (.ref x44), some (.ref x76), some (.int (nI own)), none, none, none, none, none]) B dX1_goOn_92 rfl (Nat.le_of_ble_eq_true rfl) rfl ?_
      have hTBx := TreeP.b2 (hE_5)
      have ct141 : ∀  (l141_5 : va_W), PersL g lp ps ((zPs C).set i ((pNo r, pEv r, pPk r, pEp r, pLf r, rnN T r own, pOn r, pKy r, pCh r, pRn r) : PeS)) pcap x pks pmd l141_5 → Go g κ 141 [some (.ref x), some (.int (nI i)), some (.ref a2), some (.int (nI (e + 1))), some (.ref x44), some (.ref x76), some (.int (nI own)), none, none, none, none, none] [] [v0, v2, v3, v6, v7, l141_5, [(x, .inr (0, [.ref b, .ref lp, .ref lk, .ref lr, .ref lt, .ref ls, .ref lm, .ref so, .int (nI (zBn C))]))], v5, v4] 1380 12300 := by
        intro l141_5 hl141_5
        have hr1 : ((zPs C).set i ((pNo r, pEv r, pPk r, pEp r, pLf r, rnN T r own, pOn r, pKy r, pCh r, pRn r) : PeS))[i]? = some ((pNo r, pEv r, pPk r, pEp r, pLf r, rnN T r own, pOn r, pKy r, pCh r, pRn r) : PeS) := set_at hr
        have hNb := rnN_b (T := T) (own := own) hhl_i
        refine g_aload (q := 143) B dX1_goOn_141 rfl rfl (rv_r _) ?_
        refine g_aload (q := 145) B dX1_goOn_143 rfl rfl (rv_r _) ?_
        obtain ⟨bb_8, be_8, nb_8, ne_8, hc_8_0, hs_8_0, hs_8_1⟩ := StepP.at (hE_7)
        refine g_getNM (q := 148) B (ci := 6) (k := 7) (j := 0) in_X11 rfl dX1_goOn_145 rfl rfl (hc_8_0) (Nat.le_of_ble_eq_true rfl) q2064 rfl rfl ?_
        refine g_iload (q := 150) B dX1_goOn_148 rfl rfl ?_
        refine g_callS (q := 153) (is := [8]) (kc2 := 1377) (ks2 := 12283) B [.ref x44, .int (nI st.1), .int (nI own)] (ct_X1_meeting_s g J (t := x44) (T := T) (l := st.1) (o := own) (W0 := v4)  (hE_5) (hsl) (by have := (lof_o hlo).1; have := p2_4 hTBx.1; omega)) dX1_goOn_150 rfl q2738 q2739 q77 q2740 rfl rfl moX1_meeting rfl rfl (by decide) (by decide) (Nat.le_of_ble_eq_true rfl) (Nat.le_of_ble_eq_true rfl) (Nat.le_of_ble_eq_true rfl) (fun _ _ hx => noX_x hx) (fun v150 L1 hp150 => ?_)
        obtain ⟨rfl, rfl⟩ := hp150
        refine (show Go g κ 153 [some (.ref x), some (.int (nI i)), some (.ref a2), some (.int (nI (e + 1))), some (.ref x44), some (.ref x76), some (.int (nI own)), none, none, none, none, none] [.int (oI (mtg T st.1 own))] [v0, v2, v3, v6, v7, l141_5, [(x, .inr (0, [.ref b, .ref lp, .ref lk, .ref lr, .ref lt, .ref ls, .ref lm, .ref so, .int (nI (zBn C))]))], v5, v4] 1377 12283 from ?_)
        refine g_stk (y := .int (nI nd)) (by rw [hmt]; rfl) ?_
        refine g_istore (q := 155) (lv2 := [some (.ref x), some (.int (nI i)), some (.ref a2), some (.int (nI (e + 1))), some (.ref x44), some (.ref x76), some (.int (nI own)), some (.int (nI nd)), none, none, none, none]) B dX1_goOn_153 rfl (Nat.le_of_ble_eq_true rfl) rfl ?_
        refine g_iconst (v := -1) (q := 156) B dX1_goOn_155 rfl (by decide) ?_
        refine g_istore (q := 158) (lv2 := [some (.ref x), some (.int (nI i)), some (.ref a2), some (.int (nI (e + 1))), some (.ref x44), some (.ref x76), some (.int (nI own)), some (.int (nI nd)), some (.int (-1)), none, none, none]) B dX1_goOn_156 rfl (Nat.le_of_ble_eq_true rfl) rfl ?_
        obtain ⟨pu1_q, pwi_q, pu2_q, hpwi_q, hpcl_q, hpe_q⟩ := PersL.opn hl141_5 ha_2 hr1
        refine g_open 5 rfl hpe_q rfl ?_
        refine (show Go g κ 158 [some (.ref x), some (.int (nI i)), some (.ref a2), some (.int (nI (e + 1))), some (.ref x44), some (.ref x76), some (.int (nI own)), some (.int (nI nd)), some (.int (-1)), none, none, none] [] [v0, v2, v3, v6, v7, [(x, .inr (0, [.ref b, .ref lp, .ref lk, .ref lr, .ref lt, .ref ls, .ref lm, .ref so, .int (nI (zBn C))]))], v5, v4, pu1_q, pwi_q, pu2_q] 1377 12283 from ?_)
        obtain ⟨ev_q, pl_q, nd_q, ch_q, ecap_q, pcap_q, nn_q, nc_q, plc_q, md_q, v0_q, v1_q, v2_q, v3_q, hP_q, hpl_q, hec_q, hpc_q, hv0_q, hv1_q, hv2_q, hv3_q, rfl⟩ := hpwi_q
        refine g_open 9 rfl rfl rfl ?_
        refine (show Go g κ 158 [some (.ref x), some (.int (nI i)), some (.ref a2), some (.int (nI (e + 1))), some (.ref x44), some (.ref x76), some (.int (nI own)), some (.int (nI nd)), some (.int (-1)), none, none, none] [] [v0, v2, v3, v6, v7, [(x, .inr (0, [.ref b, .ref lp, .ref lk, .ref lr, .ref lt, .ref ls, .ref lm, .ref so, .int (nI (zBn C))]))], v5, v4, pu1_q, pu2_q, [(a2, .inr (2, [.int (nI (pNo ((pNo r, pEv r, pPk r, pEp r, pLf r, rnN T r own, pOn r, pKy r, pCh r, pRn r) : PeS))), .ref ev_q, .ref pl_q, .int (oI (pEp ((pNo r, pEv r, pPk r, pEp r, pLf r, rnN T r own, pOn r, pKy r, pCh r, pRn r) : PeS))), .int (nI (pLf ((pNo r, pEv r, pPk r, pEp r, pLf r, rnN T r own, pOn r, pKy r, pCh r, pRn r) : PeS))), .ref nd_q, .int (nI (pOn ((pNo r, pEv r, pPk r, pEp r, pLf r, rnN T r own, pOn r, pKy r, pCh r, pRn r) : PeS))), .int (nI (pKy ((pNo r, pEv r, pPk r, pEp r, pLf r, rnN T r own, pOn r, pKy r, pCh r, pRn r) : PeS))), .ref ch_q, .int (oI (pRn ((pNo r, pEv r, pPk r, pEp r, pLf r, rnN T r own, pOn r, pKy r, pCh r, pRn r) : PeS))), .ref x]))], v0_q, v1_q, v2_q, v3_q] 1377 12283 from ?_)
        refine g_aload_n (q := 159) B dX1_goOn_158 rfl rfl (rv_r _) ?_
        refine g_getN (q := 162) B (ci := 2) (k := 10) (j := 5) in_X4 rfl dX1_goOn_159 rfl rfl (Nat.le_of_ble_eq_true rfl) q1905 rfl rfl ?_
        obtain ⟨f_n, mm_n, wm_n, wb_n, hm_n, ho_n, hb_n, he_n⟩ := hv2_q
        refine g_open 13 rfl he_n rfl ?_
        refine (show Go g κ 162 [some (.ref x), some (.int (nI i)), some (.ref a2), some (.int (nI (e + 1))), some (.ref x44), some (.ref x76), some (.int (nI own)), some (.int (nI nd)), some (.int (-1)), none, none, none] [.ref nd_q] [v0, v2, v3, v6, v7, [(x, .inr (0, [.ref b, .ref lp, .ref lk, .ref lr, .ref lt, .ref ls, .ref lm, .ref so, .int (nI (zBn C))]))], v5, v4, pu1_q, pu2_q, [(a2, .inr (2, [.int (nI (pNo ((pNo r, pEv r, pPk r, pEp r, pLf r, rnN T r own, pOn r, pKy r, pCh r, pRn r) : PeS))), .ref ev_q, .ref pl_q, .int (oI (pEp ((pNo r, pEv r, pPk r, pEp r, pLf r, rnN T r own, pOn r, pKy r, pCh r, pRn r) : PeS))), .int (nI (pLf ((pNo r, pEv r, pPk r, pEp r, pLf r, rnN T r own, pOn r, pKy r, pCh r, pRn r) : PeS))), .ref nd_q, .int (nI (pOn ((pNo r, pEv r, pPk r, pEp r, pLf r, rnN T r own, pOn r, pKy r, pCh r, pRn r) : PeS))), .int (nI (pKy ((pNo r, pEv r, pPk r, pEp r, pLf r, rnN T r own, pOn r, pKy r, pCh r, pRn r) : PeS))), .ref ch_q, .int (oI (pRn ((pNo r, pEv r, pPk r, pEp r, pLf r, rnN T r own, pOn r, pKy r, pCh r, pRn r) : PeS))), .ref x]))], v0_q, v1_q, v3_q, wm_n, wb_n] 1377 12283 from ?_)
        refine g_callV (q := 165) (is := [14]) (kc2 := 1376) (ks2 := 12282) B [] (ct_J10_values_m g J (t := nd_q) (f := f_n) (n := nn_q) (md := mm_n) hm_n ) dX1_goOn_162 rfl (rc_in B (ci := 27) rfl (k := 14) rfl (MapP.hm hm_n)) rfl q2761 q1177 q1178 q91 q1179 rfl rfl moJ10_values rfl rfl (by decide) (by decide) (Nat.le_of_ble_eq_true rfl) (Nat.le_of_ble_eq_true rfl) (Nat.le_of_ble_eq_true rfl) (fun _ _ hx => noX_x hx) (fun v162 L1 hp162 => ?_)
        obtain ⟨y162, u0_162, rfl, rfl, hu0_162⟩ := hp162
        refine (show Go g κ 165 [some (.ref x), some (.int (nI i)), some (.ref a2), some (.int (nI (e + 1))), some (.ref x44), some (.ref x76), some (.int (nI own)), some (.int (nI nd)), some (.int (-1)), none, none, none] [.ref y162] [v0, v2, v3, v6, v7, [(x, .inr (0, [.ref b, .ref lp, .ref lk, .ref lr, .ref lt, .ref ls, .ref lm, .ref so, .int (nI (zBn C))]))], v5, v4, pu1_q, pu2_q, [(a2, .inr (2, [.int (nI (pNo ((pNo r, pEv r, pPk r, pEp r, pLf r, rnN T r own, pOn r, pKy r, pCh r, pRn r) : PeS))), .ref ev_q, .ref pl_q, .int (oI (pEp ((pNo r, pEv r, pPk r, pEp r, pLf r, rnN T r own, pOn r, pKy r, pCh r, pRn r) : PeS))), .int (nI (pLf ((pNo r, pEv r, pPk r, pEp r, pLf r, rnN T r own, pOn r, pKy r, pCh r, pRn r) : PeS))), .ref nd_q, .int (nI (pOn ((pNo r, pEv r, pPk r, pEp r, pLf r, rnN T r own, pOn r, pKy r, pCh r, pRn r) : PeS))), .int (nI (pKy ((pNo r, pEv r, pPk r, pEp r, pLf r, rnN T r own, pOn r, pKy r, pCh r, pRn r) : PeS))), .ref ch_q, .int (oI (pRn ((pNo r, pEv r, pPk r, pEp r, pLf r, rnN T r own, pOn r, pKy r, pCh r, pRn r) : PeS))), .ref x]))], v0_q, v1_q, v3_q, wb_n, u0_162] 1376 12282 from ?_)
        refine g_callF (q := 170) (is := [15]) (kc2 := 1375) (ks2 := 12278) B [] (ct_J28_iterator_m g J (y := y162) (t := nd_q) (f := f_n) (n := nn_q) (md := mm_n) hu0_162 ) dX1_goOn_165 rfl (ci := 29) rfl (rc_in B (ci := 29) rfl (k := 15) rfl (MvP.hm hu0_162)) q2763 q1203 q920 q113 q922 q1193 q1192 q921 q919 q1202 rfl rfl mojava_util_Collection_iterator___Ljava_util_Iterator_ rfl rfl (by decide) (by decide) (Nat.le_of_ble_eq_true rfl) (Nat.le_of_ble_eq_true rfl) (Nat.le_of_ble_eq_true rfl) (fun _ _ hx => noX_x hx) (fun v165 L1 hp165 => ?_)
        obtain ⟨i165, u0_165, rfl, rfl, hu0_165⟩ := hp165
        refine (show Go g κ 170 [some (.ref x), some (.int (nI i)), some (.ref a2), some (.int (nI (e + 1))), some (.ref x44), some (.ref x76), some (.int (nI own)), some (.int (nI nd)), some (.int (-1)), none, none, none] [.ref i165] [v0, v2, v3, v6, v7, [(x, .inr (0, [.ref b, .ref lp, .ref lk, .ref lr, .ref lt, .ref ls, .ref lm, .ref so, .int (nI (zBn C))]))], v5, v4, pu1_q, pu2_q, [(a2, .inr (2, [.int (nI (pNo ((pNo r, pEv r, pPk r, pEp r, pLf r, rnN T r own, pOn r, pKy r, pCh r, pRn r) : PeS))), .ref ev_q, .ref pl_q, .int (oI (pEp ((pNo r, pEv r, pPk r, pEp r, pLf r, rnN T r own, pOn r, pKy r, pCh r, pRn r) : PeS))), .int (nI (pLf ((pNo r, pEv r, pPk r, pEp r, pLf r, rnN T r own, pOn r, pKy r, pCh r, pRn r) : PeS))), .ref nd_q, .int (nI (pOn ((pNo r, pEv r, pPk r, pEp r, pLf r, rnN T r own, pOn r, pKy r, pCh r, pRn r) : PeS))), .int (nI (pKy ((pNo r, pEv r, pPk r, pEp r, pLf r, rnN T r own, pOn r, pKy r, pCh r, pRn r) : PeS))), .ref ch_q, .int (oI (pRn ((pNo r, pEv r, pPk r, pEp r, pLf r, rnN T r own, pOn r, pKy r, pCh r, pRn r) : PeS))), .ref x]))], v0_q, v1_q, v3_q, wb_n, u0_165] 1375 12278 from ?_)
        refine g_astore (q := 172) (lv2 := [some (.ref x), some (.int (nI i)), some (.ref a2), some (.int (nI (e + 1))), some (.ref x44), some (.ref x76), some (.int (nI own)), some (.int (nI nd)), some (.int (-1)), some (.ref i165), none, none]) B dX1_goOn_170 rfl (Nat.le_of_ble_eq_true rfl) (rv_r _) rfl ?_
        have lp172 : ∀ (n172 : Nat) (j : Nat) (la : Option Nat) (sv : Option Nat) (l172_0 : va_W) (l172_15 : va_W), BookP g b (zSs C) (zBx C) (zZz C) l172_0 → MItP g 33 i165 nd_q f_n nn_q mm_n j la l172_15 → (j ≤ 128) → (sv = none ∨ sv = some sc) → (∀ n x, n < j → rnN T r own n = some x → (∃ o q, fnd (zSs C) (x, none, 1) = some o ∧ bg ≤ q ∧ q < en ∧ (zBx C)[q]? = some (o, sc)) → sv = some sc) → 128 - j = n172 → Go g κ 172 [some (.ref x), some (.int (nI i)), some (.ref a2), some (.int (nI (e + 1))), some (.ref x44), some (.ref x76), some (.int (nI own)), some (.int (nI nd)), some (.int (oI sv)), some (.ref i165), none, none] [] [l172_0, v2, v3, v6, v7, [(x, .inr (0, [.ref b, .ref lp, .ref lk, .ref lr, .ref lt, .ref ls, .ref lm, .ref so, .int (nI (zBn C))]))], v5, v4, pu1_q, pu2_q, [(a2, .inr (2, [.int (nI (pNo ((pNo r, pEv r, pPk r, pEp r, pLf r, rnN T r own, pOn r, pKy r, pCh r, pRn r) : PeS))), .ref ev_q, .ref pl_q, .int (oI (pEp ((pNo r, pEv r, pPk r, pEp r, pLf r, rnN T r own, pOn r, pKy r, pCh r, pRn r) : PeS))), .int (nI (pLf ((pNo r, pEv r, pPk r, pEp r, pLf r, rnN T r own, pOn r, pKy r, pCh r, pRn r) : PeS))), .ref nd_q, .int (nI (pOn ((pNo r, pEv r, pPk r, pEp r, pLf r, rnN T r own, pOn r, pKy r, pCh r, pRn r) : PeS))), .int (nI (pKy ((pNo r, pEv r, pPk r, pEp r, pLf r, rnN T r own, pOn r, pKy r, pCh r, pRn r) : PeS))), .ref ch_q, .int (oI (pRn ((pNo r, pEv r, pPk r, pEp r, pLf r, rnN T r own, pOn r, pKy r, pCh r, pRn r) : PeS))), .ref x]))], v0_q, v1_q, v3_q, wb_n, l172_15] (770 + 4 * (128 - j)) (6700 + 40 * (128 - j)) := by
          intro n172
          induction n172 using Nat.strongRecOn with
          | _ n172 ih172 =>
          intro j la sv l172_0 l172_15 hl172_0 hl172_15 hj hso hs2 hmu172
          refine g_aload (q := 174) B dX1_goOn_172 rfl rfl (rv_r _) ?_
          refine g_callF (q := 179) (is := [15]) (kc2 := 770 + 4 * (128 - j)) (ks2 := 6700 + 40 * (128 - j)) B [] (ct_J31_hasNext_mv g J (i := i165) (t := nd_q) (f := f_n) (n := nn_q) (md := mm_n) (j := j) (la := la) hl172_15 ) dX1_goOn_174 rfl (ci := 33) rfl (rc_in B (ci := 33) rfl (k := 15) rfl (MItP.hm hl172_15)) q1158 q961 q954 q116 q956 q938 q937 q955 q962 q960 rfl rfl mojava_util_Iterator_hasNext___Z rfl rfl (by decide) (by decide) (Nat.le_of_ble_eq_true rfl) (by omega) (by omega) (fun _ _ hx => noX_x hx) (fun v174 L1 hp174 => ?_)
          obtain ⟨hb174, u0_174, rfl, rfl, hu0_174, hbi_174⟩ := hp174
          refine (show Go g κ 179 [some (.ref x), some (.int (nI i)), some (.ref a2), some (.int (nI (e + 1))), some (.ref x44), some (.ref x76), some (.int (nI own)), some (.int (nI nd)), some (.int (oI sv)), some (.ref i165), none, none] [.int (nI (if hb174 = true then 1 else 0))] [l172_0, v2, v3, v6, v7, [(x, .inr (0, [.ref b, .ref lp, .ref lk, .ref lr, .ref lt, .ref ls, .ref lm, .ref so, .int (nI (zBn C))]))], v5, v4, pu1_q, pu2_q, [(a2, .inr (2, [.int (nI (pNo ((pNo r, pEv r, pPk r, pEp r, pLf r, rnN T r own, pOn r, pKy r, pCh r, pRn r) : PeS))), .ref ev_q, .ref pl_q, .int (oI (pEp ((pNo r, pEv r, pPk r, pEp r, pLf r, rnN T r own, pOn r, pKy r, pCh r, pRn r) : PeS))), .int (nI (pLf ((pNo r, pEv r, pPk r, pEp r, pLf r, rnN T r own, pOn r, pKy r, pCh r, pRn r) : PeS))), .ref nd_q, .int (nI (pOn ((pNo r, pEv r, pPk r, pEp r, pLf r, rnN T r own, pOn r, pKy r, pCh r, pRn r) : PeS))), .int (nI (pKy ((pNo r, pEv r, pPk r, pEp r, pLf r, rnN T r own, pOn r, pKy r, pCh r, pRn r) : PeS))), .ref ch_q, .int (oI (pRn ((pNo r, pEv r, pPk r, pEp r, pLf r, rnN T r own, pOn r, pKy r, pCh r, pRn r) : PeS))), .ref x]))], v0_q, v1_q, v3_q, wb_n, u0_174] (770 + 4 * (128 - j)) (6700 + 40 * (128 - j)) from ?_)
          refine g_if_eq (tgt := 264) (q := 182) B dX1_goOn_179 rfl (by decide) (bo_eq) (fun c179 => ?_) (fun c179 => ?_)
          · skip
            have hno179 := fun z => c179 (hbi_174.mpr z)
            have hsof : sv = some sc := by
              obtain ⟨n, x, h1, h2⟩ := hex
              rcases Nat.lt_or_ge n j with z | z
              · exact hs2 n x z h1 h2
              · have hno9 : ¬ ∃ q, j ≤ q ∧ rnN T r own q ≠ none := (fun ⟨q, h1, h2⟩ => hno179 ⟨q, h1, fun z => h2 ((MoE.iffB hb_n ho_n q).mp z)⟩)
                exact absurd ⟨n, z, by rw [h1]; simp⟩ hno9
            obtain ⟨wz_9, wr_9, hpz_9, hmz_9⟩ := MItP.map hu0_174
            refine g_sub 15 rfl hpz_9 rfl ?_
            refine (show Go g κ 264 [some (.ref x), some (.int (nI i)), some (.ref a2), some (.int (nI (e + 1))), some (.ref x44), some (.ref x76), some (.int (nI own)), some (.int (nI nd)), some (.int (oI sv)), some (.ref i165), none, none] [] [l172_0, v2, v3, v6, v7, [(x, .inr (0, [.ref b, .ref lp, .ref lk, .ref lr, .ref lt, .ref ls, .ref lm, .ref so, .int (nI (zBn C))]))], v5, v4, pu1_q, pu2_q, [(a2, .inr (2, [.int (nI (pNo ((pNo r, pEv r, pPk r, pEp r, pLf r, rnN T r own, pOn r, pKy r, pCh r, pRn r) : PeS))), .ref ev_q, .ref pl_q, .int (oI (pEp ((pNo r, pEv r, pPk r, pEp r, pLf r, rnN T r own, pOn r, pKy r, pCh r, pRn r) : PeS))), .int (nI (pLf ((pNo r, pEv r, pPk r, pEp r, pLf r, rnN T r own, pOn r, pKy r, pCh r, pRn r) : PeS))), .ref nd_q, .int (nI (pOn ((pNo r, pEv r, pPk r, pEp r, pLf r, rnN T r own, pOn r, pKy r, pCh r, pRn r) : PeS))), .int (nI (pKy ((pNo r, pEv r, pPk r, pEp r, pLf r, rnN T r own, pOn r, pKy r, pCh r, pRn r) : PeS))), .ref ch_q, .int (oI (pRn ((pNo r, pEv r, pPk r, pEp r, pLf r, rnN T r own, pOn r, pKy r, pCh r, pRn r) : PeS))), .ref x]))], v0_q, v1_q, v3_q, wb_n, wz_9] (770 + 4 * (128 - j)) (6700 + 40 * (128 - j)) from ?_)
            obtain ⟨wc_10, ewc_10⟩ : ∃ w : va_W, w = ([wz_9, wb_n] : List va_W).flatten := ⟨_, rfl⟩
            have hwc_10 : MoP g (BxE g) nd_q (pNd ((pNo r, pEv r, pPk r, pEp r, pLf r, rnN T r own, pOn r, pKy r, pCh r, pRn r) : PeS)) nn_q wc_10 := by
              rw [ewc_10]
              exact ⟨_, _, _, _, hmz_9, ho_n, hb_n, rfl⟩
            refine g_close (w := wc_10) [15, 14] rfl ewc_10 rfl ?_
            refine (show Go g κ 264 [some (.ref x), some (.int (nI i)), some (.ref a2), some (.int (nI (e + 1))), some (.ref x44), some (.ref x76), some (.int (nI own)), some (.int (nI nd)), some (.int (oI sv)), some (.ref i165), none, none] [] [l172_0, v2, v3, v6, v7, [(x, .inr (0, [.ref b, .ref lp, .ref lk, .ref lr, .ref lt, .ref ls, .ref lm, .ref so, .int (nI (zBn C))]))], v5, v4, pu1_q, pu2_q, [(a2, .inr (2, [.int (nI (pNo ((pNo r, pEv r, pPk r, pEp r, pLf r, rnN T r own, pOn r, pKy r, pCh r, pRn r) : PeS))), .ref ev_q, .ref pl_q, .int (oI (pEp ((pNo r, pEv r, pPk r, pEp r, pLf r, rnN T r own, pOn r, pKy r, pCh r, pRn r) : PeS))), .int (nI (pLf ((pNo r, pEv r, pPk r, pEp r, pLf r, rnN T r own, pOn r, pKy r, pCh r, pRn r) : PeS))), .ref nd_q, .int (nI (pOn ((pNo r, pEv r, pPk r, pEp r, pLf r, rnN T r own, pOn r, pKy r, pCh r, pRn r) : PeS))), .int (nI (pKy ((pNo r, pEv r, pPk r, pEp r, pLf r, rnN T r own, pOn r, pKy r, pCh r, pRn r) : PeS))), .ref ch_q, .int (oI (pRn ((pNo r, pEv r, pPk r, pEp r, pLf r, rnN T r own, pOn r, pKy r, pCh r, pRn r) : PeS))), .ref x]))], v0_q, v1_q, v3_q, wc_10] (770 + 4 * (128 - j)) (6700 + 40 * (128 - j)) from ?_)
            obtain ⟨wc_11, ewc_11⟩ : ∃ w : va_W, w = ([[(a2, .inr (2, [.int (nI (pNo ((pNo r, pEv r, pPk r, pEp r, pLf r, rnN T r own, pOn r, pKy r, pCh r, pRn r) : PeS))), .ref ev_q, .ref pl_q, .int (oI (pEp ((pNo r, pEv r, pPk r, pEp r, pLf r, rnN T r own, pOn r, pKy r, pCh r, pRn r) : PeS))), .int (nI (pLf ((pNo r, pEv r, pPk r, pEp r, pLf r, rnN T r own, pOn r, pKy r, pCh r, pRn r) : PeS))), .ref nd_q, .int (nI (pOn ((pNo r, pEv r, pPk r, pEp r, pLf r, rnN T r own, pOn r, pKy r, pCh r, pRn r) : PeS))), .int (nI (pKy ((pNo r, pEv r, pPk r, pEp r, pLf r, rnN T r own, pOn r, pKy r, pCh r, pRn r) : PeS))), .ref ch_q, .int (oI (pRn ((pNo r, pEv r, pPk r, pEp r, pLf r, rnN T r own, pOn r, pKy r, pCh r, pRn r) : PeS))), .ref x]))], v0_q, v1_q, wc_10, v3_q] : List va_W).flatten := ⟨_, rfl⟩
            have hwc_11 : PersP g a2 x pks ((pNo r, pEv r, pPk r, pEp r, pLf r, rnN T r own, pOn r, pKy r, pCh r, pRn r) : PeS) wc_11 := by
              rw [ewc_11]
              exact ⟨ev_q, pl_q, nd_q, ch_q, ecap_q, pcap_q, nn_q, nc_q, plc_q, md_q, _, _, _, _, hP_q, hpl_q, hec_q, hpc_q, hv0_q, hv1_q, hwc_10, hv3_q, rfl⟩
            refine g_close (w := wc_11) [10, 10, 10, 11, 10] rfl ewc_11 rfl ?_
            refine (show Go g κ 264 [some (.ref x), some (.int (nI i)), some (.ref a2), some (.int (nI (e + 1))), some (.ref x44), some (.ref x76), some (.int (nI own)), some (.int (nI nd)), some (.int (oI sv)), some (.ref i165), none, none] [] [l172_0, v2, v3, v6, v7, [(x, .inr (0, [.ref b, .ref lp, .ref lk, .ref lr, .ref lt, .ref ls, .ref lm, .ref so, .int (nI (zBn C))]))], v5, v4, pu1_q, pu2_q, wc_11] (770 + 4 * (128 - j)) (6700 + 40 * (128 - j)) from ?_)
            obtain ⟨wc_12, ewc_12⟩ : ∃ w : va_W, w = ([pu1_q, wc_11, pu2_q] : List va_W).flatten := ⟨_, rfl⟩
            have hwc_12 : PersL g lp ps (((zPs C).set i ((pNo r, pEv r, pPk r, pEp r, pLf r, rnN T r own, pOn r, pKy r, pCh r, pRn r) : PeS)).set i ((pNo r, pEv r, pPk r, pEp r, pLf r, rnN T r own, pOn r, pKy r, pCh r, pRn r) : PeS)) pcap x pks pmd wc_12 := by
              rw [ewc_12]
              exact hpcl_q _ _ hwc_11
            refine g_close (w := wc_12) [8, 9, 8] rfl ewc_12 rfl ?_
            refine (show Go g κ 264 [some (.ref x), some (.int (nI i)), some (.ref a2), some (.int (nI (e + 1))), some (.ref x44), some (.ref x76), some (.int (nI own)), some (.int (nI nd)), some (.int (oI sv)), some (.ref i165), none, none] [] [l172_0, v2, v3, v6, v7, [(x, .inr (0, [.ref b, .ref lp, .ref lk, .ref lr, .ref lt, .ref ls, .ref lm, .ref so, .int (nI (zBn C))]))], v5, v4, wc_12] (770 + 4 * (128 - j)) (6700 + 40 * (128 - j)) from ?_)
            have hr_13 : PersL g lp ps ((zPs C).set i ((pNo r, pEv r, pPk r, pEp r, pLf r, rnN T r own, pOn r, pKy r, pCh r, pRn r) : PeS)) pcap x pks pmd wc_12 := by have z := hwc_12; rw [List.set_set] at z; exact z
            refine g_lvs (lv2 := [some (.ref x), some (.int (nI i)), some (.ref a2), some (.int (nI (e + 1))), some (.ref x44), some (.ref x76), some (.int (nI own)), some (.int (nI nd)), some (.int (nI sc)), some (.ref i165), none, none]) (st2 := []) (by rw [(show oI sv = nI sc from by rw [hsof]; rfl)]) (by first | rfl | rw [(show oI sv = nI sc from by rw [hsof]; rfl)]) ?_
            refine (show Go g κ 264 [some (.ref x), some (.int (nI i)), some (.ref a2), some (.int (nI (e + 1))), some (.ref x44), some (.ref x76), some (.int (nI own)), some (.int (nI nd)), some (.int (nI sc)), some (.ref i165), none, none] [] [l172_0, v2, v3, v6, v7, [(x, .inr (0, [.ref b, .ref lp, .ref lk, .ref lr, .ref lt, .ref ls, .ref lm, .ref so, .int (nI (zBn C))]))], v5, v4, wc_12] (770 + 4 * (128 - j)) (6700 + 40 * (128 - j)) from ?_)
            obtain ⟨hli_14, hln_14, hel_14⟩ := PersL.at (Sub.self hr_13)
            have hE_15 := hel_14 _ _ _ ha_2 hr1
            refine g_aload_n (q := 265) B dX1_goOn_264 rfl rfl (rv_r _) ?_
            refine g_aload_n (q := 266) B dX1_goOn_265 rfl rfl (rv_r _) ?_
            refine g_aload (q := 268) B dX1_goOn_266 rfl rfl (rv_r _) ?_
            refine g_aload (q := 270) B dX1_goOn_268 rfl rfl (rv_r _) ?_
            refine g_getNM (q := 273) B (ci := 6) (k := 6) (j := 0) in_X11 rfl dX1_goOn_270 rfl rfl (hc_8_0) (Nat.le_of_ble_eq_true rfl) q2064 rfl rfl ?_
            refine g_iload (q := 275) B dX1_goOn_273 rfl rfl ?_
            refine g_iload (q := 277) B dX1_goOn_275 rfl rfl ?_
            refine g_callV (q := 280) (is := [5, 0, 6, 5]) (kc2 := 560) (ks2 := 5020) B [.ref a2, .ref x44, .int (nI st.1), .int (nI nd), .int (nI sc)] (ct_X1_climbs_s_L g J (pps := ps) (Ps := ((zPs C).set i ((pNo r, pEv r, pPk r, pEp r, pLf r, rnN T r own, pOn r, pKy r, pCh r, pRn r) : PeS))) (pcp := pcap) (ix := i) (pmd := pmd) (x := x) (lk := lk) (b := b) (lp := lp) (lr := lr) (lt := lt) (ls := ls) (lm := lm) (so := so) (bxs := (zBn C)) (a := a2) (pks := pks) (r := ((pNo r, pEv r, pPk r, pEp r, pLf r, rnN T r own, pOn r, pKy r, pCh r, pRn r) : PeS)) (ss := (zSs C)) (bx := (zBx C)) (z := (zZz C)) (t := x44) (T := T) (l := st.1) (fm := nd) (sec := sc) (TA := (PhS (zSs C))) (W3 := v4) hl172_0 hr_13 (ha_2) (hr1) (hE_5) (hsl) (hnd) (hsc) (by rw [hM]; show (zSs C).length ≤ 990; omega) (by rw [hM]; exact Nat.le_refl _)) dX1_goOn_277 rfl (rc_at B (ci := 0) rfl (k := 5) rfl) rfl q2768 q2770 qs43 q77 q2771 rfl rfl moX1_climbs rfl rfl (by decide) (by decide) (Nat.le_of_ble_eq_true rfl) (by omega) (by omega) (fun _ _ hx => noX_x hx) (fun v277 L1 hp277 => ?_)
            obtain ⟨u1_277, u2_277, rfl, rfl, hu1_277, hu2_277⟩ := hp277
            refine (show Go g κ 280 [some (.ref x), some (.int (nI i)), some (.ref a2), some (.int (nI (e + 1))), some (.ref x44), some (.ref x76), some (.int (nI own)), some (.int (nI nd)), some (.int (nI sc)), some (.ref i165), none, none] [.int (nI ((clmK T st.1 nd (((zSs C), sc, false, pNd ((pNo r, pEv r, pPk r, pEp r, pLf r, rnN T r own, pOn r, pKy r, pCh r, pRn r) : PeS)) : CmS) T.1).2.1))] [v2, v3, v6, v7, v5, [(x, .inr (0, [.ref b, .ref lp, .ref lk, .ref lr, .ref lt, .ref ls, .ref lm, .ref so, .int (nI (zBn C))]))], u1_277, u2_277, v4] 560 5020 from ?_)
            refine g_stk (y := .int (nI last)) (by rw [hM]) ?_
            have hr_16 : BookP g b (zSs C) (zBx C) (zZz C) u1_277 := by have z := hu1_277; rw [hM] at z; exact z
            have hr_17 : PersL g lp ps ((zPs C).set i ((pNo r, pEv r, pPk r, pEp r, pLf r, N2, pOn r, pKy r, pCh r, pRn r) : PeS)) pcap x pks pmd u2_277 := by have z := hu2_277; rw [List.set_set, hM] at z; exact z
            refine (show Go g κ 280 [some (.ref x), some (.int (nI i)), some (.ref a2), some (.int (nI (e + 1))), some (.ref x44), some (.ref x76), some (.int (nI own)), some (.int (nI nd)), some (.int (nI sc)), some (.ref i165), none, none] [.int (nI last)] [v2, v3, v6, v7, v5, [(x, .inr (0, [.ref b, .ref lp, .ref lk, .ref lr, .ref lt, .ref ls, .ref lm, .ref so, .int (nI (zBn C))]))], u1_277, u2_277, v4] 560 5020 from ?_)
            have hr2 : ((zPs C).set i ((pNo r, pEv r, pPk r, pEp r, pLf r, N2, pOn r, pKy r, pCh r, pRn r) : PeS))[i]? = some ((pNo r, pEv r, pPk r, pEp r, pLf r, N2, pOn r, pKy r, pCh r, pRn r) : PeS) := set_at hr
            obtain ⟨hli_18, hln_18, hel_18⟩ := PersL.at (Sub.self hr_17)
            have hE_19 := hel_18 _ _ _ ha_2 hr2
            have hul := fnd_lt hu
            have hbl := fnd_lt hb
            have hesl := fnd_lt hes
            refine g_istore (q := 282) (lv2 := [some (.ref x), some (.int (nI i)), some (.ref a2), some (.int (nI (e + 1))), some (.ref x44), some (.ref x76), some (.int (nI own)), some (.int (nI nd)), some (.int (nI sc)), some (.int (nI last)), none, none]) B dX1_goOn_280 rfl (Nat.le_of_ble_eq_true rfl) rfl ?_
            refine g_aload_n (q := 283) B dX1_goOn_282 rfl rfl (rv_r _) ?_
            refine g_get (q := 286) B (ci := 0) (k := 5) (j := 0) in_X1 rfl dX1_goOn_283 rfl rfl (Nat.le_of_ble_eq_true rfl) q277 rfl rfl ?_
            refine g_aload_n (q := 287) B dX1_goOn_286 rfl rfl (rv_r _) ?_
            obtain ⟨ev_20, pl_20, nd_20, ch_20, ecap_20, pcap_20, nn_20, nc_20, plc_20, md_20, hP_20, hpl_20, hec_20, hpc_20, hc_20_0, hs_20_0, hs_20_1, hs_20_2, hs_20_3⟩ := PersP.at (hE_19)
            refine g_getNM (q := 290) B (ci := 2) (k := 7) (j := 6) in_X4 rfl dX1_goOn_287 rfl rfl (hc_20_0) (Nat.le_of_ble_eq_true rfl) q1907 rfl rfl ?_
            refine g_aload_n (q := 291) B dX1_goOn_290 rfl rfl (rv_r _) ?_
            refine g_get (q := 294) B (ci := 0) (k := 5) (j := 0) in_X1 rfl dX1_goOn_291 rfl rfl (Nat.le_of_ble_eq_true rfl) q277 rfl rfl ?_
            refine g_iload (q := 296) B dX1_goOn_294 rfl rfl ?_
            refine g_iconst (v := nI 2) (q := 297) B dX1_goOn_296 rfl (by decide) ?_
            refine g_callV (q := 300) (is := [6]) (kc2 := 560 - (20 + 13 * (PhS (zSs C) - PhS (zSs C)))) (ks2 := 5020 - (170 + 55 * (PhS (zSs C) - PhS (zSs C)))) B [.int (nI last), .int (nI 2)] (ct_X2_from_p g J (b := b) (ss := (zSs C)) (bx := (zBx C)) (z := (zZz C)) (one := last) (l := 2) (s2 := (zSs C)) (i := u) hr_16 (by omega) (by omega) (Or.inl (by decide)) (frm_s hu)) dX1_goOn_297 rfl (rc_in B (ci := 1) rfl (k := 6) rfl (BookP.hm hr_16)) rfl q1229 q1230 q1231 q78 q1232 rfl rfl moX2_from rfl rfl (by decide) (by decide) (Nat.le_of_ble_eq_true rfl) (by omega) (by omega) (fun _ _ hx => noX_x hx) (fun v297 L1 hp297 => ?_)
            obtain ⟨u0_297, rfl, rfl, hu0_297, hph_297⟩ := hp297
            refine (show Go g κ 300 [some (.ref x), some (.int (nI i)), some (.ref a2), some (.int (nI (e + 1))), some (.ref x44), some (.ref x76), some (.int (nI own)), some (.int (nI nd)), some (.int (nI sc)), some (.int (nI last)), none, none] [.int (nI u), .int (nI (pOn ((pNo r, pEv r, pPk r, pEp r, pLf r, N2, pOn r, pKy r, pCh r, pRn r) : PeS))), .ref b] [v2, v3, v6, v7, v5, [(x, .inr (0, [.ref b, .ref lp, .ref lk, .ref lr, .ref lt, .ref ls, .ref lm, .ref so, .int (nI (zBn C))]))], u2_277, v4, u0_297] (560 - (20 + 13 * (PhS (zSs C) - PhS (zSs C)))) (5020 - (170 + 55 * (PhS (zSs C) - PhS (zSs C)))) from ?_)
            refine g_iconst (v := nI 3) (q := 301) B dX1_goOn_300 rfl (by decide) ?_
            refine g_callV (q := 304) (is := [8]) (kc2 := (560 - (20 + 13 * (PhS (zSs C) - PhS (zSs C)))) - (20 + 13 * (PhS (zSs C) - PhS (zSs C)))) (ks2 := (5020 - (170 + 55 * (PhS (zSs C) - PhS (zSs C)))) - (170 + 55 * (PhS (zSs C) - PhS (zSs C)))) B [.int (nI (pOn ((pNo r, pEv r, pPk r, pEp r, pLf r, N2, pOn r, pKy r, pCh r, pRn r) : PeS))), .int (nI u), .int (nI 3)] (ct_X2_from_2_p g J (b := b) (ss := (zSs C)) (bx := (zBx C)) (z := (zZz C)) (one := pOn ((pNo r, pEv r, pPk r, pEp r, pLf r, N2, pOn r, pKy r, pCh r, pRn r) : PeS)) (other := u) (s2 := (zSs C)) (i := bf) hu0_297 (hhl_i _ (Or.inr (Or.inr (Or.inl ⟨by rw [he]; simp, Or.inl rfl⟩)))) (hul) (by omega) (frm_s hb)) dX1_goOn_301 rfl (rc_in B (ci := 1) rfl (k := 8) rfl (BookP.hm hu0_297)) rfl q2587 q2588 q2589 q78 q2590 rfl rfl moX2_from_2 rfl rfl (by decide) (by decide) (Nat.le_of_ble_eq_true rfl) (by omega) (by omega) (fun _ _ hx => noX_x hx) (fun v301 L1 hp301 => ?_)
            obtain ⟨u0_301, rfl, rfl, hu0_301, hph_301⟩ := hp301
            refine (show Go g κ 304 [some (.ref x), some (.int (nI i)), some (.ref a2), some (.int (nI (e + 1))), some (.ref x44), some (.ref x76), some (.int (nI own)), some (.int (nI nd)), some (.int (nI sc)), some (.int (nI last)), none, none] [.int (nI bf)] [v2, v3, v6, v7, v5, [(x, .inr (0, [.ref b, .ref lp, .ref lk, .ref lr, .ref lt, .ref ls, .ref lm, .ref so, .int (nI (zBn C))]))], u2_277, v4, u0_301] ((560 - (20 + 13 * (PhS (zSs C) - PhS (zSs C)))) - (20 + 13 * (PhS (zSs C) - PhS (zSs C)))) ((5020 - (170 + 55 * (PhS (zSs C) - PhS (zSs C)))) - (170 + 55 * (PhS (zSs C) - PhS (zSs C)))) from ?_)
            refine g_istore (q := 306) (lv2 := [some (.ref x), some (.int (nI i)), some (.ref a2), some (.int (nI (e + 1))), some (.ref x44), some (.ref x76), some (.int (nI own)), some (.int (nI nd)), some (.int (nI sc)), some (.int (nI last)), some (.int (nI bf)), none]) B dX1_goOn_304 rfl (Nat.le_of_ble_eq_true rfl) rfl ?_
            refine g_aload_n (q := 307) B dX1_goOn_306 rfl rfl (rv_r _) ?_
            refine g_iload_n (q := 308) B dX1_goOn_307 rfl rfl ?_
            refine g_aload_n (q := 309) B dX1_goOn_308 rfl rfl (rv_r _) ?_
            refine g_get (q := 312) B (ci := 0) (k := 5) (j := 0) in_X1 rfl dX1_goOn_309 rfl rfl (Nat.le_of_ble_eq_true rfl) q277 rfl rfl ?_
            refine g_iload (q := 314) B dX1_goOn_312 rfl rfl ?_
            refine g_iconst (v := nI 4) (q := 315) B dX1_goOn_314 rfl (by decide) ?_
            refine g_callV (q := 318) (is := [8]) (kc2 := ((560 - (20 + 13 * (PhS (zSs C) - PhS (zSs C)))) - (20 + 13 * (PhS (zSs C) - PhS (zSs C)))) - (20 + 13 * (PhS (zSs C) - PhS (zSs C)))) (ks2 := ((5020 - (170 + 55 * (PhS (zSs C) - PhS (zSs C)))) - (170 + 55 * (PhS (zSs C) - PhS (zSs C)))) - (170 + 55 * (PhS (zSs C) - PhS (zSs C)))) B [.int (nI bf), .int (nI 4)] (ct_X2_from_p g J (b := b) (ss := (zSs C)) (bx := (zBx C)) (z := (zZz C)) (one := bf) (l := 4) (s2 := (zSs C)) (i := es) hu0_301 (by omega) (by omega) (Or.inl (by decide)) (frm_s hes)) dX1_goOn_315 rfl (rc_in B (ci := 1) rfl (k := 8) rfl (BookP.hm hu0_301)) rfl q1229 q1230 q1231 q78 q1232 rfl rfl moX2_from rfl rfl (by decide) (by decide) (Nat.le_of_ble_eq_true rfl) (by omega) (by omega) (fun _ _ hx => noX_x hx) (fun v315 L1 hp315 => ?_)
            obtain ⟨u0_315, rfl, rfl, hu0_315, hph_315⟩ := hp315
            refine (show Go g κ 318 [some (.ref x), some (.int (nI i)), some (.ref a2), some (.int (nI (e + 1))), some (.ref x44), some (.ref x76), some (.int (nI own)), some (.int (nI nd)), some (.int (nI sc)), some (.int (nI last)), some (.int (nI bf)), none] [.int (nI es), .int (nI (e + 1)), .ref a2] [v2, v3, v6, v7, v5, [(x, .inr (0, [.ref b, .ref lp, .ref lk, .ref lr, .ref lt, .ref ls, .ref lm, .ref so, .int (nI (zBn C))]))], u2_277, v4, u0_315] (((560 - (20 + 13 * (PhS (zSs C) - PhS (zSs C)))) - (20 + 13 * (PhS (zSs C) - PhS (zSs C)))) - (20 + 13 * (PhS (zSs C) - PhS (zSs C)))) (((5020 - (170 + 55 * (PhS (zSs C) - PhS (zSs C)))) - (170 + 55 * (PhS (zSs C) - PhS (zSs C)))) - (170 + 55 * (PhS (zSs C) - PhS (zSs C)))) from ?_)
            refine g_callV (q := 321) (is := [6, 0, 4, 4, 4]) (kc2 := 0) (ks2 := 0) B [.int (nI (e + 1)), .int (nI es)] (ct_X4_enters_L g J (pps := ps) (Ps := ((zPs C).set i ((pNo r, pEv r, pPk r, pEp r, pLf r, N2, pOn r, pKy r, pCh r, pRn r) : PeS))) (pcp := pcap) (ix := i) (pmd := pmd) (a := a2) (x := x) (pks := pks) (r := ((pNo r, pEv r, pPk r, pEp r, pLf r, N2, pOn r, pKy r, pCh r, pRn r) : PeS)) (lk := lk) (Ks := (zKs C)) (kcap := kcap) (b := b) (ss := (zSs C)) (bx := (zBx C)) (z := (zZz C)) (Ts := (zTs C)) (tcap := tcap) (lp := lp) (lr := lr) (lt := lt) (ls := ls) (lm := lm) (so := so) (bxs := (zBn C)) (nx := e + 1) (sec := es) (T := T) (lf := own) (s1 := (zSs C)) (on := on) (s2 := (zSs C)) (ky := ky) (TA := (PhS (zSs C))) hr_17 hv2 hv4 hu0_315 (ha_2) (hr2) (hT) (by show lof T (pNo r) = some own; rw [hno_i]; exact hlo) (hesl) (frm_s hk5) (frm_s hk6) (by rw [hchs]; show (zSs C).length ≤ 998; omega) (by rw [hchs]; exact Nat.le_refl _) (by omega) (hpk_i)) dX1_goOn_318 rfl (rc_in B (ci := 2) rfl (k := 6) rfl (Sub.hm (hE_19) fun _ z => PersP.hm z)) rfl q2168 q2169 q2170 q90 q2171 rfl rfl moX4_enters rfl rfl (by decide) (by decide) (Nat.le_of_ble_eq_true rfl) (by omega) (by omega) (fun _ _ hx => noX_x hx) (fun v318 L1 hp318 => ?_)
            obtain ⟨E318, u0_318, u4_318, rfl, rfl, hu0_318, hu4_318, hE_318⟩ := hp318
            refine (show Go g κ 321 [some (.ref x), some (.int (nI i)), some (.ref a2), some (.int (nI (e + 1))), some (.ref x44), some (.ref x76), some (.int (nI own)), some (.int (nI nd)), some (.int (nI sc)), some (.int (nI last)), some (.int (nI bf)), none] [] [v3, v6, v7, v5, u0_318, v2, [(x, .inr (0, [.ref b, .ref lp, .ref lk, .ref lr, .ref lt, .ref ls, .ref lm, .ref so, .int (nI (zBn C))]))], v4, u4_318] 0 0 from ?_)
            have hr_21 : BookP g b (zSs C) (zBx C) (zZz C) u4_318 := by have z := hu4_318; rw [hchs] at z; exact z
            have hr_22 : PersL g lp ps ((zPs C).set i ((pNo r, E318, pPk r, some (e + 1), own, drpF T N2, on, ky, CH, none) : PeS)) pcap x pks pmd u0_318 := by have z := hu0_318; rw [List.set_set, hchs] at z; exact z
            have hEz := hE_318
            rw [hchs] at hEz
            refine g_bipush (v := nI 109) (q := 323) B dX1_goOn_321 rfl (by decide) ?_
            obtain ⟨wc_23, ewc_23⟩ : ∃ w : va_W, w = ([[(x, .inr (0, [.ref b, .ref lp, .ref lk, .ref lr, .ref lt, .ref ls, .ref lm, .ref so, .int (nI (zBn C))]))], u4_318, u0_318, v2, v3, v4, v5, v6, v7] : List va_W).flatten := ⟨_, rfl⟩
            have hwc_23 : KgP g x ((zSs C, zBx C, zZz C, (zPs C).set i ((pNo r, E318, pPk r, some (e + 1), own, drpF T N2, on, ky, CH, none) : PeS), zKs C, zRs C, zTs C, zSt C, zMs C, zSo C, zBn C) : KsS) wc_23 := by
              rw [ewc_23]
              exact ⟨b, lp, lk, lr, lt, ls, lm, so, pcap, kcap, rcap, tcap, scap, mcap, socap, ps, pks, pmd, _, _, _, _, _, _, _, _, hcap, hr_21, hr_22, hv2, hv3, hv4, hv5, hv6, hv7, rfl⟩
            refine g_close (w := wc_23) [6, 7, 4, 4, 0, 3, 2, 0, 0] rfl ewc_23 rfl ?_
            refine (show Go g κ 323 [some (.ref x), some (.int (nI i)), some (.ref a2), some (.int (nI (e + 1))), some (.ref x44), some (.ref x76), some (.int (nI own)), some (.int (nI nd)), some (.int (nI sc)), some (.int (nI last)), some (.int (nI bf)), none] [.int (nI 109)] [wc_23] 0 0 from ?_)
            exact g_zret B E dX1_goOn_323 (by decide) (⟨E318, _, rfl, rfl, hwc_23, hEz⟩)
          · skip
            have c179 := Classical.not_not.mp c179
            have hne179 := hbi_174.mp c179
            refine g_aload (q := 184) B dX1_goOn_182 rfl rfl (rv_r _) ?_
            refine g_callF (q := 189) (is := [15]) (kc2 := 770 + 4 * (128 - j)) (ks2 := 6700 + 40 * (128 - j)) B [] (ct_J34_next_m g J (i := i165) (t := nd_q) (f := f_n) (n := nn_q) (md := mm_n) (j := j) (la := la) hu0_174 (hne179)) dX1_goOn_184 rfl (ci := 33) rfl (rc_in B (ci := 33) rfl (k := 15) rfl (MItP.hm hu0_174)) q1160 q1042 q1044 q119 q1046 q966 q965 q1045 q1043 q960 rfl rfl mojava_util_Iterator_next___Ljava_lang_Object_ rfl rfl (by decide) (by decide) (Nat.le_of_ble_eq_true rfl) (by omega) (by omega) (fun _ _ hx => noX_x hx) (fun v184 L1 hp184 => ?_)
            obtain ⟨k184, v184, u0_184, rfl, rfl, hu0_184, hj_184, hk_184, hv_184, hbt_184⟩ := hp184
            refine (show Go g κ 189 [some (.ref x), some (.int (nI i)), some (.ref a2), some (.int (nI (e + 1))), some (.ref x44), some (.ref x76), some (.int (nI own)), some (.int (nI nd)), some (.int (oI sv)), some (.ref i165), none, none] [.ref v184] [l172_0, v2, v3, v6, v7, [(x, .inr (0, [.ref b, .ref lp, .ref lk, .ref lr, .ref lt, .ref ls, .ref lm, .ref so, .int (nI (zBn C))]))], v5, v4, pu1_q, pu2_q, [(a2, .inr (2, [.int (nI (pNo ((pNo r, pEv r, pPk r, pEp r, pLf r, rnN T r own, pOn r, pKy r, pCh r, pRn r) : PeS))), .ref ev_q, .ref pl_q, .int (oI (pEp ((pNo r, pEv r, pPk r, pEp r, pLf r, rnN T r own, pOn r, pKy r, pCh r, pRn r) : PeS))), .int (nI (pLf ((pNo r, pEv r, pPk r, pEp r, pLf r, rnN T r own, pOn r, pKy r, pCh r, pRn r) : PeS))), .ref nd_q, .int (nI (pOn ((pNo r, pEv r, pPk r, pEp r, pLf r, rnN T r own, pOn r, pKy r, pCh r, pRn r) : PeS))), .int (nI (pKy ((pNo r, pEv r, pPk r, pEp r, pLf r, rnN T r own, pOn r, pKy r, pCh r, pRn r) : PeS))), .ref ch_q, .int (oI (pRn ((pNo r, pEv r, pPk r, pEp r, pLf r, rnN T r own, pOn r, pKy r, pCh r, pRn r) : PeS))), .ref x]))], v0_q, v1_q, v3_q, wb_n, u0_184] (770 + 4 * (128 - j)) (6700 + 40 * (128 - j)) from ?_)
            obtain ⟨rv184, hrv184, hsv184⟩ := MoE.at hb_n ho_n hv_184
            have hbv184 := Sub.box hsv184
            have hb184 := hNb _ _ hrv184
            refine g_castRS (ci := 35) (q := 192) B rfl (rc_bxat B J (k := 14) rfl hbv184) dX1_goOn_189 rfl q1829 ?_
            refine g_callV (q := 195) (is := [14]) (kc2 := 770 + 4 * (128 - j)) (ks2 := 6700 + 40 * (128 - j)) B [] (ct_J26_intValue_b g J (a := v184) (v := nI rv184) (wb := wb_n)  (hbv184)) dX1_goOn_192 rfl (rc_bxat B J (k := 14) rfl hbv184) rfl q1830 q1052 q1053 q111 q1054 rfl rfl moJ26_intValue rfl rfl (by decide) (by decide) (Nat.le_of_ble_eq_true rfl) (by omega) (by omega) (fun _ _ hx => noX_x hx) (fun v192 L1 hp192 => ?_)
            obtain ⟨rfl, rfl⟩ := hp192
            refine (show Go g κ 195 [some (.ref x), some (.int (nI i)), some (.ref a2), some (.int (nI (e + 1))), some (.ref x44), some (.ref x76), some (.int (nI own)), some (.int (nI nd)), some (.int (oI sv)), some (.ref i165), none, none] [.int (nI rv184)] [l172_0, v2, v3, v6, v7, [(x, .inr (0, [.ref b, .ref lp, .ref lk, .ref lr, .ref lt, .ref ls, .ref lm, .ref so, .int (nI (zBn C))]))], v5, v4, pu1_q, pu2_q, [(a2, .inr (2, [.int (nI (pNo ((pNo r, pEv r, pPk r, pEp r, pLf r, rnN T r own, pOn r, pKy r, pCh r, pRn r) : PeS))), .ref ev_q, .ref pl_q, .int (oI (pEp ((pNo r, pEv r, pPk r, pEp r, pLf r, rnN T r own, pOn r, pKy r, pCh r, pRn r) : PeS))), .int (nI (pLf ((pNo r, pEv r, pPk r, pEp r, pLf r, rnN T r own, pOn r, pKy r, pCh r, pRn r) : PeS))), .ref nd_q, .int (nI (pOn ((pNo r, pEv r, pPk r, pEp r, pLf r, rnN T r own, pOn r, pKy r, pCh r, pRn r) : PeS))), .int (nI (pKy ((pNo r, pEv r, pPk r, pEp r, pLf r, rnN T r own, pOn r, pKy r, pCh r, pRn r) : PeS))), .ref ch_q, .int (oI (pRn ((pNo r, pEv r, pPk r, pEp r, pLf r, rnN T r own, pOn r, pKy r, pCh r, pRn r) : PeS))), .ref x]))], v0_q, v1_q, v3_q, u0_184, wb_n] (770 + 4 * (128 - j)) (6700 + 40 * (128 - j)) from ?_)
            refine g_istore (q := 197) (lv2 := [some (.ref x), some (.int (nI i)), some (.ref a2), some (.int (nI (e + 1))), some (.ref x44), some (.ref x76), some (.int (nI own)), some (.int (nI nd)), some (.int (oI sv)), some (.ref i165), some (.int (nI rv184)), none]) B dX1_goOn_195 rfl (Nat.le_of_ble_eq_true rfl) rfl ?_
            refine g_aload_n (q := 198) B dX1_goOn_197 rfl rfl (rv_r _) ?_
            refine g_get (q := 201) B (ci := 0) (k := 5) (j := 0) in_X1 rfl dX1_goOn_198 rfl rfl (Nat.le_of_ble_eq_true rfl) q277 rfl rfl ?_
            refine g_aload (q := 203) B dX1_goOn_201 rfl rfl (rv_r _) ?_
            refine g_getNM (q := 206) B (ci := 6) (k := 6) (j := 3) in_X11 rfl dX1_goOn_203 rfl rfl (hc_8_0) (Nat.le_of_ble_eq_true rfl) q2070 rfl rfl ?_
            refine g_iload (q := 208) B dX1_goOn_206 rfl rfl ?_
            refine g_callS (q := 211) (is := []) (kc2 := 770 + 4 * (128 - j)) (ks2 := 6700 + 40 * (128 - j)) B [.int (nI nd)] (ct_J26_valueOf_k g J (k := nd)  (by omega)) dX1_goOn_208 rfl q685 q686 q111 q687 rfl rfl moJ26_valueOf rfl rfl (by decide) (by decide) (Nat.le_of_ble_eq_true rfl) (by omega) (by omega) (fun _ _ hx => noX_x hx) (fun v208 L1 hp208 => ?_)
            obtain ⟨rfl, rfl⟩ := hp208
            refine (show Go g κ 211 [some (.ref x), some (.int (nI i)), some (.ref a2), some (.int (nI (e + 1))), some (.ref x44), some (.ref x76), some (.int (nI own)), some (.int (nI nd)), some (.int (oI sv)), some (.ref i165), some (.int (nI rv184)), none] [.ref (kI g nd), .ref bb_8, .ref b] [l172_0, v2, v3, v6, v7, [(x, .inr (0, [.ref b, .ref lp, .ref lk, .ref lr, .ref lt, .ref ls, .ref lm, .ref so, .int (nI (zBn C))]))], v5, v4, pu1_q, pu2_q, [(a2, .inr (2, [.int (nI (pNo ((pNo r, pEv r, pPk r, pEp r, pLf r, rnN T r own, pOn r, pKy r, pCh r, pRn r) : PeS))), .ref ev_q, .ref pl_q, .int (oI (pEp ((pNo r, pEv r, pPk r, pEp r, pLf r, rnN T r own, pOn r, pKy r, pCh r, pRn r) : PeS))), .int (nI (pLf ((pNo r, pEv r, pPk r, pEp r, pLf r, rnN T r own, pOn r, pKy r, pCh r, pRn r) : PeS))), .ref nd_q, .int (nI (pOn ((pNo r, pEv r, pPk r, pEp r, pLf r, rnN T r own, pOn r, pKy r, pCh r, pRn r) : PeS))), .int (nI (pKy ((pNo r, pEv r, pPk r, pEp r, pLf r, rnN T r own, pOn r, pKy r, pCh r, pRn r) : PeS))), .ref ch_q, .int (oI (pRn ((pNo r, pEv r, pPk r, pEp r, pLf r, rnN T r own, pOn r, pKy r, pCh r, pRn r) : PeS))), .ref x]))], v0_q, v1_q, v3_q, u0_184, wb_n] (770 + 4 * (128 - j)) (6700 + 40 * (128 - j)) from ?_)
            refine g_callV (q := 214) (is := [6]) (kc2 := 770 + 4 * (128 - j)) (ks2 := 6700 + 40 * (128 - j)) B [.ref (kI g nd)] (ct_NmP_getS g J (t := bb_8) (F := st.2.2.2.1) (n := nb_8) (k := nd) (r := bg) (W0 := v5)  (hs_8_0) (hbg) (by omega)) dX1_goOn_211 rfl (rc_in B (ci := 27) rfl (k := 6) rfl (Sub.hm (hs_8_0) fun _ z => MoP.hm z)) rfl q1825 q1826 q1827 q91 q1828 rfl rfl moJ10_get rfl rfl (by decide) (by decide) (Nat.le_of_ble_eq_true rfl) (by omega) (by omega) (fun _ _ hx => noX_x hx) (fun v211 L1 hp211 => ?_)
            obtain ⟨a211, rfl, rfl, hE_211⟩ := hp211
            refine (show Go g κ 214 [some (.ref x), some (.int (nI i)), some (.ref a2), some (.int (nI (e + 1))), some (.ref x44), some (.ref x76), some (.int (nI own)), some (.int (nI nd)), some (.int (oI sv)), some (.ref i165), some (.int (nI rv184)), none] [.ref a211, .ref b] [l172_0, v2, v3, v6, v7, [(x, .inr (0, [.ref b, .ref lp, .ref lk, .ref lr, .ref lt, .ref ls, .ref lm, .ref so, .int (nI (zBn C))]))], v4, pu1_q, pu2_q, [(a2, .inr (2, [.int (nI (pNo ((pNo r, pEv r, pPk r, pEp r, pLf r, rnN T r own, pOn r, pKy r, pCh r, pRn r) : PeS))), .ref ev_q, .ref pl_q, .int (oI (pEp ((pNo r, pEv r, pPk r, pEp r, pLf r, rnN T r own, pOn r, pKy r, pCh r, pRn r) : PeS))), .int (nI (pLf ((pNo r, pEv r, pPk r, pEp r, pLf r, rnN T r own, pOn r, pKy r, pCh r, pRn r) : PeS))), .ref nd_q, .int (nI (pOn ((pNo r, pEv r, pPk r, pEp r, pLf r, rnN T r own, pOn r, pKy r, pCh r, pRn r) : PeS))), .int (nI (pKy ((pNo r, pEv r, pPk r, pEp r, pLf r, rnN T r own, pOn r, pKy r, pCh r, pRn r) : PeS))), .ref ch_q, .int (oI (pRn ((pNo r, pEv r, pPk r, pEp r, pLf r, rnN T r own, pOn r, pKy r, pCh r, pRn r) : PeS))), .ref x]))], v0_q, v1_q, v3_q, u0_184, wb_n, v5] (770 + 4 * (128 - j)) (6700 + 40 * (128 - j)) from ?_)
            have hbk211 := Sub.box hE_211
            refine g_castRS (ci := 35) (q := 217) B rfl (rc_bxat B J (k := 15) rfl hbk211) dX1_goOn_214 rfl q1829 ?_
            refine g_callV (q := 220) (is := [15]) (kc2 := 770 + 4 * (128 - j)) (ks2 := 6700 + 40 * (128 - j)) B [] (ct_J26_intValue_b g J (a := a211) (v := nI bg) (wb := v5)  (hbk211)) dX1_goOn_217 rfl (rc_bxat B J (k := 15) rfl hbk211) rfl q1830 q1052 q1053 q111 q1054 rfl rfl moJ26_intValue rfl rfl (by decide) (by decide) (Nat.le_of_ble_eq_true rfl) (by omega) (by omega) (fun _ _ hx => noX_x hx) (fun v217 L1 hp217 => ?_)
            obtain ⟨rfl, rfl⟩ := hp217
            refine (show Go g κ 220 [some (.ref x), some (.int (nI i)), some (.ref a2), some (.int (nI (e + 1))), some (.ref x44), some (.ref x76), some (.int (nI own)), some (.int (nI nd)), some (.int (oI sv)), some (.ref i165), some (.int (nI rv184)), none] [.int (nI bg), .ref b] [l172_0, v2, v3, v6, v7, [(x, .inr (0, [.ref b, .ref lp, .ref lk, .ref lr, .ref lt, .ref ls, .ref lm, .ref so, .int (nI (zBn C))]))], v4, pu1_q, pu2_q, [(a2, .inr (2, [.int (nI (pNo ((pNo r, pEv r, pPk r, pEp r, pLf r, rnN T r own, pOn r, pKy r, pCh r, pRn r) : PeS))), .ref ev_q, .ref pl_q, .int (oI (pEp ((pNo r, pEv r, pPk r, pEp r, pLf r, rnN T r own, pOn r, pKy r, pCh r, pRn r) : PeS))), .int (nI (pLf ((pNo r, pEv r, pPk r, pEp r, pLf r, rnN T r own, pOn r, pKy r, pCh r, pRn r) : PeS))), .ref nd_q, .int (nI (pOn ((pNo r, pEv r, pPk r, pEp r, pLf r, rnN T r own, pOn r, pKy r, pCh r, pRn r) : PeS))), .int (nI (pKy ((pNo r, pEv r, pPk r, pEp r, pLf r, rnN T r own, pOn r, pKy r, pCh r, pRn r) : PeS))), .ref ch_q, .int (oI (pRn ((pNo r, pEv r, pPk r, pEp r, pLf r, rnN T r own, pOn r, pKy r, pCh r, pRn r) : PeS))), .ref x]))], v0_q, v1_q, v3_q, u0_184, wb_n, v5] (770 + 4 * (128 - j)) (6700 + 40 * (128 - j)) from ?_)
            refine g_aload (q := 222) B dX1_goOn_220 rfl rfl (rv_r _) ?_
            refine g_getNM (q := 225) B (ci := 6) (k := 15) (j := 4) in_X11 rfl dX1_goOn_222 rfl rfl (hc_8_0) (Nat.le_of_ble_eq_true rfl) q2072 rfl rfl ?_
            refine g_iload (q := 227) B dX1_goOn_225 rfl rfl ?_
            refine g_callS (q := 230) (is := []) (kc2 := 770 + 4 * (128 - j)) (ks2 := 6700 + 40 * (128 - j)) B [.int (nI nd)] (ct_J26_valueOf_k g J (k := nd)  (by omega)) dX1_goOn_227 rfl q685 q686 q111 q687 rfl rfl moJ26_valueOf rfl rfl (by decide) (by decide) (Nat.le_of_ble_eq_true rfl) (by omega) (by omega) (fun _ _ hx => noX_x hx) (fun v227 L1 hp227 => ?_)
            obtain ⟨rfl, rfl⟩ := hp227
            refine (show Go g κ 230 [some (.ref x), some (.int (nI i)), some (.ref a2), some (.int (nI (e + 1))), some (.ref x44), some (.ref x76), some (.int (nI own)), some (.int (nI nd)), some (.int (oI sv)), some (.ref i165), some (.int (nI rv184)), none] [.ref (kI g nd), .ref be_8, .int (nI bg), .ref b] [l172_0, v2, v3, v6, v7, [(x, .inr (0, [.ref b, .ref lp, .ref lk, .ref lr, .ref lt, .ref ls, .ref lm, .ref so, .int (nI (zBn C))]))], v4, pu1_q, pu2_q, [(a2, .inr (2, [.int (nI (pNo ((pNo r, pEv r, pPk r, pEp r, pLf r, rnN T r own, pOn r, pKy r, pCh r, pRn r) : PeS))), .ref ev_q, .ref pl_q, .int (oI (pEp ((pNo r, pEv r, pPk r, pEp r, pLf r, rnN T r own, pOn r, pKy r, pCh r, pRn r) : PeS))), .int (nI (pLf ((pNo r, pEv r, pPk r, pEp r, pLf r, rnN T r own, pOn r, pKy r, pCh r, pRn r) : PeS))), .ref nd_q, .int (nI (pOn ((pNo r, pEv r, pPk r, pEp r, pLf r, rnN T r own, pOn r, pKy r, pCh r, pRn r) : PeS))), .int (nI (pKy ((pNo r, pEv r, pPk r, pEp r, pLf r, rnN T r own, pOn r, pKy r, pCh r, pRn r) : PeS))), .ref ch_q, .int (oI (pRn ((pNo r, pEv r, pPk r, pEp r, pLf r, rnN T r own, pOn r, pKy r, pCh r, pRn r) : PeS))), .ref x]))], v0_q, v1_q, v3_q, u0_184, wb_n, v5] (770 + 4 * (128 - j)) (6700 + 40 * (128 - j)) from ?_)
            refine g_callV (q := 233) (is := [15]) (kc2 := 770 + 4 * (128 - j)) (ks2 := 6700 + 40 * (128 - j)) B [.ref (kI g nd)] (ct_NmP_getS g J (t := be_8) (F := st.2.2.2.2) (n := ne_8) (k := nd) (r := en) (W0 := v5)  (hs_8_1) (hen) (by omega)) dX1_goOn_230 rfl (rc_in B (ci := 27) rfl (k := 15) rfl (Sub.hm (hs_8_1) fun _ z => MoP.hm z)) rfl q1825 q1826 q1827 q91 q1828 rfl rfl moJ10_get rfl rfl (by decide) (by decide) (Nat.le_of_ble_eq_true rfl) (by omega) (by omega) (fun _ _ hx => noX_x hx) (fun v230 L1 hp230 => ?_)
            obtain ⟨a230, rfl, rfl, hE_230⟩ := hp230
            refine (show Go g κ 233 [some (.ref x), some (.int (nI i)), some (.ref a2), some (.int (nI (e + 1))), some (.ref x44), some (.ref x76), some (.int (nI own)), some (.int (nI nd)), some (.int (oI sv)), some (.ref i165), some (.int (nI rv184)), none] [.ref a230, .int (nI bg), .ref b] [l172_0, v2, v3, v6, v7, [(x, .inr (0, [.ref b, .ref lp, .ref lk, .ref lr, .ref lt, .ref ls, .ref lm, .ref so, .int (nI (zBn C))]))], v4, pu1_q, pu2_q, [(a2, .inr (2, [.int (nI (pNo ((pNo r, pEv r, pPk r, pEp r, pLf r, rnN T r own, pOn r, pKy r, pCh r, pRn r) : PeS))), .ref ev_q, .ref pl_q, .int (oI (pEp ((pNo r, pEv r, pPk r, pEp r, pLf r, rnN T r own, pOn r, pKy r, pCh r, pRn r) : PeS))), .int (nI (pLf ((pNo r, pEv r, pPk r, pEp r, pLf r, rnN T r own, pOn r, pKy r, pCh r, pRn r) : PeS))), .ref nd_q, .int (nI (pOn ((pNo r, pEv r, pPk r, pEp r, pLf r, rnN T r own, pOn r, pKy r, pCh r, pRn r) : PeS))), .int (nI (pKy ((pNo r, pEv r, pPk r, pEp r, pLf r, rnN T r own, pOn r, pKy r, pCh r, pRn r) : PeS))), .ref ch_q, .int (oI (pRn ((pNo r, pEv r, pPk r, pEp r, pLf r, rnN T r own, pOn r, pKy r, pCh r, pRn r) : PeS))), .ref x]))], v0_q, v1_q, v3_q, u0_184, wb_n, v5] (770 + 4 * (128 - j)) (6700 + 40 * (128 - j)) from ?_)
            have hbk230 := Sub.box hE_230
            refine g_castRS (ci := 35) (q := 236) B rfl (rc_bxat B J (k := 15) rfl hbk230) dX1_goOn_233 rfl q1829 ?_
            refine g_callV (q := 239) (is := [15]) (kc2 := 770 + 4 * (128 - j)) (ks2 := 6700 + 40 * (128 - j)) B [] (ct_J26_intValue_b g J (a := a230) (v := nI en) (wb := v5)  (hbk230)) dX1_goOn_236 rfl (rc_bxat B J (k := 15) rfl hbk230) rfl q1830 q1052 q1053 q111 q1054 rfl rfl moJ26_intValue rfl rfl (by decide) (by decide) (Nat.le_of_ble_eq_true rfl) (by omega) (by omega) (fun _ _ hx => noX_x hx) (fun v236 L1 hp236 => ?_)
            obtain ⟨rfl, rfl⟩ := hp236
            refine (show Go g κ 239 [some (.ref x), some (.int (nI i)), some (.ref a2), some (.int (nI (e + 1))), some (.ref x44), some (.ref x76), some (.int (nI own)), some (.int (nI nd)), some (.int (oI sv)), some (.ref i165), some (.int (nI rv184)), none] [.int (nI en), .int (nI bg), .ref b] [l172_0, v2, v3, v6, v7, [(x, .inr (0, [.ref b, .ref lp, .ref lk, .ref lr, .ref lt, .ref ls, .ref lm, .ref so, .int (nI (zBn C))]))], v4, pu1_q, pu2_q, [(a2, .inr (2, [.int (nI (pNo ((pNo r, pEv r, pPk r, pEp r, pLf r, rnN T r own, pOn r, pKy r, pCh r, pRn r) : PeS))), .ref ev_q, .ref pl_q, .int (oI (pEp ((pNo r, pEv r, pPk r, pEp r, pLf r, rnN T r own, pOn r, pKy r, pCh r, pRn r) : PeS))), .int (nI (pLf ((pNo r, pEv r, pPk r, pEp r, pLf r, rnN T r own, pOn r, pKy r, pCh r, pRn r) : PeS))), .ref nd_q, .int (nI (pOn ((pNo r, pEv r, pPk r, pEp r, pLf r, rnN T r own, pOn r, pKy r, pCh r, pRn r) : PeS))), .int (nI (pKy ((pNo r, pEv r, pPk r, pEp r, pLf r, rnN T r own, pOn r, pKy r, pCh r, pRn r) : PeS))), .ref ch_q, .int (oI (pRn ((pNo r, pEv r, pPk r, pEp r, pLf r, rnN T r own, pOn r, pKy r, pCh r, pRn r) : PeS))), .ref x]))], v0_q, v1_q, v3_q, u0_184, wb_n, v5] (770 + 4 * (128 - j)) (6700 + 40 * (128 - j)) from ?_)
            refine g_iload (q := 241) B dX1_goOn_239 rfl rfl ?_
            refine g_callV (q := 244) (is := [0]) (kc2 := 766 + 4 * (128 - j)) (ks2 := 6660 + 40 * (128 - j)) B [.int (nI bg), .int (nI en), .int (nI rv184)] (ct_X2_opened g J (b := b) (ss := (zSs C)) (bx := (zBx C)) (z := (zZz C)) (f := bg) (tt := en) (h := rv184) hl172_0 (hble) (hbe) (by omega) (by omega) (by omega)) dX1_goOn_241 rfl (rc_in B (ci := 1) rfl (k := 0) rfl (BookP.hm hl172_0)) rfl q2764 q2765 q2766 q78 q2767 rfl rfl moX2_opened rfl rfl (by decide) (by decide) (Nat.le_of_ble_eq_true rfl) (by omega) (by omega) (fun _ _ hx => noX_x hx) (fun v241 L1 hp241 => ?_)
            obtain ⟨r241, u0_241, rfl, rfl, hu0_241, hn_241, hs_241⟩ := hp241
            refine (show Go g κ 244 [some (.ref x), some (.int (nI i)), some (.ref a2), some (.int (nI (e + 1))), some (.ref x44), some (.ref x76), some (.int (nI own)), some (.int (nI nd)), some (.int (oI sv)), some (.ref i165), some (.int (nI rv184)), none] [.int (oI r241)] [v2, v3, v6, v7, [(x, .inr (0, [.ref b, .ref lp, .ref lk, .ref lr, .ref lt, .ref ls, .ref lm, .ref so, .int (nI (zBn C))]))], v4, pu1_q, pu2_q, [(a2, .inr (2, [.int (nI (pNo ((pNo r, pEv r, pPk r, pEp r, pLf r, rnN T r own, pOn r, pKy r, pCh r, pRn r) : PeS))), .ref ev_q, .ref pl_q, .int (oI (pEp ((pNo r, pEv r, pPk r, pEp r, pLf r, rnN T r own, pOn r, pKy r, pCh r, pRn r) : PeS))), .int (nI (pLf ((pNo r, pEv r, pPk r, pEp r, pLf r, rnN T r own, pOn r, pKy r, pCh r, pRn r) : PeS))), .ref nd_q, .int (nI (pOn ((pNo r, pEv r, pPk r, pEp r, pLf r, rnN T r own, pOn r, pKy r, pCh r, pRn r) : PeS))), .int (nI (pKy ((pNo r, pEv r, pPk r, pEp r, pLf r, rnN T r own, pOn r, pKy r, pCh r, pRn r) : PeS))), .ref ch_q, .int (oI (pRn ((pNo r, pEv r, pPk r, pEp r, pLf r, rnN T r own, pOn r, pKy r, pCh r, pRn r) : PeS))), .ref x]))], v0_q, v1_q, v3_q, u0_184, wb_n, v5, u0_241] (766 + 4 * (128 - j)) (6660 + 40 * (128 - j)) from ?_)
            refine g_istore (q := 246) (lv2 := [some (.ref x), some (.int (nI i)), some (.ref a2), some (.int (nI (e + 1))), some (.ref x44), some (.ref x76), some (.int (nI own)), some (.int (nI nd)), some (.int (oI sv)), some (.ref i165), some (.int (nI rv184)), some (.int (oI r241))]) B dX1_goOn_244 rfl (Nat.le_of_ble_eq_true rfl) rfl ?_
            refine g_iload (q := 248) B dX1_goOn_246 rfl rfl ?_
            refine g_iconst (v := -1) (q := 249) B dX1_goOn_248 rfl (by decide) ?_
            refine g_icmp_ne (tgt := 257) (q := 252) B dX1_goOn_249 rfl (by decide) (oI_nn ((fun n h => by obtain ⟨o_, j_, z1, z2, z3, z4⟩ := hs_241 n h; have z5 := hall _ _ z2 z3 z4; have z5 : n = sc := z5; omega))) (fun c249 => ?_) (fun c249 => ?_)
            · skip
              obtain ⟨v249, ev249⟩ := Option.ne_none_iff_exists'.mp c249
              refine g_lvs (lv2 := [some (.ref x), some (.int (nI i)), some (.ref a2), some (.int (nI (e + 1))), some (.ref x44), some (.ref x76), some (.int (nI own)), some (.int (nI nd)), some (.int (oI sv)), some (.ref i165), some (.int (nI rv184)), some (.int (nI v249))]) (st2 := []) (by rw [(show oI r241 = nI v249 from by rw [ev249]; rfl)]) (by first | rfl | rw [(show oI r241 = nI v249 from by rw [ev249]; rfl)]) ?_
              refine g_iload (q := 259) B dX1_goOn_257 rfl rfl ?_
              refine g_istore (q := 261) (lv2 := [some (.ref x), some (.int (nI i)), some (.ref a2), some (.int (nI (e + 1))), some (.ref x44), some (.ref x76), some (.int (nI own)), some (.int (nI nd)), some (.int (nI v249)), some (.ref i165), some (.int (nI rv184)), some (.int (nI v249))]) B dX1_goOn_259 rfl (Nat.le_of_ble_eq_true rfl) rfl ?_
              refine g_goto (tgt := 172) B dX1_goOn_261 (by decide) ?_
              refine g_fg 10 rfl ?_
              refine g_fg 11 rfl ?_
              refine g_pk [15, 0, 0, 0, 0, 0, 9, 0, 0, 0, 0, 0, 0, 0, 1, 0] rfl rfl ?_
              refine (show Go g κ 172 [some (.ref x), some (.int (nI i)), some (.ref a2), some (.int (nI (e + 1))), some (.ref x44), some (.ref x76), some (.int (nI own)), some (.int (nI nd)), some (.int (nI v249)), some (.ref i165), none, none] [] [u0_241, v2, v3, v6, v7, [(x, .inr (0, [.ref b, .ref lp, .ref lk, .ref lr, .ref lt, .ref ls, .ref lm, .ref so, .int (nI (zBn C))]))], v5, v4, pu1_q, pu2_q, [(a2, .inr (2, [.int (nI (pNo ((pNo r, pEv r, pPk r, pEp r, pLf r, rnN T r own, pOn r, pKy r, pCh r, pRn r) : PeS))), .ref ev_q, .ref pl_q, .int (oI (pEp ((pNo r, pEv r, pPk r, pEp r, pLf r, rnN T r own, pOn r, pKy r, pCh r, pRn r) : PeS))), .int (nI (pLf ((pNo r, pEv r, pPk r, pEp r, pLf r, rnN T r own, pOn r, pKy r, pCh r, pRn r) : PeS))), .ref nd_q, .int (nI (pOn ((pNo r, pEv r, pPk r, pEp r, pLf r, rnN T r own, pOn r, pKy r, pCh r, pRn r) : PeS))), .int (nI (pKy ((pNo r, pEv r, pPk r, pEp r, pLf r, rnN T r own, pOn r, pKy r, pCh r, pRn r) : PeS))), .ref ch_q, .int (oI (pRn ((pNo r, pEv r, pPk r, pEp r, pLf r, rnN T r own, pOn r, pKy r, pCh r, pRn r) : PeS))), .ref x]))], v0_q, v1_q, v3_q, wb_n, u0_184] (766 + 4 * (128 - j)) (6660 + 40 * (128 - j)) from ?_)
              refine g_room (kc2 := 770 + 4 * (128 - (k184 + 1))) (ks2 := 6700 + 40 * (128 - (k184 + 1))) (by omega) (by omega) ?_
              exact ih172 _ (by omega) (k184 + 1) (some k184) (some v249) u0_241 u0_184 hu0_241 hu0_184 (by omega) (by obtain ⟨o_, j_, z1, z2, z3, z4⟩ := hs_241 _ ev249; have z5 := hall _ _ z2 z3 z4; have z5 : v249 = sc := z5; rw [z5]; exact Or.inr rfl) (fun n x hn hx hq => by obtain ⟨o_, j_, z1, z2, z3, z4⟩ := hs_241 _ ev249; have z5 := hall _ _ z2 z3 z4; have z5 : v249 = sc := z5; rw [z5]) rfl
            · skip
              have c249 := Classical.not_not.mp c249
              refine g_lvs (lv2 := [some (.ref x), some (.int (nI i)), some (.ref a2), some (.int (nI (e + 1))), some (.ref x44), some (.ref x76), some (.int (nI own)), some (.int (nI nd)), some (.int (oI sv)), some (.ref i165), some (.int (nI rv184)), some (.int (-1))]) (st2 := []) (by rw [(show oI r241 = -1 from by rw [c249]; rfl)]) (by first | rfl | rw [(show oI r241 = -1 from by rw [c249]; rfl)]) ?_
              refine g_iload (q := 254) B dX1_goOn_252 rfl rfl ?_
              refine g_goto (tgt := 259) B dX1_goOn_254 (by decide) ?_
              refine g_istore (q := 261) (lv2 := [some (.ref x), some (.int (nI i)), some (.ref a2), some (.int (nI (e + 1))), some (.ref x44), some (.ref x76), some (.int (nI own)), some (.int (nI nd)), some (.int (oI sv)), some (.ref i165), some (.int (nI rv184)), some (.int (-1))]) B dX1_goOn_259 rfl (Nat.le_of_ble_eq_true rfl) rfl ?_
              refine g_goto (tgt := 172) B dX1_goOn_261 (by decide) ?_
              refine g_fg 10 rfl ?_
              refine g_fg 11 rfl ?_
              refine g_pk [15, 0, 0, 0, 0, 0, 9, 0, 0, 0, 0, 0, 0, 0, 1, 0] rfl rfl ?_
              refine (show Go g κ 172 [some (.ref x), some (.int (nI i)), some (.ref a2), some (.int (nI (e + 1))), some (.ref x44), some (.ref x76), some (.int (nI own)), some (.int (nI nd)), some (.int (oI sv)), some (.ref i165), none, none] [] [u0_241, v2, v3, v6, v7, [(x, .inr (0, [.ref b, .ref lp, .ref lk, .ref lr, .ref lt, .ref ls, .ref lm, .ref so, .int (nI (zBn C))]))], v5, v4, pu1_q, pu2_q, [(a2, .inr (2, [.int (nI (pNo ((pNo r, pEv r, pPk r, pEp r, pLf r, rnN T r own, pOn r, pKy r, pCh r, pRn r) : PeS))), .ref ev_q, .ref pl_q, .int (oI (pEp ((pNo r, pEv r, pPk r, pEp r, pLf r, rnN T r own, pOn r, pKy r, pCh r, pRn r) : PeS))), .int (nI (pLf ((pNo r, pEv r, pPk r, pEp r, pLf r, rnN T r own, pOn r, pKy r, pCh r, pRn r) : PeS))), .ref nd_q, .int (nI (pOn ((pNo r, pEv r, pPk r, pEp r, pLf r, rnN T r own, pOn r, pKy r, pCh r, pRn r) : PeS))), .int (nI (pKy ((pNo r, pEv r, pPk r, pEp r, pLf r, rnN T r own, pOn r, pKy r, pCh r, pRn r) : PeS))), .ref ch_q, .int (oI (pRn ((pNo r, pEv r, pPk r, pEp r, pLf r, rnN T r own, pOn r, pKy r, pCh r, pRn r) : PeS))), .ref x]))], v0_q, v1_q, v3_q, wb_n, u0_184] (766 + 4 * (128 - j)) (6660 + 40 * (128 - j)) from ?_)
              refine g_room (kc2 := 770 + 4 * (128 - (k184 + 1))) (ks2 := 6700 + 40 * (128 - (k184 + 1))) (by omega) (by omega) ?_
              exact ih172 _ (by omega) (k184 + 1) (some k184) sv u0_241 u0_184 hu0_241 hu0_184 (by omega) (hso) (fun n x hn hx hq => by
                rcases Nat.lt_trichotomy n k184 with z | z | z
                · rcases Nat.lt_or_ge n j with z2 | z2
                  · have z3 := hs2 n x z2 hx hq; first | exact z3 | (rw [ev8] at z3; exact z3)
                  · have z4 : rnN T r own n = none := (fun q h1 h2 => (MoE.iffB hb_n ho_n q).mp (hbt_184 q h1 h2)) n z2 z
                    rw [hx] at z4; cases z4
                · have z5 : rnN T r own k184 = some rv184 := hrv184
                  rw [z, z5] at hx; cases hx; obtain ⟨o, q, y1, y2, y3, y4⟩ := hq; exact absurd rfl (hn_241 c249 o y1 q _ y2 y3 y4)
                · omega) rfl
        refine g_room (kc2 := 770 + 4 * (128 - 0)) (ks2 := 6700 + 40 * (128 - 0)) (by omega) (by omega) ?_
        exact lp172 _ 0 none none v0 u0_165 hv0 hu0_165 (Nat.zero_le _) (Or.inl rfl) (fun n x h => absurd h (Nat.not_lt_zero n)) rfl
      refine g_aload_n (q := 95) B dX1_goOn_94 rfl rfl (rv_r _) ?_
      refine g_getNM (q := 98) B (ci := 2) (k := 5) (j := 9) in_X4 rfl dX1_goOn_95 rfl rfl (hc_3_0) (Nat.le_of_ble_eq_true rfl) q1913 rfl rfl ?_
      refine g_iconst (v := -1) (q := 99) B dX1_goOn_98 rfl (by decide) ?_
      refine g_icmp_eq (tgt := 141) (q := 102) B dX1_goOn_99 rfl (by decide) (oI_n ((fun n h => by have := hP_3.2.2.2.2.2.1 _ h; omega))) (fun c99 => ?_) (fun c99 => ?_)
      · skip
        have hrne : rnN T r own = pNd r := by unfold rnN; rw [if_neg]; rintro ⟨z1, z2⟩; first | exact z2 c99 | (rw [ev99] at z1; exact c116 z1)
        have hr_24 : PersL g lp ps ((zPs C).set i ((pNo r, pEv r, pPk r, pEp r, pLf r, rnN T r own, pOn r, pKy r, pCh r, pRn r) : PeS)) pcap x pks pmd v1 := by rw [hrne, set_same (show (zPs C)[i]? = some ((pNo r, pEv r, pPk r, pEp r, pLf r, pNd r, pOn r, pKy r, pCh r, pRn r) : PeS) from hr)]; exact hv1
        refine g_room (kc2 := 1380) (ks2 := 12300) (by omega) (by omega) ?_
        exact ct141 v1 hr_24 
      · skip
        obtain ⟨v99, ev99⟩ := Option.ne_none_iff_exists'.mp c99
        refine g_aload (q := 104) B dX1_goOn_102 rfl rfl (rv_r _) ?_
        obtain ⟨as_25, al_25, ap_25, fs_25, fl_25, fp_25, hB_25, hfs_25, hfl_25, hfp_25, hc_25_0, hc_25_1, hc_25_2, hc_25_3⟩ := TreeP.at (hE_5)
        refine g_getNM (q := 107) B (ci := 5) (k := 8) (j := 1) in_X10 rfl dX1_goOn_104 rfl rfl (hc_25_0) (Nat.le_of_ble_eq_true rfl) q2040 rfl rfl ?_
        refine g_iconst (v := nI 2) (q := 108) B dX1_goOn_107 rfl (by decide) ?_
        refine g_iload (q := 110) B dX1_goOn_108 rfl rfl ?_
        refine g_imul (v := nI (2 * own)) (q := 111) B dX1_goOn_110 rfl (pk_mul _ _) ?_
        refine g_ialdM (v := oI (T.2.1 (2 * own))) (q := 112) B (k := 8) dX1_goOn_111 rfl rfl (hc_25_1) (vp_in_nI (by omega) (by omega)) (by rw [nI_clamp (by omega)]; exact hfs_25 _ (by omega)) ?_
        refine g_aload_n (q := 113) B dX1_goOn_112 rfl rfl (rv_r _) ?_
        refine g_getNM (q := 116) B (ci := 2) (k := 5) (j := 9) in_X4 rfl dX1_goOn_113 rfl rfl (hc_3_0) (Nat.le_of_ble_eq_true rfl) q1913 rfl rfl ?_
        refine g_stk (y := .int (nI v99)) (by rw [ev99]; rfl) ?_
        have h99 := hhl_i v99 (Or.inr (Or.inr (Or.inr ev99)))
        refine g_icmp_ne (tgt := 141) (q := 119) B dX1_goOn_116 rfl (by decide) (oI_ne ((fun n h => by have := hB_25.2.1 _ _ h; omega)) (by omega)) (fun c116 => ?_) (fun c116 => ?_)
        · skip
          have hrne : rnN T r own = pNd r := by unfold rnN; rw [if_neg]; rintro ⟨z1, z2⟩; first | exact z2 c99 | (rw [ev99] at z1; exact c116 z1)
          have hr_26 : PersL g lp ps ((zPs C).set i ((pNo r, pEv r, pPk r, pEp r, pLf r, rnN T r own, pOn r, pKy r, pCh r, pRn r) : PeS)) pcap x pks pmd v1 := by rw [hrne, set_same (show (zPs C)[i]? = some ((pNo r, pEv r, pPk r, pEp r, pLf r, pNd r, pOn r, pKy r, pCh r, pRn r) : PeS) from hr)]; exact hv1
          refine g_room (kc2 := 1380) (ks2 := 12300) (by omega) (by omega) ?_
          exact ct141 v1 hr_26 
        · skip
          have c116 := Classical.not_not.mp c116
          obtain ⟨pu1_p, pwi_p, pu2_p, hpwi_p, hpcl_p, hpe_p⟩ := PersL.opn hv1 ha_2 hr
          refine g_open 5 rfl hpe_p rfl ?_
          refine (show Go g κ 119 [some (.ref x), some (.int (nI i)), some (.ref a2), some (.int (nI (e + 1))), some (.ref x44), some (.ref x76), some (.int (nI own)), none, none, none, none, none] [] [v0, v2, v3, v6, v7, [(x, .inr (0, [.ref b, .ref lp, .ref lk, .ref lr, .ref lt, .ref ls, .ref lm, .ref so, .int (nI (zBn C))]))], v5, v4, pu1_p, pwi_p, pu2_p] 1398 12488 from ?_)
          obtain ⟨ev_p, pl_p, nd_p, ch_p, ecap_p, pcap_p, nn_p, nc_p, plc_p, md_p, v0_p, v1_p, v2_p, v3_p, hP_p, hpl_p, hec_p, hpc_p, hv0_p, hv1_p, hv2_p, hv3_p, rfl⟩ := hpwi_p
          refine g_open 9 rfl rfl rfl ?_
          refine (show Go g κ 119 [some (.ref x), some (.int (nI i)), some (.ref a2), some (.int (nI (e + 1))), some (.ref x44), some (.ref x76), some (.int (nI own)), none, none, none, none, none] [] [v0, v2, v3, v6, v7, [(x, .inr (0, [.ref b, .ref lp, .ref lk, .ref lr, .ref lt, .ref ls, .ref lm, .ref so, .int (nI (zBn C))]))], v5, v4, pu1_p, pu2_p, [(a2, .inr (2, [.int (nI (pNo r)), .ref ev_p, .ref pl_p, .int (oI (pEp r)), .int (nI (pLf r)), .ref nd_p, .int (nI (pOn r)), .int (nI (pKy r)), .ref ch_p, .int (oI (pRn r)), .ref x]))], v0_p, v1_p, v2_p, v3_p] 1398 12488 from ?_)
          refine g_aload_n (q := 120) B dX1_goOn_119 rfl rfl (rv_r _) ?_
          refine g_getN (q := 123) B (ci := 2) (k := 10) (j := 5) in_X4 rfl dX1_goOn_120 rfl rfl (Nat.le_of_ble_eq_true rfl) q1905 rfl rfl ?_
          refine g_iconst (v := nI 2) (q := 124) B dX1_goOn_123 rfl (by decide) ?_
          refine g_iload (q := 126) B dX1_goOn_124 rfl rfl ?_
          refine g_imul (v := nI (2 * own)) (q := 127) B dX1_goOn_126 rfl (pk_mul _ _) ?_
          refine g_callS (q := 130) (is := []) (kc2 := 1398) (ks2 := 12488) B [.int (nI (2 * own))] (ct_J26_valueOf_k g J (k := 2 * own)  (by omega)) dX1_goOn_127 rfl q685 q686 q111 q687 rfl rfl moJ26_valueOf rfl rfl (by decide) (by decide) (Nat.le_of_ble_eq_true rfl) (Nat.le_of_ble_eq_true rfl) (Nat.le_of_ble_eq_true rfl) (fun _ _ hx => noX_x hx) (fun v127 L1 hp127 => ?_)
          obtain ⟨rfl, rfl⟩ := hp127
          refine (show Go g κ 130 [some (.ref x), some (.int (nI i)), some (.ref a2), some (.int (nI (e + 1))), some (.ref x44), some (.ref x76), some (.int (nI own)), none, none, none, none, none] [.ref (kI g (2 * own)), .ref nd_p] [v0, v2, v3, v6, v7, [(x, .inr (0, [.ref b, .ref lp, .ref lk, .ref lr, .ref lt, .ref ls, .ref lm, .ref so, .int (nI (zBn C))]))], v5, v4, pu1_p, pu2_p, [(a2, .inr (2, [.int (nI (pNo r)), .ref ev_p, .ref pl_p, .int (oI (pEp r)), .int (nI (pLf r)), .ref nd_p, .int (nI (pOn r)), .int (nI (pKy r)), .ref ch_p, .int (oI (pRn r)), .ref x]))], v0_p, v1_p, v2_p, v3_p] 1398 12488 from ?_)
          refine g_aload_n (q := 131) B dX1_goOn_130 rfl rfl (rv_r _) ?_
          refine g_getN (q := 134) B (ci := 2) (k := 10) (j := 9) in_X4 rfl dX1_goOn_131 rfl rfl (Nat.le_of_ble_eq_true rfl) q1913 rfl rfl ?_
          refine g_stk (y := .int (nI v99)) (by rw [ev99]; rfl) ?_
          refine g_callS (q := 137) (is := []) (kc2 := 1397) (ks2 := 12487) B [.int (nI v99)] (ct_J26_valueOf g J (v := nI v99)  ) dX1_goOn_134 rfl q685 q686 q111 q687 rfl rfl moJ26_valueOf rfl rfl (by decide) (by decide) (Nat.le_of_ble_eq_true rfl) (Nat.le_of_ble_eq_true rfl) (Nat.le_of_ble_eq_true rfl) (fun _ _ hx => noX_x hx) (fun v134 L1 hp134 => ?_)
          obtain ⟨a134, u0_134, rfl, rfl, hu0_134⟩ := hp134
          refine (show Go g κ 137 [some (.ref x), some (.int (nI i)), some (.ref a2), some (.int (nI (e + 1))), some (.ref x44), some (.ref x76), some (.int (nI own)), none, none, none, none, none] [.ref a134, .ref (kI g (2 * own)), .ref nd_p] [v0, v2, v3, v6, v7, [(x, .inr (0, [.ref b, .ref lp, .ref lk, .ref lr, .ref lt, .ref ls, .ref lm, .ref so, .int (nI (zBn C))]))], v5, v4, pu1_p, pu2_p, [(a2, .inr (2, [.int (nI (pNo r)), .ref ev_p, .ref pl_p, .int (oI (pEp r)), .int (nI (pLf r)), .ref nd_p, .int (nI (pOn r)), .int (nI (pKy r)), .ref ch_p, .int (oI (pRn r)), .ref x]))], v0_p, v1_p, v2_p, v3_p, u0_134] 1397 12487 from ?_)
          refine g_callV (q := 140) (is := [13, 14]) (kc2 := 1396) (ks2 := 12481) B [.ref (kI g (2 * own)), .ref a134] (ct_NmP_put g J (t := nd_p) (F := (pNd r)) (n := nn_p) (k := 2 * own) (a := a134) (r := v99) hv2_p hu0_134 (by omega)) dX1_goOn_137 rfl (rc_in B (ci := 27) rfl (k := 13) rfl (MoP.hm hv2_p)) rfl q2084 q2085 q2086 q91 q2087 rfl rfl moJ10_put rfl rfl (by decide) (by decide) (Nat.le_of_ble_eq_true rfl) (Nat.le_of_ble_eq_true rfl) (Nat.le_of_ble_eq_true rfl) (fun _ _ hx => noX_x hx) (fun v137 L1 hp137 => ?_)
          obtain ⟨o137, u0_137, rfl, rfl, hu0_137⟩ := hp137
          refine (show Go g κ 140 [some (.ref x), some (.int (nI i)), some (.ref a2), some (.int (nI (e + 1))), some (.ref x44), some (.ref x76), some (.int (nI own)), none, none, none, none, none] [va_rf o137] [v0, v2, v3, v6, v7, [(x, .inr (0, [.ref b, .ref lp, .ref lk, .ref lr, .ref lt, .ref ls, .ref lm, .ref so, .int (nI (zBn C))]))], v5, v4, pu1_p, pu2_p, [(a2, .inr (2, [.int (nI (pNo r)), .ref ev_p, .ref pl_p, .int (oI (pEp r)), .int (nI (pLf r)), .ref nd_p, .int (nI (pOn r)), .int (nI (pKy r)), .ref ch_p, .int (oI (pRn r)), .ref x]))], v0_p, v1_p, v3_p, u0_137] 1396 12481 from ?_)
          refine g_pop (q := 141) B dX1_goOn_140 rfl (rv_c (rv_o _)) ?_
          have hrne : rnN T r own = fup (pNd r) (2 * own) (some v99) := by unfold rnN; rw [if_pos ⟨by rw [c116, ev99], by rw [ev99]; simp⟩, ev99]
          obtain ⟨wc_27, ewc_27⟩ : ∃ w : va_W, w = ([[(a2, .inr (2, [.int (nI (pNo r)), .ref ev_p, .ref pl_p, .int (oI (pEp r)), .int (nI (pLf r)), .ref nd_p, .int (nI (pOn r)), .int (nI (pKy r)), .ref ch_p, .int (oI (pRn r)), .ref x]))], v0_p, v1_p, u0_137, v3_p] : List va_W).flatten := ⟨_, rfl⟩
          have hwc_27 : PersP g a2 x pks ((pNo r, pEv r, pPk r, pEp r, pLf r, rnN T r own, pOn r, pKy r, pCh r, pRn r) : PeS) wc_27 := by
            rw [ewc_27]
            exact ⟨ev_p, pl_p, nd_p, ch_p, ecap_p, pcap_p, (nn_p + (if (pNd r) (2 * own) = none then 1 else 0)), nc_p, plc_p, md_p, _, _, _, _, (by exact ⟨hp0, hp1, hp2, hp3, hp4, hp5, (fun n x h => by have := rnN_b (T := T) (own := own) hhl_i n x h; omega), hp7, hp8⟩), hpl_p, hec_p, hpc_p, hv0_p, hv1_p, (by have z_ := hu0_137; rw [← hrne] at z_; exact z_), hv3_p, rfl⟩
          refine g_close (w := wc_27) [10, 10, 10, 11, 10] rfl ewc_27 rfl ?_
          refine (show Go g κ 141 [some (.ref x), some (.int (nI i)), some (.ref a2), some (.int (nI (e + 1))), some (.ref x44), some (.ref x76), some (.int (nI own)), none, none, none, none, none] [] [v0, v2, v3, v6, v7, [(x, .inr (0, [.ref b, .ref lp, .ref lk, .ref lr, .ref lt, .ref ls, .ref lm, .ref so, .int (nI (zBn C))]))], v5, v4, pu1_p, pu2_p, wc_27] 1396 12481 from ?_)
          obtain ⟨wc_28, ewc_28⟩ : ∃ w : va_W, w = ([pu1_p, wc_27, pu2_p] : List va_W).flatten := ⟨_, rfl⟩
          have hwc_28 : PersL g lp ps ((zPs C).set i ((pNo r, pEv r, pPk r, pEp r, pLf r, rnN T r own, pOn r, pKy r, pCh r, pRn r) : PeS)) pcap x pks pmd wc_28 := by
            rw [ewc_28]
            exact hpcl_p _ _ hwc_27
          refine g_close (w := wc_28) [8, 9, 8] rfl ewc_28 rfl ?_
          refine (show Go g κ 141 [some (.ref x), some (.int (nI i)), some (.ref a2), some (.int (nI (e + 1))), some (.ref x44), some (.ref x76), some (.int (nI own)), none, none, none, none, none] [] [v0, v2, v3, v6, v7, [(x, .inr (0, [.ref b, .ref lp, .ref lk, .ref lr, .ref lt, .ref ls, .ref lm, .ref so, .int (nI (zBn C))]))], v5, v4, wc_28] 1396 12481 from ?_)
          refine g_pk [0, 0, 0, 0, 0, 3, 0, 0, 0] rfl rfl ?_
          refine (show Go g κ 141 [some (.ref x), some (.int (nI i)), some (.ref a2), some (.int (nI (e + 1))), some (.ref x44), some (.ref x76), some (.int (nI own)), none, none, none, none, none] [] [v0, v2, v3, v6, v7, wc_28, [(x, .inr (0, [.ref b, .ref lp, .ref lk, .ref lr, .ref lt, .ref ls, .ref lm, .ref so, .int (nI (zBn C))]))], v5, v4] 1396 12481 from ?_)
          refine g_room (kc2 := 1380) (ks2 := 12300) (by omega) (by omega) ?_
          exact ct141 wc_28 hwc_28 
