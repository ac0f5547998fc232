set_option maxRecDepth 100000
theorem ct_X10_nodes_s (g : Gv) (J : Jd g) {t : Nat} {T : TrS} {W0 : va_W} (hS0 : Sub (TreeP g t T) W0) : Ct g yX10_nodes (ws_ yX10_nodes cX10_nodes 1 (some .int)) 0 0 0 [.ref t] [W0] (fun (rv_ : Option Value) (rL_ : List va_W) => rv_ = some (.int (nI (2 * 2 ^ T.1 - 1))) ∧ rL_ = [W0]) noX := by
  obtain ⟨w_, R_, hp_, hw_⟩ := hS0
  refine Ct.lift (ct_X10_nodes g J (t := t) (T := T) hw_ ) [R_] ?_ ?_
  · refine sub_in 0 rfl hp_ rfl
  · rintro v L ⟨e1, rfl⟩
    exact ⟨_, [], sub_out 0 rfl hp_ rfl, ⟨e1, rfl⟩⟩
theorem ct_X10_root_s (g : Gv) (J : Jd g) {t : Nat} {T : TrS} {W0 : va_W} (hS0 : Sub (TreeP g t T) W0) : Ct g yX10_root (ws_ yX10_root cX10_root 1 (some .int)) 0 0 0 [.ref t] [W0] (fun (rv_ : Option Value) (rL_ : List va_W) => rv_ = some (.int (nI (2 ^ T.1 - 1))) ∧ rL_ = [W0]) noX := by
  obtain ⟨w_, R_, hp_, hw_⟩ := hS0
  refine Ct.lift (ct_X10_root g J (t := t) (T := T) hw_ ) [R_] ?_ ?_
  · refine sub_in 0 rfl hp_ rfl
  · rintro v L ⟨e1, rfl⟩
    exact ⟨_, [], sub_out 0 rfl hp_ rfl, ⟨e1, rfl⟩⟩
theorem ct_X10_isBlank_s (g : Gv) (J : Jd g) {t : Nat} {T : TrS} {n : Nat} {W0 : va_W} (hS0 : Sub (TreeP g t T) W0) (hn : n < 31) : Ct g yX10_isBlank (ws_ yX10_isBlank cX10_isBlank 2 (some .boolean)) 0 0 0 [.ref t, .int (nI n)] [W0] (fun (rv_ : Option Value) (rL_ : List va_W) => rv_ = some (.int (nI (if T.2.1 n = none then 1 else 0))) ∧ rL_ = [W0]) noX := by
  obtain ⟨w_, R_, hp_, hw_⟩ := hS0
  refine Ct.lift (ct_X10_isBlank g J (t := t) (T := T) (n := n) hw_ hn) [R_] ?_ ?_
  · refine sub_in 0 rfl hp_ rfl
  · rintro v L ⟨e1, rfl⟩
    exact ⟨_, [], sub_out 0 rfl hp_ rfl, ⟨e1, rfl⟩⟩
theorem ct_X10_leafOf_s (g : Gv) (J : Jd g) {t : Nat} {T : TrS} {p : Nat} {W0 : va_W} (hS0 : Sub (TreeP g t T) W0) (hp : p < 2 ^ 31) : Ct g yX10_leafOf (ws_ yX10_leafOf cX10_leafOf 3 (some .int)) 0 0 0 [.ref t, .int (nI p)] [W0] (fun (rv_ : Option Value) (rL_ : List va_W) => rv_ = some (.int (oI (lof T p))) ∧ rL_ = [W0]) noX := by
  obtain ⟨w_, R_, hp_, hw_⟩ := hS0
  refine Ct.lift (ct_X10_leafOf g J (t := t) (T := T) (p := p) hw_ hp) [R_] ?_ ?_
  · refine sub_in 0 rfl hp_ rfl
  · rintro v L ⟨e1, rfl⟩
    exact ⟨_, [], sub_out 0 rfl hp_ rfl, ⟨e1, rfl⟩⟩
theorem ct_X10_way_s (g : Gv) (J : Jd g) {t : Nat} {T : TrS} {l : Nat} {W0 : va_W} (hS0 : Sub (TreeP g t T) W0) (hl : l < 2 ^ T.1) : Ct g yX10_way (ws_ yX10_way cX10_way 4 (some (.object "java/util/List"))) 7 2 13 [.ref t, .int (nI l)] [W0] (fun (rv_ : Option Value) (rL_ : List va_W) => ∃ (p : Nat) (cap : Nat) (u1 : va_W), rv_ = some (.ref p) ∧ rL_ = [W0, u1] ∧ LhP g (BxE g) p (wayD T.1 l) cap u1 ∧ (cap ≤ 10)) noX := by
  obtain ⟨w_, R_, hp_, hw_⟩ := hS0
  refine Ct.lift (ct_X10_way g J (t := t) (T := T) (l := l) hw_ hl) [R_] ?_ ?_
  · refine sub_in 0 rfl hp_ rfl
  · rintro v L ⟨p, cap, u1, e1, rfl, hu1, hcp⟩
    exact ⟨_, [], sub_out 0 rfl hp_ rfl, ⟨p, cap, u1, e1, rfl, hu1, hcp⟩⟩
theorem ct_X10_cover_s (g : Gv) (J : Jd g) {t : Nat} {T : TrS} {n : Nat} {W0 : va_W} (hS0 : Sub (TreeP g t T) W0) (hn : n < 31) : Ct g yX10_cover (ws_ yX10_cover cX10_cover 3 (some (.object "java/util/List"))) 13 (1 + (cov T n).length) (3 + 4 * capF (cov T n).length) [.ref t, .int (nI n)] [W0] (fun (rv_ : Option Value) (rL_ : List va_W) => ∃ (p : Nat) (u1 : va_W), rv_ = some (.ref p) ∧ rL_ = [W0, u1] ∧ LhP g (BxE g) p (cov T n) (capF (cov T n).length) u1) noX := by
  obtain ⟨w_, R_, hp_, hw_⟩ := hS0
  refine Ct.lift (ct_X10_cover g J (t := t) (T := T) (n := n) hw_ hn) [R_] ?_ ?_
  · refine sub_in 0 rfl hp_ rfl
  · rintro v L ⟨p, u1, e1, rfl, hu1⟩
    exact ⟨_, [], sub_out 0 rfl hp_ rfl, ⟨p, u1, e1, rfl, hu1⟩⟩
theorem ct_X2_from_p (g : Gv) (J : Jd g) {b : Nat} {ss : List Sec} {bx : List (Nat × Nat)} {z : Int32} {one : Nat} {l : Nat} {s2 : List Sec} {i : Nat} {w0 : va_W} (hw0 : BookP g b ss bx z w0) (ho : one < ss.length) (hl : ss.length < 999) (hlb : l < 10 ∨ (100 ≤ l ∧ l < 120)) (hfr : frm ss (one, none, l) = (s2, i)) : Ct g yX2_from (ws_ yX2_from cX2_from 3 (some .int)) 12 (20 + 13 * (PhS s2 - PhS ss)) (170 + 55 * (PhS s2 - PhS ss)) [.ref b, .int (nI one), .int (nI l)] [w0] (fun (rv_ : Option Value) (rL_ : List va_W) => ∃ (u0 : va_W), rv_ = some (.int (nI i)) ∧ rL_ = [u0] ∧ BookP g b s2 bx z u0 ∧ (PhS ss ≤ PhS s2 ∧ ss.length ≤ s2.length ∧ s2.length ≤ ss.length + 1 ∧ i < s2.length)) noX := by
  have hq9 := Ph_frm ss (one, none, l)
  rw [hfr] at hq9
  have hz := ct_X2_from g J (cA := PhS s2 - PhS ss) (cB := PhS s2 - PhS ss) hw0 ho hl hlb hfr hq9.2.1 hq9.2.2
  have e : 170 + 51 * (PhS s2 - PhS ss) + 4 * (PhS s2 - PhS ss) = 170 + 55 * (PhS s2 - PhS ss) := by omega
  rw [e] at hz
  refine Ct.cq hz (List.Perm.refl _) ?_ noX_cq
  rintro v R ⟨u, e1, e2, h1⟩
  exact ⟨R, [], by simp, u, e1, e2, h1, Ph_fr hfr⟩
theorem ct_X2_from_2_p (g : Gv) (J : Jd g) {b : Nat} {ss : List Sec} {bx : List (Nat × Nat)} {z : Int32} {one : Nat} {other : Nat} {s2 : List Sec} {i : Nat} {w0 : va_W} (hw0 : BookP g b ss bx z w0) (ho : one < ss.length) (hq : other < ss.length) (hl : ss.length < 999) (hfr : frm ss (one, some other, 3) = (s2, i)) : Ct g yX2_from_2 (ws_ yX2_from_2 cX2_from_2 4 (some .int)) 12 (20 + 13 * (PhS s2 - PhS ss)) (170 + 55 * (PhS s2 - PhS ss)) [.ref b, .int (nI one), .int (nI other), .int (nI 3)] [w0] (fun (rv_ : Option Value) (rL_ : List va_W) => ∃ (u0 : va_W), rv_ = some (.int (nI i)) ∧ rL_ = [u0] ∧ BookP g b s2 bx z u0 ∧ (PhS ss ≤ PhS s2 ∧ ss.length ≤ s2.length ∧ s2.length ≤ ss.length + 1 ∧ i < s2.length)) noX := by
  have hq9 := Ph_frm ss (one, some other, 3)
  rw [hfr] at hq9
  have hz := ct_X2_from_2 g J (cA := PhS s2 - PhS ss) (cB := PhS s2 - PhS ss) hw0 ho hq hl hfr hq9.2.1 hq9.2.2
  have e : 170 + 51 * (PhS s2 - PhS ss) + 4 * (PhS s2 - PhS ss) = 170 + 55 * (PhS s2 - PhS ss) := by omega
  rw [e] at hz
  refine Ct.cq hz (List.Perm.refl _) ?_ noX_cq
  rintro v R ⟨u, e1, e2, h1⟩
  exact ⟨R, [], by simp, u, e1, e2, h1, Ph_fr hfr⟩
theorem Ct.ms {g : Gv} {y : MethodName} {ws : List Cond} {lvl mc ms ms2 : Nat} {args : List Value} {L : List va_W} {post : Option Value → List va_W → Prop} {xp : String → List va_W → Prop} (h : Ct g y ws lvl mc ms args L post xp) (e : ms = ms2) : Ct g y ws lvl mc ms2 args L post xp := e ▸ h
theorem Ph_d2 (ss : List Sec) (z : Int32) : PhS ss ≤ PhS (ss ++ [drw z]) ∧ capF (ss.length + 1) - capF ss.length = PhS (ss ++ [drw z]) - PhS ss := by
  unfold PhS
  rw [(Hc_dr ss (sKy_drw z)).1, List.length_append]
  have h1 := capF_mo ss.length
  show _ ≤ Hc ss + capF (ss.length + 1) ∧ _ = Hc ss + capF (ss.length + 1) - _
  omega
theorem ct_X2_draw_p (g : Gv) (J : Jd g) {b : Nat} {ss : List Sec} {bx : List (Nat × Nat)} {z : Int32} {w0 : va_W} (hw0 : BookP g b ss bx z w0) (hl : ss.length < 1000) : Ct g yX2_draw (ws_ yX2_draw cX2_draw 1 (some .int)) 7 2 (3 + 4 * (PhS (ss ++ [drw z]) - PhS ss)) [.ref b] [w0] (fun (rv_ : Option Value) (rL_ : List va_W) => ∃ (u0 : va_W), rv_ = some (.int (nI ss.length)) ∧ rL_ = [u0] ∧ BookP g b (ss ++ [drw z]) bx (lcg z) u0 ∧ (PhS ss ≤ PhS (ss ++ [drw z]))) noX := by
  have hq := Ph_d2 ss z
  refine Ct.cq (Ct.ms (ct_X2_draw g J hw0 hl) (by rw [hq.2])) (List.Perm.refl _) ?_ noX_cq
  rintro v R ⟨u, e1, e2, h1⟩
  exact ⟨R, [], by simp, u, e1, e2, h1, hq.1⟩
theorem TreeP.b2 {g : Gv} {t : Nat} {T : TrS} {w : va_W} (h : Sub (TreeP g t T) w) : TrB T := by
  obtain ⟨u, R, -, h⟩ := h
  exact h.b
theorem moJ10_keySet : Mo yJ10_keySet 0 := by
  refine ⟨by decide, by decide, by decide +kernel⟩
theorem mojava_util_Iterator_remove___V : Mo ⟨"java/util/Iterator", "remove", "()V"⟩ 0 := by
  refine ⟨by decide, by decide, by decide +kernel⟩
theorem moJ10_get : Mo yJ10_get 1 := by
  refine ⟨by decide, by decide, by decide +kernel⟩
theorem ct_X4_drops (g : Gv) (J : Jd g) {a : Nat} {x : Nat} {pks : List Nat} {r : PeS} {t : Nat} {T : TrS} {w0 : va_W} {wt : va_W} (hw0 : PersP g a x pks r w0) (hT : Sub (TreeP g t T) wt) : Ct g yX4_drops (ws_ yX4_drops cX4_drops 4 none) 6 2 5 [.ref a, .ref t] [w0, wt] (fun (rv_ : Option Value) (rL_ : List va_W) => ∃ (u0 : va_W), rv_ = none ∧ rL_ = [u0, wt] ∧ PersP g a x pks ((r.1, r.2.1, r.2.2.1, r.2.2.2.1, r.2.2.2.2.1, drpF T (pNd r), r.2.2.2.2.2.2) : PeS) u0) noX := by
  refine Ct.of "Keygrove$Person" [some (.ref a), some (.ref t), none, none] rfl (by decide) rfl (Nat.le_of_ble_eq_true rfl) rfl ?_
  intro κ B E tb
  obtain ⟨ev, pl, nd, ch, ecap, pcap, nn, nc, plc, md, v0, v1, v2, v3, hP, hpl, hec, hpc, hv0, hv1, hv2, hv3, rfl⟩ := hw0
  refine g_open 0 rfl rfl rfl ?_
  refine (show Go g κ 0 [some (.ref a), some (.ref t), none, none] [] [wt, [(a, .inr (2, [.int (nI (pNo r)), .ref ev, .ref pl, .int (oI (pEp r)), .int (nI (pLf r)), .ref nd, .int (nI (pOn r)), .int (nI (pKy r)), .ref ch, .int (oI (pRn r)), .ref x]))], v0, v1, v2, v3] 2 5 from ?_)
  have hTB := (TreeP.b2 hT)
  have hp2 := p2_4 hTB.1
  refine g_aload_n (q := 1) B dX4_drops_0 rfl rfl (rv_r _) ?_
  refine g_get (q := 4) B (ci := 2) (k := 1) (j := 5) in_X4 rfl dX4_drops_1 rfl rfl (Nat.le_of_ble_eq_true rfl) q1904 rfl rfl ?_
  obtain ⟨f_n, mm_n, wm_n, wb_n, hm_n, ho_n, hb_n, he_n⟩ := hv2
  refine g_open 4 rfl he_n rfl ?_
  refine (show Go g κ 4 [some (.ref a), some (.ref t), none, none] [.ref nd] [wt, [(a, .inr (2, [.int (nI (pNo r)), .ref ev, .ref pl, .int (oI (pEp r)), .int (nI (pLf r)), .ref nd, .int (nI (pOn r)), .int (nI (pKy r)), .ref ch, .int (oI (pRn r)), .ref x]))], v0, v1, v3, wm_n, wb_n] 2 5 from ?_)
  refine g_callV (q := 7) (is := [5]) (kc2 := 1) (ks2 := 4) B [] (ct_J10_keySet_m g J (t := nd) (f := f_n) (n := nn) (md := mm_n) hm_n ) dX4_drops_4 rfl (rc_in B (ci := 27) rfl (k := 5) rfl (MapP.hm hm_n)) rfl q2208 q2209 q2210 q91 q2211 rfl rfl moJ10_keySet rfl rfl (by decide) (by decide) (Nat.le_of_ble_eq_true rfl) (Nat.le_of_ble_eq_true rfl) (Nat.le_of_ble_eq_true rfl) (fun _ _ hx => noX_x hx) (fun v4 L1 hp4 => ?_)
  obtain ⟨y4, u0_4, rfl, rfl, hu0_4⟩ := hp4
  refine (show Go g κ 7 [some (.ref a), some (.ref t), none, none] [.ref y4] [wt, [(a, .inr (2, [.int (nI (pNo r)), .ref ev, .ref pl, .int (oI (pEp r)), .int (nI (pLf r)), .ref nd, .int (nI (pOn r)), .int (nI (pKy r)), .ref ch, .int (oI (pRn r)), .ref x]))], v0, v1, v3, wb_n, u0_4] 1 4 from ?_)
  refine g_callF (q := 12) (is := [6]) (kc2 := 0) (ks2 := 0) B [] (ct_J42_iterator_m g J (y := y4) (t := nd) (f := f_n) (n := nn) (md := mm_n) hu0_4 ) dX4_drops_7 rfl (ci := 30) rfl (rc_in B (ci := 30) rfl (k := 6) rfl (MkP.hm hu0_4)) q2230 q2238 q893 q134 q895 q2232 q2231 q894 q892 q2237 rfl rfl mojava_util_Set_iterator___Ljava_util_Iterator_ rfl rfl (by decide) (by decide) (Nat.le_of_ble_eq_true rfl) (Nat.le_of_ble_eq_true rfl) (Nat.le_of_ble_eq_true rfl) (fun _ _ hx => noX_x hx) (fun v7 L1 hp7 => ?_)
  obtain ⟨i7, u0_7, rfl, rfl, hu0_7⟩ := hp7
  refine (show Go g κ 12 [some (.ref a), some (.ref t), none, none] [.ref i7] [wt, [(a, .inr (2, [.int (nI (pNo r)), .ref ev, .ref pl, .int (oI (pEp r)), .int (nI (pLf r)), .ref nd, .int (nI (pOn r)), .int (nI (pKy r)), .ref ch, .int (oI (pRn r)), .ref x]))], v0, v1, v3, wb_n, u0_7] 0 0 from ?_)
  refine g_astore_n (q := 13) (lv2 := [some (.ref a), some (.ref t), some (.ref i7), none]) B dX4_drops_12 rfl (Nat.le_of_ble_eq_true rfl) (rv_r _) rfl ?_
  have lp13 : ∀ (n13 : Nat) (f1 : Nat → Option Nat) (n1 : Nat) (md1 : Nat) (j : Nat) (la : Option Nat) (F1 : Nat → Option Nat) (l13_5 : va_W) (l13_6 : va_W), BgM (BxE g) f1 F1 l13_5 → MItP g 32 i7 nd f1 n1 md1 j la l13_6 → (∀ k, 128 ≤ k → f1 k = none ∧ F1 k = none) → (∀ q, F1 q = if q < j then drpF T (pNd r) q else pNd r q) → (j ≤ 128) → 128 - j = n13 → Go g κ 13 [some (.ref a), some (.ref t), some (.ref i7), none] [] [wt, [(a, .inr (2, [.int (nI (pNo r)), .ref ev, .ref pl, .int (oI (pEp r)), .int (nI (pLf r)), .ref nd, .int (nI (pOn r)), .int (nI (pKy r)), .ref ch, .int (oI (pRn r)), .ref x]))], v0, v1, v3, l13_5, l13_6] 0 0 := by
    intro n13
    induction n13 using Nat.strongRecOn with
    | _ n13 ih13 =>
    intro f1 n1 md1 j la F1 l13_5 l13_6 hl13_5 hl13_6 ho1 hF1 hj hmu13
    refine g_aload_n (q := 14) B dX4_drops_13 rfl rfl (rv_r _) ?_
    refine g_callF (q := 19) (is := [6]) (kc2 := 0) (ks2 := 0) B [] (ct_J31_hasNext_mk g J (i := i7) (t := nd) (f := f1) (n := n1) (md := md1) (j := j) (la := la) hl13_6 ) dX4_drops_14 rfl (ci := 32) rfl (rc_in B (ci := 32) rfl (k := 6) rfl (MItP.hm hl13_6)) q1171 q958 q954 q116 q956 q938 q937 q955 q959 q957 rfl rfl mojava_util_Iterator_hasNext___Z rfl rfl (by decide) (by decide) (Nat.le_of_ble_eq_true rfl) (Nat.le_of_ble_eq_true rfl) (Nat.le_of_ble_eq_true rfl) (fun _ _ hx => noX_x hx) (fun v14 L1 hp14 => ?_)
    obtain ⟨hb14, u0_14, rfl, rfl, hu0_14, hbi_14⟩ := hp14
    refine (show Go g κ 19 [some (.ref a), some (.ref t), some (.ref i7), none] [.int (nI (if hb14 = true then 1 else 0))] [wt, [(a, .inr (2, [.int (nI (pNo r)), .ref ev, .ref pl, .int (oI (pEp r)), .int (nI (pLf r)), .ref nd, .int (nI (pOn r)), .int (nI (pKy r)), .ref ch, .int (oI (pRn r)), .ref x]))], v0, v1, v3, l13_5, u0_14] 0 0 from ?_)
    refine g_if_eq (tgt := 78) (q := 22) B dX4_drops_19 rfl (by decide) (bo_eq) (fun c19 => ?_) (fun c19 => ?_)
    · skip
      have hno19 := fun z => c19 (hbi_14.mpr z)
      have hFe : F1 = drpF T (pNd r) := by
        funext q
        rw [hF1 q]
        split
        · rfl
        · rename_i h
          have z : F1 q = none := (MoE.iffB hl13_5 ho1 q).mp (Classical.byContradiction fun z => hno19 ⟨q, by omega, z⟩)
          rw [hF1 q, if_neg h] at z
          unfold drpF
          rw [z]; simp
      obtain ⟨wz, wr, hpz, hmz⟩ := MItP.map hu0_14
      refine g_sub 6 rfl hpz rfl ?_
      refine (show Go g κ 78 [some (.ref a), some (.ref t), some (.ref i7), none] [] [wt, [(a, .inr (2, [.int (nI (pNo r)), .ref ev, .ref pl, .int (oI (pEp r)), .int (nI (pLf r)), .ref nd, .int (nI (pOn r)), .int (nI (pKy r)), .ref ch, .int (oI (pRn r)), .ref x]))], v0, v1, v3, l13_5, wz] 0 0 from ?_)
      obtain ⟨wc_1, ewc_1⟩ : ∃ w : va_W, w = ([wz, l13_5] : List va_W).flatten := ⟨_, rfl⟩
      have hwc_1 : MoP g (BxE g) nd (drpF T (pNd r)) n1 wc_1 := by
        rw [ewc_1]
        exact ⟨f1, _, _, _, hmz, (by rw [← hFe]; exact ho1), (by rw [← hFe]; exact hl13_5), rfl⟩
      refine g_close (w := wc_1) [6, 5] rfl ewc_1 rfl ?_
      refine (show Go g κ 78 [some (.ref a), some (.ref t), some (.ref i7), none] [] [wt, [(a, .inr (2, [.int (nI (pNo r)), .ref ev, .ref pl, .int (oI (pEp r)), .int (nI (pLf r)), .ref nd, .int (nI (pOn r)), .int (nI (pKy r)), .ref ch, .int (oI (pRn r)), .ref x]))], v0, v1, v3, wc_1] 0 0 from ?_)
      obtain ⟨wc_2, ewc_2⟩ : ∃ w : va_W, w = ([[(a, .inr (2, [.int (nI (pNo r)), .ref ev, .ref pl, .int (oI (pEp r)), .int (nI (pLf r)), .ref nd, .int (nI (pOn r)), .int (nI (pKy r)), .ref ch, .int (oI (pRn r)), .ref x]))], v0, v1, wc_1, v3] : List va_W).flatten := ⟨_, rfl⟩
      have hwc_2 : PersP g a x pks ((r.1, r.2.1, r.2.2.1, r.2.2.2.1, r.2.2.2.2.1, drpF T (pNd r), r.2.2.2.2.2.2) : PeS) wc_2 := by
        rw [ewc_2]
        exact ⟨ev, pl, nd, ch, ecap, pcap, n1, nc, plc, md, _, _, _, _, (by have hP0 := hP; obtain ⟨hp0, hp1, hp2, hp3, hp4, hp5, hp6, hp7, hp8⟩ := hP0; exact ⟨hp0, hp1, hp2, hp3, hp4, hp5, (fun i n h => by have h : drpF T (pNd r) i = some n := h; unfold drpF at h; split at h; exact hp6 i n h; cases h), hp7, hp8⟩), hpl, hec, hpc, hv0, hv1, hwc_1, hv3, rfl⟩
      refine g_close (w := wc_2) [1, 1, 1, 2, 1] rfl ewc_2 rfl ?_
      refine (show Go g κ 78 [some (.ref a), some (.ref t), some (.ref i7), none] [] [wt, wc_2] 0 0 from ?_)
      refine g_pk [1, 0] rfl rfl ?_
      refine (show Go g κ 78 [some (.ref a), some (.ref t), some (.ref i7), none] [] [wc_2, wt] 0 0 from ?_)
      exact g_vret B E dX4_drops_78 (⟨wc_2, rfl, rfl, hwc_2⟩)
    · skip
      have c19 := Classical.not_not.mp c19
      have hne19 := hbi_14.mp c19
      refine g_aload_n (q := 23) B dX4_drops_22 rfl rfl (rv_r _) ?_
      refine g_callF (q := 28) (is := [6]) (kc2 := 0) (ks2 := 0) B [] (ct_J33_next_m g J (i := i7) (t := nd) (f := f1) (n := n1) (md := md1) (j := j) (la := la) hu0_14 (hne19)) dX4_drops_23 rfl (ci := 32) rfl (rc_in B (ci := 32) rfl (k := 6) rfl (MItP.hm hu0_14)) q1173 q1034 q1036 q118 q1038 q966 q965 q1037 q1035 q957 rfl rfl mojava_util_Iterator_next___Ljava_lang_Object_ rfl rfl (by decide) (by decide) (Nat.le_of_ble_eq_true rfl) (Nat.le_of_ble_eq_true rfl) (Nat.le_of_ble_eq_true rfl) (fun _ _ hx => noX_x hx) (fun v23 L1 hp23 => ?_)
      obtain ⟨k23, v23, u0_23, rfl, rfl, hu0_23, hj_23, hk_23, hv_23, hbt_23⟩ := hp23
      refine (show Go g κ 28 [some (.ref a), some (.ref t), some (.ref i7), none] [.ref (kI g k23)] [wt, [(a, .inr (2, [.int (nI (pNo r)), .ref ev, .ref pl, .int (oI (pEp r)), .int (nI (pLf r)), .ref nd, .int (nI (pOn r)), .int (nI (pKy r)), .ref ch, .int (oI (pRn r)), .ref x]))], v0, v1, v3, l13_5, u0_23] 0 0 from ?_)
      obtain ⟨rv, hrv, hsv⟩ := MoE.at hl13_5 ho1 hv_23
      have hbv := Sub.box hsv
      have hbt := fun q h1 h2 => (MoE.iffB hl13_5 ho1 q).mp (hbt_23 q h1 h2)
      have hnk : pNd r k23 = some rv := by rw [← hrv, hF1 k23, if_neg (by omega)]
      have hrb := hP.2.2.2.2.2.2.1 _ _ hnk
      have hq0 : ∀ q, q < k23 → F1 q = drpF T (pNd r) q := by
        intro q hq
        rw [hF1 q]
        split
        · rfl
        · rename_i h
          have z := hbt q (by omega) hq
          rw [hF1 q, if_neg h] at z
          unfold drpF
          rw [z]; simp
      refine g_castRS (ci := 35) (q := 31) B rfl (rc_kI B J (hk_23)) dX4_drops_28 rfl q1204 ?_
      refine g_callV (q := 34) (is := []) (kc2 := 0) (ks2 := 0) B [] (ct_J26_intValue_k g J (k := k23)  (hk_23)) dX4_drops_31 rfl (rc_kI B J (hk_23)) rfl q1205 q1052 q1053 q111 q1054 rfl rfl moJ26_intValue rfl rfl (by decide) (by decide) (Nat.le_of_ble_eq_true rfl) (Nat.le_of_ble_eq_true rfl) (Nat.le_of_ble_eq_true rfl) (fun _ _ hx => noX_x hx) (fun v31 L1 hp31 => ?_)
      obtain ⟨rfl, rfl⟩ := hp31
      refine (show Go g κ 34 [some (.ref a), some (.ref t), some (.ref i7), none] [.int (nI k23)] [wt, [(a, .inr (2, [.int (nI (pNo r)), .ref ev, .ref pl, .int (oI (pEp r)), .int (nI (pLf r)), .ref nd, .int (nI (pOn r)), .int (nI (pKy r)), .ref ch, .int (oI (pRn r)), .ref x]))], v0, v1, v3, l13_5, u0_23] 0 0 from ?_)
      refine g_istore_n (q := 35) (lv2 := [some (.ref a), some (.ref t), some (.ref i7), some (.int (nI k23))]) B dX4_drops_34 rfl (Nat.le_of_ble_eq_true rfl) rfl ?_
      refine g_iload_n (q := 36) B dX4_drops_35 rfl rfl ?_
      refine g_aload_n (q := 37) B dX4_drops_36 rfl rfl (rv_r _) ?_
      refine g_callV (q := 40) (is := [0]) (kc2 := 0) (ks2 := 0) B [] (ct_X10_nodes_s g J (t := t) (T := T) (W0 := wt)  (hT)) dX4_drops_37 rfl (rc_in B (ci := 5) rfl (k := 0) rfl (Sub.hm (hT) fun _ z => TreeP.hm z)) rfl q2239 q1141 q1142 q123 q1143 rfl rfl moX10_nodes rfl rfl (by decide) (by decide) (Nat.le_of_ble_eq_true rfl) (Nat.le_of_ble_eq_true rfl) (Nat.le_of_ble_eq_true rfl) (fun _ _ hx => noX_x hx) (fun v37 L1 hp37 => ?_)
      obtain ⟨rfl, rfl⟩ := hp37
      refine (show Go g κ 40 [some (.ref a), some (.ref t), some (.ref i7), some (.int (nI k23))] [.int (nI (2 * 2 ^ T.1 - 1)), .int (nI k23)] [[(a, .inr (2, [.int (nI (pNo r)), .ref ev, .ref pl, .int (oI (pEp r)), .int (nI (pLf r)), .ref nd, .int (nI (pOn r)), .int (nI (pKy r)), .ref ch, .int (oI (pRn r)), .ref x]))], v0, v1, v3, l13_5, u0_23, wt] 0 0 from ?_)
      refine g_icmp_ge (tgt := 69) (q := 43) B dX4_drops_40 rfl (by decide) (nI_leI (by omega) (by omega)) (fun c40 => ?_) (fun c40 => ?_)
      · skip
        have hgo : ¬ (k23 < 2 * 2 ^ T.1 - 1 ∧ T.2.1 k23 = pNd r k23) := by rintro ⟨z1, z2⟩; omega
        obtain ⟨w3d, Rd, hpd, hbd, hod⟩ := BgM.del hl13_5 ho1 k23
        refine g_sub 4 rfl hpd rfl ?_
        refine (show Go g κ 69 [some (.ref a), some (.ref t), some (.ref i7), some (.int (nI k23))] [] [[(a, .inr (2, [.int (nI (pNo r)), .ref ev, .ref pl, .int (oI (pEp r)), .int (nI (pLf r)), .ref nd, .int (nI (pOn r)), .int (nI (pKy r)), .ref ch, .int (oI (pRn r)), .ref x]))], v0, v1, v3, w3d, u0_23, wt] 0 0 from ?_)
        have hFd : ∀ q, fup F1 k23 none q = if q < k23 + 1 then drpF T (pNd r) q else pNd r q := by
          intro q
          rcases Nat.lt_trichotomy q k23 with z | z | z
          · rw [fup_n (by omega), if_pos (by omega)]; exact hq0 q z
          · rw [z, fup_s, if_pos (by omega)]; unfold drpF; rw [if_neg hgo]
          · rw [fup_n (by omega), if_neg (by omega), hF1 q, if_neg (by omega)]
        refine g_aload_n (q := 70) B dX4_drops_69 rfl rfl (rv_r _) ?_
        refine g_callF (q := 75) (is := [5]) (kc2 := 0) (ks2 := 0) B [] (ct_J31_remove g J (i := i7) (t := nd) (f := f1) (n := n1) (md := md1) (j := (k23 + 1)) (k := k23) hu0_23 ) dX4_drops_70 rfl (ci := 32) rfl (rc_in B (ci := 32) rfl (k := 5) rfl (MItP.hm hu0_23)) q2242 q2314 q2300 q116 q2302 q2244 q2243 q2301 q2315 q957 rfl rfl mojava_util_Iterator_remove___V rfl rfl (by decide) (by decide) (Nat.le_of_ble_eq_true rfl) (Nat.le_of_ble_eq_true rfl) (Nat.le_of_ble_eq_true rfl) (fun _ _ hx => noX_x hx) (fun v70 L1 hp70 => ?_)
        obtain ⟨u0_70, rfl, rfl, hu0_70⟩ := hp70
        refine (show Go g κ 75 [some (.ref a), some (.ref t), some (.ref i7), some (.int (nI k23))] [] [[(a, .inr (2, [.int (nI (pNo r)), .ref ev, .ref pl, .int (oI (pEp r)), .int (nI (pLf r)), .ref nd, .int (nI (pOn r)), .int (nI (pKy r)), .ref ch, .int (oI (pRn r)), .ref x]))], v0, v1, v3, w3d, wt, u0_70] 0 0 from ?_)
        refine g_goto (tgt := 13) B dX4_drops_75 (by decide) ?_
        refine g_fg 3 rfl ?_
        refine g_pk [5, 0, 0, 0, 0, 0, 0] rfl rfl ?_
        refine (show Go g κ 13 [some (.ref a), some (.ref t), some (.ref i7), none] [] [wt, [(a, .inr (2, [.int (nI (pNo r)), .ref ev, .ref pl, .int (oI (pEp r)), .int (nI (pLf r)), .ref nd, .int (nI (pOn r)), .int (nI (pKy r)), .ref ch, .int (oI (pRn r)), .ref x]))], v0, v1, v3, w3d, u0_70] 0 0 from ?_)
        exact ih13 _ (by omega) (fup f1 k23 none) (n1 - 1) (md1 + 1) (k23 + 1) none (fup F1 k23 none) w3d u0_70 hbd hu0_70 (hod) (hFd) (by omega) rfl
      · skip
        refine g_aload_n (q := 44) B dX4_drops_43 rfl rfl (rv_r _) ?_
        obtain ⟨as_3, al_3, ap_3, fs_3, fl_3, fp_3, hB_3, hfs_3, hfl_3, hfp_3, hc_3_0, hc_3_1, hc_3_2, hc_3_3⟩ := TreeP.at (hT)
        refine g_getNM (q := 47) B (ci := 5) (k := 6) (j := 1) in_X10 rfl dX4_drops_44 rfl rfl (hc_3_0) (Nat.le_of_ble_eq_true rfl) q2039 rfl rfl ?_
        refine g_iload_n (q := 48) B dX4_drops_47 rfl rfl ?_
        refine g_ialdM (v := oI (T.2.1 k23)) (q := 49) B (k := 6) dX4_drops_48 rfl rfl (hc_3_1) (vp_in_nI (by omega) (by omega)) (by rw [nI_clamp (by omega)]; exact hfs_3 _ (by omega)) ?_
        refine g_aload_n (q := 50) B dX4_drops_49 rfl rfl (rv_r _) ?_
        refine g_get (q := 53) B (ci := 2) (k := 0) (j := 5) in_X4 rfl dX4_drops_50 rfl rfl (Nat.le_of_ble_eq_true rfl) q1904 rfl rfl ?_
        refine g_iload_n (q := 54) B dX4_drops_53 rfl rfl ?_
        refine g_callS (q := 57) (is := []) (kc2 := 0) (ks2 := 0) B [.int (nI k23)] (ct_J26_valueOf_k g J (k := k23)  (hk_23)) dX4_drops_54 rfl q2181 q686 q111 q687 rfl rfl moJ26_valueOf rfl rfl (by decide) (by decide) (Nat.le_of_ble_eq_true rfl) (Nat.le_of_ble_eq_true rfl) (Nat.le_of_ble_eq_true rfl) (fun _ _ hx => noX_x hx) (fun v54 L1 hp54 => ?_)
        obtain ⟨rfl, rfl⟩ := hp54
        refine (show Go g κ 57 [some (.ref a), some (.ref t), some (.ref i7), some (.int (nI k23))] [.ref (kI g k23), .ref nd, .int (oI (T.2.1 k23))] [[(a, .inr (2, [.int (nI (pNo r)), .ref ev, .ref pl, .int (oI (pEp r)), .int (nI (pLf r)), .ref nd, .int (nI (pOn r)), .int (nI (pKy r)), .ref ch, .int (oI (pRn r)), .ref x]))], v0, v1, v3, l13_5, u0_23, wt] 0 0 from ?_)
        refine g_callV (q := 60) (is := [5]) (kc2 := 0) (ks2 := 0) B [.ref (kI g k23)] (ct_J10_get_i g J (i := i7) (t := nd) (f := f1) (n := n1) (md := md1) (j := (k23 + 1)) (la := (some k23)) (k := k23) hu0_23 (hk_23)) dX4_drops_57 rfl (rc_in B (ci := 27) rfl (k := 5) rfl (MItP.hmt hu0_23)) rfl q2240 q1826 q1827 q91 q1828 rfl rfl moJ10_get rfl rfl (by decide) (by decide) (Nat.le_of_ble_eq_true rfl) (Nat.le_of_ble_eq_true rfl) (Nat.le_of_ble_eq_true rfl) (fun _ _ hx => noX_x hx) (fun v57 L1 hp57 => ?_)
        obtain ⟨u0_57, rfl, rfl, hu0_57⟩ := hp57
        rw [(show f1 k23 = some v23 from hv_23)]
        refine (show Go g κ 60 [some (.ref a), some (.ref t), some (.ref i7), some (.int (nI k23))] [.ref v23, .int (oI (T.2.1 k23))] [[(a, .inr (2, [.int (nI (pNo r)), .ref ev, .ref pl, .int (oI (pEp r)), .int (nI (pLf r)), .ref nd, .int (nI (pOn r)), .int (nI (pKy r)), .ref ch, .int (oI (pRn r)), .ref x]))], v0, v1, v3, l13_5, wt, u0_57] 0 0 from ?_)
        refine g_castRS (ci := 35) (q := 63) B rfl (rc_bxat B J (k := 4) rfl hbv) dX4_drops_60 rfl q1204 ?_
        refine g_callV (q := 66) (is := [4]) (kc2 := 0) (ks2 := 0) B [] (ct_J26_intValue_b g J (a := v23) (v := nI rv) (wb := l13_5)  (hbv)) dX4_drops_63 rfl (rc_bxat B J (k := 4) rfl hbv) rfl q1205 q1052 q1053 q111 q1054 rfl rfl moJ26_intValue rfl rfl (by decide) (by decide) (Nat.le_of_ble_eq_true rfl) (Nat.le_of_ble_eq_true rfl) (Nat.le_of_ble_eq_true rfl) (fun _ _ hx => noX_x hx) (fun v63 L1 hp63 => ?_)
        obtain ⟨rfl, rfl⟩ := hp63
        refine (show Go g κ 66 [some (.ref a), some (.ref t), some (.ref i7), some (.int (nI k23))] [.int (nI rv), .int (oI (T.2.1 k23))] [[(a, .inr (2, [.int (nI (pNo r)), .ref ev, .ref pl, .int (oI (pEp r)), .int (nI (pLf r)), .ref nd, .int (nI (pOn r)), .int (nI (pKy r)), .ref ch, .int (oI (pRn r)), .ref x]))], v0, v1, v3, wt, u0_57, l13_5] 0 0 from ?_)
        refine g_icmp_eq (tgt := 75) (q := 69) B dX4_drops_66 rfl (by decide) (oI_eq ((fun n h => by have := hB_3.2.1 _ _ h; omega)) (by omega)) (fun c66 => ?_) (fun c66 => ?_)
        · skip
          have hFk : ∀ q, F1 q = if q < k23 + 1 then drpF T (pNd r) q else pNd r q := by
            intro q
            split
            · rename_i h
              rcases Nat.lt_or_ge q k23 with z | z
              · exact hq0 q z
              · rw [show q = k23 by omega, hrv]; unfold drpF; rw [if_pos ⟨by omega, by rw [hnk]; exact c66⟩, hnk]
            · rename_i h
              rw [hF1 q, if_neg (by omega)]
          refine g_goto (tgt := 13) B dX4_drops_75 (by decide) ?_
          refine g_fg 3 rfl ?_
          refine g_pk [4, 0, 0, 0, 0, 1, 0] rfl rfl ?_
          refine (show Go g κ 13 [some (.ref a), some (.ref t), some (.ref i7), none] [] [wt, [(a, .inr (2, [.int (nI (pNo r)), .ref ev, .ref pl, .int (oI (pEp r)), .int (nI (pLf r)), .ref nd, .int (nI (pOn r)), .int (nI (pKy r)), .ref ch, .int (oI (pRn r)), .ref x]))], v0, v1, v3, l13_5, u0_57] 0 0 from ?_)
          exact ih13 _ (by omega) f1 n1 md1 (k23 + 1) (some k23) F1 l13_5 u0_57 hl13_5 hu0_57 (ho1) (hFk) (by omega) rfl
        · skip
          have hgo : ¬ (k23 < 2 * 2 ^ T.1 - 1 ∧ T.2.1 k23 = pNd r k23) := by rintro ⟨z1, z2⟩; rw [hnk] at z2; exact c66 z2
          obtain ⟨w3d, Rd, hpd, hbd, hod⟩ := BgM.del hl13_5 ho1 k23
          refine g_sub 6 rfl hpd rfl ?_
          refine (show Go g κ 69 [some (.ref a), some (.ref t), some (.ref i7), some (.int (nI k23))] [] [[(a, .inr (2, [.int (nI (pNo r)), .ref ev, .ref pl, .int (oI (pEp r)), .int (nI (pLf r)), .ref nd, .int (nI (pOn r)), .int (nI (pKy r)), .ref ch, .int (oI (pRn r)), .ref x]))], v0, v1, v3, wt, u0_57, w3d] 0 0 from ?_)
          have hFd : ∀ q, fup F1 k23 none q = if q < k23 + 1 then drpF T (pNd r) q else pNd r q := by
            intro q
            rcases Nat.lt_trichotomy q k23 with z | z | z
            · rw [fup_n (by omega), if_pos (by omega)]; exact hq0 q z
            · rw [z, fup_s, if_pos (by omega)]; unfold drpF; rw [if_neg hgo]
            · rw [fup_n (by omega), if_neg (by omega), hF1 q, if_neg (by omega)]
          refine g_aload_n (q := 70) B dX4_drops_69 rfl rfl (rv_r _) ?_
          refine g_callF (q := 75) (is := [5]) (kc2 := 0) (ks2 := 0) B [] (ct_J31_remove g J (i := i7) (t := nd) (f := f1) (n := n1) (md := md1) (j := (k23 + 1)) (k := k23) hu0_57 ) dX4_drops_70 rfl (ci := 32) rfl (rc_in B (ci := 32) rfl (k := 5) rfl (MItP.hm hu0_57)) q2242 q2314 q2300 q116 q2302 q2244 q2243 q2301 q2315 q957 rfl rfl mojava_util_Iterator_remove___V rfl rfl (by decide) (by decide) (Nat.le_of_ble_eq_true rfl) (Nat.le_of_ble_eq_true rfl) (Nat.le_of_ble_eq_true rfl) (fun _ _ hx => noX_x hx) (fun v70 L1 hp70 => ?_)
          obtain ⟨u0_70, rfl, rfl, hu0_70⟩ := hp70
          refine (show Go g κ 75 [some (.ref a), some (.ref t), some (.ref i7), some (.int (nI k23))] [] [[(a, .inr (2, [.int (nI (pNo r)), .ref ev, .ref pl, .int (oI (pEp r)), .int (nI (pLf r)), .ref nd, .int (nI (pOn r)), .int (nI (pKy r)), .ref ch, .int (oI (pRn r)), .ref x]))], v0, v1, v3, wt, w3d, u0_70] 0 0 from ?_)
          refine g_goto (tgt := 13) B dX4_drops_75 (by decide) ?_
          refine g_fg 3 rfl ?_
          refine g_pk [4, 0, 0, 0, 0, 0, 0] rfl rfl ?_
          refine (show Go g κ 13 [some (.ref a), some (.ref t), some (.ref i7), none] [] [wt, [(a, .inr (2, [.int (nI (pNo r)), .ref ev, .ref pl, .int (oI (pEp r)), .int (nI (pLf r)), .ref nd, .int (nI (pOn r)), .int (nI (pKy r)), .ref ch, .int (oI (pRn r)), .ref x]))], v0, v1, v3, w3d, u0_70] 0 0 from ?_)
          exact ih13 _ (by omega) (fup f1 k23 none) (n1 - 1) (md1 + 1) (k23 + 1) none (fup F1 k23 none) w3d u0_70 hbd hu0_70 (hod) (hFd) (by omega) rfl
  exact lp13 _ f_n nn mm_n 0 none (pNd r) wb_n u0_7 hb_n hu0_7 (ho_n) (fun q => by rw [if_neg (Nat.not_lt_zero q)]) (Nat.zero_le _) rfl
