set_option maxRecDepth 100000
def PackP (g : Gv) (a : Nat) (r : PkS) (w : va_W) : Prop := (PkB r) ∧ w = ([[(a, .inr (4, [.int (nI r.1), .int (nI r.2.1), .int (nI r.2.2.1), .int (nI (if r.2.2.2.1 = true then 1 else 0)), .int (oI r.2.2.2.2.1), .int (nI (if r.2.2.2.2.2 = true then 1 else 0))]))]] : List va_W).flatten
theorem PackP.hm {g : Gv} {a : Nat} {r : PkS} {w : va_W} (h : PackP g a r w) : ∃ fs, (a, .inr (4, fs)) ∈ w := by
  obtain ⟨hK, rfl⟩ := h
  exact ⟨_, List.mem_cons_self⟩
theorem PackP.vd {g : Gv} {a : Nat} {r : PkS} {w : va_W} (h : PackP g a r w) : Vd g a w := by
  obtain ⟨fs, h⟩ := PackP.hm h
  exact Or.inl ⟨4, fs, by decide, h⟩
theorem PackP.at {g : Gv} {a : Nat} {r : PkS} {W : va_W} (h : Sub (PackP g a r) W) : (PkB r) ∧ (a, .inr (4, [.int (nI r.1), .int (nI r.2.1), .int (nI r.2.2.1), .int (nI (if r.2.2.2.1 = true then 1 else 0)), .int (oI r.2.2.2.2.1), .int (nI (if r.2.2.2.2.2 = true then 1 else 0))])) ∈ W := by
  obtain ⟨w, R, hp, h⟩ := h
  obtain ⟨hK, rfl⟩ := h
  exact ⟨hK, sub_c hp 0 rfl⟩
theorem ct_add_PackL (g : Gv) (J : Jd g) {p : Nat} {ps : List Nat} {rs : List PkS} {cap : Nat} {a : Nat} {r : PkS} {mc : Nat} {ms : Nat} {w0 : va_W} {w1 : va_W} (hw0 : LoP g (PackP g) p ps rs cap w0) (hw1 : PackP g a r w1) (hcap : cap < 8388608) (hm : ps.length = cap → 1 ≤ mc ∧ growN cap ≤ ms) : Ct g yJ2_add (ws_ yJ2_add cJ2_add 2 (some .boolean)) 6 mc ms [.ref p, .ref a] [w0, w1] (fun (rv_ : Option Value) (rL_ : List va_W) => ∃ (u0 : va_W), rv_ = some (.int (nI 1)) ∧ rL_ = [u0] ∧ LoP g (PackP g) p (ps ++ [a]) (rs ++ [r]) (if ps.length = cap then growN cap else cap) u0) noX := LoP.push hw0 (fun _ _ _ z => PackP.vd z) J hw1 hcap hm
theorem ct_X7_init (g : Gv) (J : Jd g) {a : Nat} {p : Nat} {f : Nat} {s : Nat} (hp : p < 16) (hf : f < 1000) (hs : s < 1000) : Ct g yX7_init (ws_ yX7_init cX7_init 4 none) 1 0 0 [.ref a, .int (nI p), .int (nI f), .int (nI s)] [[(a, .inr (4, [.int (nI 0), .int (nI 0), .int (nI 0), .int (nI 0), .int (nI 0), .int (nI 0)]))]] (fun (rv_ : Option Value) (rL_ : List va_W) => ∃ (u0 : va_W), rv_ = none ∧ rL_ = [u0] ∧ PackP g a ((p, f, s, false, none, false) : PkS) u0) noX := by
  refine Ct.ofI "Keygrove$Pack" [some (.ref a), some (.int (nI p)), some (.int (nI f)), some (.int (nI s))] rfl (by decide) rfl (Nat.le_of_ble_eq_true rfl) rfl rfl ?_
  intro κ B E tb ini
  refine g_aload_n (q := 1) B dX7_init_0 rfl rfl (rv_r _) ?_
  refine g_objInit (q := 4) B q1986 q157 q158 dX7_init_1 rfl rfl (Nat.le_of_ble_eq_true rfl) ?_
  refine g_aload_n (q := 5) B dX7_init_4 rfl rfl (rv_r _) ?_
  refine g_iconst (v := -1) (q := 6) B dX7_init_5 rfl (by decide) ?_
  refine g_put (q := 9) (L2 := [[(a, .inr (4, [.int (nI 0), .int (nI 0), .int (nI 0), .int (nI 0), .int (-1), .int (nI 0)]))]]) B (ci := 4) (k := 0) (j := 4) in_X7 tyX7 tyX7_ok nmX7 rfl dX7_init_6 rfl rfl (Nat.le_of_ble_eq_true rfl) q1996 rfl rfl rfl rfl (Nat.le_of_ble_eq_true rfl) rfl ?_
  refine g_aload_n (q := 10) B dX7_init_9 rfl rfl (rv_r _) ?_
  refine g_iload_n (q := 11) B dX7_init_10 rfl rfl ?_
  refine g_putF (q := 14) (L2 := [[(a, .inr (4, [.int (nI p), .int (nI 0), .int (nI 0), .int (nI 0), .int (-1), .int (nI 0)]))]]) B (ci := 4) (k := 0) (j := 0) in_X7 tyX7 tyX7_ok nmX7 rfl dX7_init_11 rfl rfl (Nat.le_of_ble_eq_true rfl) q1987 rfl rfl (ini) rfl rfl rfl (Nat.le_of_ble_eq_true rfl) rfl ?_
  refine g_aload_n (q := 15) B dX7_init_14 rfl rfl (rv_r _) ?_
  refine g_iload_n (q := 16) B dX7_init_15 rfl rfl ?_
  refine g_putF (q := 19) (L2 := [[(a, .inr (4, [.int (nI p), .int (nI f), .int (nI 0), .int (nI 0), .int (-1), .int (nI 0)]))]]) B (ci := 4) (k := 0) (j := 1) in_X7 tyX7 tyX7_ok nmX7 rfl dX7_init_16 rfl rfl (Nat.le_of_ble_eq_true rfl) q1989 rfl rfl (ini) rfl rfl rfl (Nat.le_of_ble_eq_true rfl) rfl ?_
  refine g_aload_n (q := 20) B dX7_init_19 rfl rfl (rv_r _) ?_
  refine g_iload_n (q := 21) B dX7_init_20 rfl rfl ?_
  refine g_putF (q := 24) (L2 := [[(a, .inr (4, [.int (nI p), .int (nI f), .int (nI s), .int (nI 0), .int (-1), .int (nI 0)]))]]) B (ci := 4) (k := 0) (j := 2) in_X7 tyX7 tyX7_ok nmX7 rfl dX7_init_21 rfl rfl (Nat.le_of_ble_eq_true rfl) q1992 rfl rfl (ini) rfl rfl rfl (Nat.le_of_ble_eq_true rfl) rfl ?_
  obtain ⟨wc_1, ewc_1⟩ : ∃ w : va_W, w = ([[(a, .inr (4, [.int (nI p), .int (nI f), .int (nI s), .int (nI 0), .int (-1), .int (nI 0)]))]] : List va_W).flatten := ⟨_, rfl⟩
  have hwc_1 : PackP g a ((p, f, s, false, none, false) : PkS) wc_1 := by
    rw [ewc_1]
    exact ⟨⟨hp, hf, hs, (fun n h => by cases h)⟩, rfl⟩
  refine g_close (w := wc_1) [0] rfl ewc_1 rfl ?_
  refine (show Go g κ 24 [some (.ref a), some (.int (nI p)), some (.int (nI f)), some (.int (nI s))] [] [wc_1] 0 0 from ?_)
  exact g_vret B E dX7_init_24 (⟨wc_1, rfl, rfl, hwc_1⟩)
def MsgP (g : Gv) (a : Nat) (r : MsS) (w : va_W) : Prop := w = ([[(a, .inr (11, [.int (nI r.1), .int (nI r.2.1), .int (nI r.2.2.1), .int (nI r.2.2.2)]))]] : List va_W).flatten
theorem MsgP.hm {g : Gv} {a : Nat} {r : MsS} {w : va_W} (h : MsgP g a r w) : ∃ fs, (a, .inr (11, fs)) ∈ w := by
  obtain rfl := h
  exact ⟨_, List.mem_cons_self⟩
theorem MsgP.vd {g : Gv} {a : Nat} {r : MsS} {w : va_W} (h : MsgP g a r w) : Vd g a w := by
  obtain ⟨fs, h⟩ := MsgP.hm h
  exact Or.inl ⟨11, fs, by decide, h⟩
theorem MsgP.at {g : Gv} {a : Nat} {r : MsS} {W : va_W} (h : Sub (MsgP g a r) W) : (a, .inr (11, [.int (nI r.1), .int (nI r.2.1), .int (nI r.2.2.1), .int (nI r.2.2.2)])) ∈ W := by
  obtain ⟨w, R, hp, h⟩ := h
  obtain rfl := h
  exact sub_c hp 0 rfl
theorem ct_add_MsgL (g : Gv) (J : Jd g) {p : Nat} {rs : List MsS} {cap : Nat} {a : Nat} {r : MsS} {mc : Nat} {ms : Nat} {w0 : va_W} {w1 : va_W} (hw0 : LhP g (MsgP g) p rs cap w0) (hw1 : MsgP g a r w1) (hcap : cap < 8388608) (hm : rs.length = cap → 1 ≤ mc ∧ growN cap ≤ ms) : Ct g yJ2_add (ws_ yJ2_add cJ2_add 2 (some .boolean)) 6 mc ms [.ref p, .ref a] [w0, w1] (fun (rv_ : Option Value) (rL_ : List va_W) => ∃ (u0 : va_W), rv_ = some (.int (nI 1)) ∧ rL_ = [u0] ∧ LhP g (MsgP g) p (rs ++ [r]) (if rs.length = cap then growN cap else cap) u0) noX := LhP.push hw0 (fun _ _ _ z => MsgP.vd z) J hw1 hcap hm
theorem ct_X21_init (g : Gv) (J : Jd g) {a : Nat} {e : Nat} {l : Nat} {p : Nat} {x : Nat} : Ct g yX21_init (ws_ yX21_init cX21_init 5 none) 1 0 0 [.ref a, .int (nI e), .int (nI l), .int (nI p), .int (nI x)] [[(a, .inr (11, [.int (nI 0), .int (nI 0), .int (nI 0), .int (nI 0)]))]] (fun (rv_ : Option Value) (rL_ : List va_W) => ∃ (u0 : va_W), rv_ = none ∧ rL_ = [u0] ∧ MsgP g a ((e, l, p, x) : MsS) u0) noX := by
  refine Ct.ofI "Keygrove$Message" [some (.ref a), some (.int (nI e)), some (.int (nI l)), some (.int (nI p)), some (.int (nI x))] rfl (by decide) rfl (Nat.le_of_ble_eq_true rfl) rfl rfl ?_
  intro κ B E tb ini
  refine g_aload_n (q := 1) B dX21_init_0 rfl rfl (rv_r _) ?_
  refine g_objInit (q := 4) B q2873 q157 q158 dX21_init_1 rfl rfl (Nat.le_of_ble_eq_true rfl) ?_
  refine g_aload_n (q := 5) B dX21_init_4 rfl rfl (rv_r _) ?_
  refine g_iload_n (q := 6) B dX21_init_5 rfl rfl ?_
  refine g_putF (q := 9) (L2 := [[(a, .inr (11, [.int (nI e), .int (nI 0), .int (nI 0), .int (nI 0)]))]]) B (ci := 11) (k := 0) (j := 0) in_X21 tyX21 tyX21_ok nmX21 rfl dX21_init_6 rfl rfl (Nat.le_of_ble_eq_true rfl) q2874 rfl rfl (ini) rfl rfl rfl (Nat.le_of_ble_eq_true rfl) rfl ?_
  refine g_aload_n (q := 10) B dX21_init_9 rfl rfl (rv_r _) ?_
  refine g_iload_n (q := 11) B dX21_init_10 rfl rfl ?_
  refine g_putF (q := 14) (L2 := [[(a, .inr (11, [.int (nI e), .int (nI l), .int (nI 0), .int (nI 0)]))]]) B (ci := 11) (k := 0) (j := 1) in_X21 tyX21 tyX21_ok nmX21 rfl dX21_init_11 rfl rfl (Nat.le_of_ble_eq_true rfl) q2876 rfl rfl (ini) rfl rfl rfl (Nat.le_of_ble_eq_true rfl) rfl ?_
  refine g_aload_n (q := 15) B dX21_init_14 rfl rfl (rv_r _) ?_
  refine g_iload_n (q := 16) B dX21_init_15 rfl rfl ?_
  refine g_putF (q := 19) (L2 := [[(a, .inr (11, [.int (nI e), .int (nI l), .int (nI p), .int (nI 0)]))]]) B (ci := 11) (k := 0) (j := 2) in_X21 tyX21 tyX21_ok nmX21 rfl dX21_init_16 rfl rfl (Nat.le_of_ble_eq_true rfl) q2878 rfl rfl (ini) rfl rfl rfl (Nat.le_of_ble_eq_true rfl) rfl ?_
  refine g_aload_n (q := 20) B dX21_init_19 rfl rfl (rv_r _) ?_
  refine g_iload (q := 22) B dX21_init_20 rfl rfl ?_
  refine g_putF (q := 25) (L2 := [[(a, .inr (11, [.int (nI e), .int (nI l), .int (nI p), .int (nI x)]))]]) B (ci := 11) (k := 0) (j := 3) in_X21 tyX21 tyX21_ok nmX21 rfl dX21_init_22 rfl rfl (Nat.le_of_ble_eq_true rfl) q2880 rfl rfl (ini) rfl rfl rfl (Nat.le_of_ble_eq_true rfl) rfl ?_
  obtain ⟨wc_1, ewc_1⟩ : ∃ w : va_W, w = ([[(a, .inr (11, [.int (nI e), .int (nI l), .int (nI p), .int (nI x)]))]] : List va_W).flatten := ⟨_, rfl⟩
  have hwc_1 : MsgP g a ((e, l, p, x) : MsS) wc_1 := by
    rw [ewc_1]
    exact rfl
  refine g_close (w := wc_1) [0] rfl ewc_1 rfl ?_
  refine (show Go g κ 25 [some (.ref a), some (.int (nI e)), some (.int (nI l)), some (.int (nI p)), some (.int (nI x))] [] [wc_1] 0 0 from ?_)
  exact g_vret B E dX21_init_25 (⟨wc_1, rfl, rfl, hwc_1⟩)
def StepP (g : Gv) (a : Nat) (r : StS) (w : va_W) : Prop := ∃ (bb : Nat) (be : Nat) (nb : Nat) (ne : Nat) (v0 : va_W) (v1 : va_W), MoP g (BxE g) bb r.2.2.2.1 nb v0 ∧ MoP g (BxE g) be r.2.2.2.2 ne v1 ∧ w = ([[(a, .inr (6, [.int (nI r.1), .int (oI r.2.1), .int (nI r.2.2.1), .ref bb, .ref be]))], v0, v1] : List va_W).flatten
theorem StepP.hm {g : Gv} {a : Nat} {r : StS} {w : va_W} (h : StepP g a r w) : ∃ fs, (a, .inr (6, fs)) ∈ w := by
  obtain ⟨bb, be, nb, ne, v0, v1, hv0, hv1, rfl⟩ := h
  exact ⟨_, List.mem_cons_self⟩
theorem StepP.vd {g : Gv} {a : Nat} {r : StS} {w : va_W} (h : StepP g a r w) : Vd g a w := by
  obtain ⟨fs, h⟩ := StepP.hm h
  exact Or.inl ⟨6, fs, by decide, h⟩
theorem StepP.at {g : Gv} {a : Nat} {r : StS} {W : va_W} (h : Sub (StepP g a r) W) : ∃ (bb : Nat) (be : Nat) (nb : Nat) (ne : Nat), (a, .inr (6, [.int (nI r.1), .int (oI r.2.1), .int (nI r.2.2.1), .ref bb, .ref be])) ∈ W ∧ Sub (MoP g (BxE g) bb r.2.2.2.1 nb) W ∧ Sub (MoP g (BxE g) be r.2.2.2.2 ne) W := by
  obtain ⟨w, R, hp, h⟩ := h
  obtain ⟨bb, be, nb, ne, v0, v1, hv0, hv1, rfl⟩ := h
  exact ⟨bb, be, nb, ne, sub_c hp 0 rfl, Sub.in hp rfl 1 rfl hv0, Sub.in hp rfl 2 rfl hv1⟩
theorem ct_add_StepL (g : Gv) (J : Jd g) {p : Nat} {rs : List StS} {cap : Nat} {a : Nat} {r : StS} {mc : Nat} {ms : Nat} {w0 : va_W} {w1 : va_W} (hw0 : LhP g (StepP g) p rs cap w0) (hw1 : StepP g a r w1) (hcap : cap < 8388608) (hm : rs.length = cap → 1 ≤ mc ∧ growN cap ≤ ms) : Ct g yJ2_add (ws_ yJ2_add cJ2_add 2 (some .boolean)) 6 mc ms [.ref p, .ref a] [w0, w1] (fun (rv_ : Option Value) (rL_ : List va_W) => ∃ (u0 : va_W), rv_ = some (.int (nI 1)) ∧ rL_ = [u0] ∧ LhP g (StepP g) p (rs ++ [r]) (if rs.length = cap then growN cap else cap) u0) noX := LhP.push hw0 (fun _ _ _ z => StepP.vd z) J hw1 hcap hm
theorem nwJ10 : ∀ j, j < 9 → defaultValue (tyJ10 j) = vp_V [.null, .null, .null, .null, .int (nI 0), .int (nI 0), .null, .null, .null] j := by
  intro j hj
  match j, hj with
  | 0, _ => rfl
  | 1, _ => rfl
  | 2, _ => rfl
  | 3, _ => rfl
  | 4, _ => rfl
  | 5, _ => rfl
  | 6, _ => rfl
  | 7, _ => rfl
  | 8, _ => rfl
  | n + 9, hj => exact absurd hj (by omega)
theorem moJ10_init : Mo yJ10_init 0 := by
  refine ⟨by decide, by decide, by decide +kernel⟩
theorem ct_X11_init (g : Gv) (J : Jd g) {a : Nat} {l : Nat} {b : Option Nat} {s : Nat} : Ct g yX11_init (ws_ yX11_init cX11_init 4 none) 3 2 18 [.ref a, .int (nI l), .int (oI b), .int (nI s)] [[(a, .inr (6, [.int (nI 0), .int (nI 0), .int (nI 0), .null, .null]))]] (fun (rv_ : Option Value) (rL_ : List va_W) => ∃ (bb : Nat) (be : Nat) (u1 : va_W) (u2 : va_W), rv_ = none ∧ rL_ = [[(a, .inr (6, [.int (nI l), .int (oI b), .int (nI s), .ref bb, .ref be]))], u1, u2] ∧ MoP g (BxE g) bb (fun _ => none) 0 u1 ∧ MoP g (BxE g) be (fun _ => none) 0 u2) noX := by
  refine Ct.ofI "Keygrove$Step" [some (.ref a), some (.int (nI l)), some (.int (oI b)), some (.int (nI s))] rfl (by decide) rfl (Nat.le_of_ble_eq_true rfl) rfl rfl ?_
  intro κ B E tb ini
  refine g_aload_n (q := 1) B dX11_init_0 rfl rfl (rv_r _) ?_
  refine g_objInit (q := 4) B q2060 q157 q158 dX11_init_1 rfl rfl (Nat.le_of_ble_eq_true rfl) ?_
  refine g_aload_n (q := 5) B dX11_init_4 rfl rfl (rv_r _) ?_
  refine g_new (q := 8) (kc2 := 1) (ks2 := 9) (fs := [.null, .null, .null, .null, .int (nI 0), .int (nI 0), .null, .null, .null]) B (ci := 27) in_J10 tyJ10_ok rfl dX11_init_5 rfl q2061 q1865 q91 (nwJ10) (Nat.le_of_ble_eq_true rfl) (Nat.le_of_ble_eq_true rfl) (fun n5 => ?_)
  refine (show Go g κ 8 [some (.ref a), some (.int (nI l)), some (.int (oI b)), some (.int (nI s))] [.ref n5, .ref a] [[(a, .inr (6, [.int (nI 0), .int (nI 0), .int (nI 0), .null, .null]))], [(n5, .inr (27, [.null, .null, .null, .null, .int (nI 0), .int (nI 0), .null, .null, .null]))]] 1 9 from ?_)
  refine g_dup (q := 9) B dX11_init_8 rfl rfl ?_
  refine g_callI (q := 12) (is := [1]) (kc2 := 1) (ks2 := 9) B [] (ct_J10_init g J (t := n5)  ) dX11_init_9 rfl rfl q2062 q1867 q91 q1868 rfl rfl moJ10_init rfl rfl (by decide) (by decide) (Nat.le_of_ble_eq_true rfl) (Nat.le_of_ble_eq_true rfl) (Nat.le_of_ble_eq_true rfl) (fun _ _ hx => noX_x hx) (fun v9 L1 hp9 => ?_)
  obtain ⟨u0_9, rfl, rfl, hu0_9⟩ := hp9
  refine (show Go g κ 12 [some (.ref a), some (.int (nI l)), some (.int (oI b)), some (.int (nI s))] [.ref n5, .ref a] [[(a, .inr (6, [.int (nI 0), .int (nI 0), .int (nI 0), .null, .null]))], u0_9] 1 9 from ?_)
  refine g_putF (q := 15) (L2 := [[(a, .inr (6, [.int (nI 0), .int (nI 0), .int (nI 0), .ref n5, .null]))], u0_9]) B (ci := 6) (k := 0) (j := 3) in_X11 tyX11 tyX11_ok nmX11 rfl dX11_init_12 rfl rfl (Nat.le_of_ble_eq_true rfl) q2069 rfl rfl (ini) rfl rfl rfl (Nat.le_of_ble_eq_true rfl) rfl ?_
  refine g_aload_n (q := 16) B dX11_init_15 rfl rfl (rv_r _) ?_
  refine g_new (q := 19) (kc2 := 0) (ks2 := 0) (fs := [.null, .null, .null, .null, .int (nI 0), .int (nI 0), .null, .null, .null]) B (ci := 27) in_J10 tyJ10_ok rfl dX11_init_16 rfl q2061 q1865 q91 (nwJ10) (Nat.le_of_ble_eq_true rfl) (Nat.le_of_ble_eq_true rfl) (fun n16 => ?_)
  refine (show Go g κ 19 [some (.ref a), some (.int (nI l)), some (.int (oI b)), some (.int (nI s))] [.ref n16, .ref a] [[(a, .inr (6, [.int (nI 0), .int (nI 0), .int (nI 0), .ref n5, .null]))], u0_9, [(n16, .inr (27, [.null, .null, .null, .null, .int (nI 0), .int (nI 0), .null, .null, .null]))]] 0 0 from ?_)
  refine g_dup (q := 20) B dX11_init_19 rfl rfl ?_
  refine g_callI (q := 23) (is := [2]) (kc2 := 0) (ks2 := 0) B [] (ct_J10_init g J (t := n16)  ) dX11_init_20 rfl rfl q2062 q1867 q91 q1868 rfl rfl moJ10_init rfl rfl (by decide) (by decide) (Nat.le_of_ble_eq_true rfl) (Nat.le_of_ble_eq_true rfl) (Nat.le_of_ble_eq_true rfl) (fun _ _ hx => noX_x hx) (fun v20 L1 hp20 => ?_)
  obtain ⟨u0_20, rfl, rfl, hu0_20⟩ := hp20
  refine (show Go g κ 23 [some (.ref a), some (.int (nI l)), some (.int (oI b)), some (.int (nI s))] [.ref n16, .ref a] [[(a, .inr (6, [.int (nI 0), .int (nI 0), .int (nI 0), .ref n5, .null]))], u0_9, u0_20] 0 0 from ?_)
  refine g_putF (q := 26) (L2 := [[(a, .inr (6, [.int (nI 0), .int (nI 0), .int (nI 0), .ref n5, .ref n16]))], u0_9, u0_20]) B (ci := 6) (k := 0) (j := 4) in_X11 tyX11 tyX11_ok nmX11 rfl dX11_init_23 rfl rfl (Nat.le_of_ble_eq_true rfl) q2071 rfl rfl (ini) rfl rfl rfl (Nat.le_of_ble_eq_true rfl) rfl ?_
  refine g_aload_n (q := 27) B dX11_init_26 rfl rfl (rv_r _) ?_
  refine g_iload_n (q := 28) B dX11_init_27 rfl rfl ?_
  refine g_putF (q := 31) (L2 := [[(a, .inr (6, [.int (nI l), .int (nI 0), .int (nI 0), .ref n5, .ref n16]))], u0_9, u0_20]) B (ci := 6) (k := 0) (j := 0) in_X11 tyX11 tyX11_ok nmX11 rfl dX11_init_28 rfl rfl (Nat.le_of_ble_eq_true rfl) q2063 rfl rfl (ini) rfl rfl rfl (Nat.le_of_ble_eq_true rfl) rfl ?_
  refine g_aload_n (q := 32) B dX11_init_31 rfl rfl (rv_r _) ?_
  refine g_iload_n (q := 33) B dX11_init_32 rfl rfl ?_
  refine g_putF (q := 36) (L2 := [[(a, .inr (6, [.int (nI l), .int (oI b), .int (nI 0), .ref n5, .ref n16]))], u0_9, u0_20]) B (ci := 6) (k := 0) (j := 1) in_X11 tyX11 tyX11_ok nmX11 rfl dX11_init_33 rfl rfl (Nat.le_of_ble_eq_true rfl) q2065 rfl rfl (ini) rfl rfl rfl (Nat.le_of_ble_eq_true rfl) rfl ?_
  refine g_aload_n (q := 37) B dX11_init_36 rfl rfl (rv_r _) ?_
  refine g_iload_n (q := 38) B dX11_init_37 rfl rfl ?_
  refine g_putF (q := 41) (L2 := [[(a, .inr (6, [.int (nI l), .int (oI b), .int (nI s), .ref n5, .ref n16]))], u0_9, u0_20]) B (ci := 6) (k := 0) (j := 2) in_X11 tyX11 tyX11_ok nmX11 rfl dX11_init_38 rfl rfl (Nat.le_of_ble_eq_true rfl) q2067 rfl rfl (ini) rfl rfl rfl (Nat.le_of_ble_eq_true rfl) rfl ?_
  exact g_vret B E dX11_init_41 (⟨n5, n16, u0_9, u0_20, rfl, rfl, (MoP.nil hu0_9), (MoP.nil hu0_20)⟩)
def ChnP (g : Gv) (a : Nat) (r : ChS) (w : va_W) : Prop := ∃ (lf : Nat) (nl : Nat) (v0 : va_W), (ChB r) ∧ MoP g (BxE g) lf r.2.2 nl v0 ∧ w = ([[(a, .inr (7, [.int (nI r.1), .int (nI r.2.1), .ref lf]))], v0] : List va_W).flatten
theorem ChnP.hm {g : Gv} {a : Nat} {r : ChS} {w : va_W} (h : ChnP g a r w) : ∃ fs, (a, .inr (7, fs)) ∈ w := by
  obtain ⟨lf, nl, v0, hC, hv0, rfl⟩ := h
  exact ⟨_, List.mem_cons_self⟩
theorem ChnP.vd {g : Gv} {a : Nat} {r : ChS} {w : va_W} (h : ChnP g a r w) : Vd g a w := by
  obtain ⟨fs, h⟩ := ChnP.hm h
  exact Or.inl ⟨7, fs, by decide, h⟩
theorem ChnP.at {g : Gv} {a : Nat} {r : ChS} {W : va_W} (h : Sub (ChnP g a r) W) : ∃ (lf : Nat) (nl : Nat), (ChB r) ∧ (a, .inr (7, [.int (nI r.1), .int (nI r.2.1), .ref lf])) ∈ W ∧ Sub (MoP g (BxE g) lf r.2.2 nl) W := by
  obtain ⟨w, R, hp, h⟩ := h
  obtain ⟨lf, nl, v0, hC, hv0, rfl⟩ := h
  exact ⟨lf, nl, hC, sub_c hp 0 rfl, Sub.in hp rfl 1 rfl hv0⟩
theorem ct_X12_init (g : Gv) (J : Jd g) {a : Nat} {s : Nat} (hs : s < 1000) : Ct g yX12_init (ws_ yX12_init cX12_init 2 none) 3 1 9 [.ref a, .int (nI s)] [[(a, .inr (7, [.int (nI 0), .int (nI 0), .null]))]] (fun (rv_ : Option Value) (rL_ : List va_W) => ∃ (u0 : va_W), rv_ = none ∧ rL_ = [u0] ∧ ChnP g a ((s, 0, fun _ => none) : ChS) u0) noX := by
  refine Ct.ofI "Keygrove$Chain" [some (.ref a), some (.int (nI s))] rfl (by decide) rfl (Nat.le_of_ble_eq_true rfl) rfl rfl ?_
  intro κ B E tb ini
  refine g_aload_n (q := 1) B dX12_init_0 rfl rfl (rv_r _) ?_
  refine g_objInit (q := 4) B q2186 q157 q158 dX12_init_1 rfl rfl (Nat.le_of_ble_eq_true rfl) ?_
  refine g_aload_n (q := 5) B dX12_init_4 rfl rfl (rv_r _) ?_
  refine g_new (q := 8) (kc2 := 0) (ks2 := 0) (fs := [.null, .null, .null, .null, .int (nI 0), .int (nI 0), .null, .null, .null]) B (ci := 27) in_J10 tyJ10_ok rfl dX12_init_5 rfl q2187 q1865 q91 (nwJ10) (Nat.le_of_ble_eq_true rfl) (Nat.le_of_ble_eq_true rfl) (fun n5 => ?_)
  refine (show Go g κ 8 [some (.ref a), some (.int (nI s))] [.ref n5, .ref a] [[(a, .inr (7, [.int (nI 0), .int (nI 0), .null]))], [(n5, .inr (27, [.null, .null, .null, .null, .int (nI 0), .int (nI 0), .null, .null, .null]))]] 0 0 from ?_)
  refine g_dup (q := 9) B dX12_init_8 rfl rfl ?_
  refine g_callI (q := 12) (is := [1]) (kc2 := 0) (ks2 := 0) B [] (ct_J10_init g J (t := n5)  ) dX12_init_9 rfl rfl q2188 q1867 q91 q1868 rfl rfl moJ10_init rfl rfl (by decide) (by decide) (Nat.le_of_ble_eq_true rfl) (Nat.le_of_ble_eq_true rfl) (Nat.le_of_ble_eq_true rfl) (fun _ _ hx => noX_x hx) (fun v9 L1 hp9 => ?_)
  obtain ⟨u0_9, rfl, rfl, hu0_9⟩ := hp9
  refine (show Go g κ 12 [some (.ref a), some (.int (nI s))] [.ref n5, .ref a] [[(a, .inr (7, [.int (nI 0), .int (nI 0), .null]))], u0_9] 0 0 from ?_)
  refine g_putF (q := 15) (L2 := [[(a, .inr (7, [.int (nI 0), .int (nI 0), .ref n5]))], u0_9]) B (ci := 7) (k := 0) (j := 2) in_X12 tyX12 tyX12_ok nmX12 rfl dX12_init_12 rfl rfl (Nat.le_of_ble_eq_true rfl) q2193 rfl rfl (ini) rfl rfl rfl (Nat.le_of_ble_eq_true rfl) rfl ?_
  refine g_aload_n (q := 16) B dX12_init_15 rfl rfl (rv_r _) ?_
  refine g_iload_n (q := 17) B dX12_init_16 rfl rfl ?_
  refine g_put (q := 20) (L2 := [[(a, .inr (7, [.int (nI s), .int (nI 0), .ref n5]))], u0_9]) B (ci := 7) (k := 0) (j := 0) in_X12 tyX12 tyX12_ok nmX12 rfl dX12_init_17 rfl rfl (Nat.le_of_ble_eq_true rfl) q2189 rfl rfl rfl rfl (Nat.le_of_ble_eq_true rfl) rfl ?_
  obtain ⟨wc_1, ewc_1⟩ : ∃ w : va_W, w = ([[(a, .inr (7, [.int (nI s), .int (nI 0), .ref n5]))], u0_9] : List va_W).flatten := ⟨_, rfl⟩
  have hwc_1 : ChnP g a ((s, 0, fun _ => none) : ChS) wc_1 := by
    rw [ewc_1]
    exact ⟨n5, 0, _, ⟨hs, (show 0 < 100 by decide), (fun i n h => by cases h)⟩, (MoP.nil hu0_9), rfl⟩
  refine g_close (w := wc_1) [0, 0] rfl ewc_1 rfl ?_
  refine (show Go g κ 20 [some (.ref a), some (.int (nI s))] [] [wc_1] 0 0 from ?_)
  exact g_vret B E dX12_init_20 (⟨wc_1, rfl, rfl, hwc_1⟩)
theorem ct_CmP_put (g : Gv) (J : Jd g) {t : Nat} {F : Nat → Option ChS} {n : Nat} {k : Nat} {a : Nat} {r : ChS} {w0 : va_W} {w1 : va_W} (hw0 : MoP g (ChnP g) t F n w0) (hw1 : ChnP g a r w1) (hk : k < 128) : Ct g yJ10_put (ws_ yJ10_put cJ10_put 3 (some (.object "java/lang/Object"))) 6 1 6 [.ref t, .ref (kI g k), .ref a] [w0, w1] (fun (rv_ : Option Value) (rL_ : List va_W) => ∃ (o : Option Nat) (u0 : va_W), rv_ = some (va_rf o) ∧ rL_ = [u0] ∧ MoP g (ChnP g) t (fup F k (some r)) (n + (if F k = none then 1 else 0)) u0) noX := hw0.put J hw1 hk
theorem ct_CmP_getS (g : Gv) (J : Jd g) {t : Nat} {F : Nat → Option ChS} {n : Nat} {k : Nat} {r : ChS} {W0 : va_W} (hS0 : Sub (MoP g (ChnP g) t F n) W0) (hF : F k = some r) (hk : k < 128) : Ct g yJ10_get (ws_ yJ10_get cJ10_get 3 (some (.object "java/lang/Object"))) 4 0 0 [.ref t, .ref (kI g k)] [W0] (fun (rv_ : Option Value) (rL_ : List va_W) => ∃ (a : Nat), rv_ = some (.ref a) ∧ rL_ = [W0] ∧ (Sub (ChnP g a r) W0)) noX := MoP.getS J hS0 hF hk
theorem ct_CmP_has (g : Gv) (J : Jd g) {t : Nat} {F : Nat → Option ChS} {n : Nat} {k : Nat} {W0 : va_W} (hS0 : Sub (MoP g (ChnP g) t F n) W0) (hk : k < 128) : Ct g yJ10_containsKey (ws_ yJ10_containsKey cJ10_containsKey 2 (some .boolean)) 4 0 0 [.ref t, .ref (kI g k)] [W0] (fun (rv_ : Option Value) (rL_ : List va_W) => rv_ = some (.int (nI (if (F k).isSome = true then 1 else 0))) ∧ rL_ = [W0]) noX := MoP.has J hS0 hk
theorem ct_CmP_clear (g : Gv) (J : Jd g) {t : Nat} {F : Nat → Option ChS} {n : Nat} {w0 : va_W} (hw0 : MoP g (ChnP g) t F n w0) : Ct g yJ10_clear (ws_ yJ10_clear cJ10_clear 1 none) 0 0 0 [.ref t] [w0] (fun (rv_ : Option Value) (rL_ : List va_W) => ∃ (u0 : va_W), rv_ = none ∧ rL_ = [u0] ∧ MoP g (ChnP g) t (fun _ => none) 0 u0) noX := hw0.clear J
theorem ct_CmP_remove (g : Gv) (J : Jd g) {t : Nat} {F : Nat → Option ChS} {n : Nat} {k : Nat} {r : ChS} {w0 : va_W} (hw0 : MoP g (ChnP g) t F n w0) (hF : F k = some r) (hk : k < 128) : Ct g yJ10_remove (ws_ yJ10_remove cJ10_remove 4 (some (.object "java/lang/Object"))) 4 0 0 [.ref t, .ref (kI g k)] [w0] (fun (rv_ : Option Value) (rL_ : List va_W) => ∃ (a : Nat) (n2 : Nat) (u0 : va_W) (u1 : va_W), rv_ = some (.ref a) ∧ rL_ = [u0, u1] ∧ MoP g (ChnP g) t (fup F k none) n2 u0 ∧ ChnP g a r u1) noX := hw0.remove J hF hk
theorem ct_CmP_putAll (g : Gv) (J : Jd g) {b : Nat} {t : Nat} {F : Nat → Option ChS} {n : Nat} {w0 : va_W} {w1 : va_W} (hw0 : MoP g (ChnP g) b (fun _ => none) 0 w0) (hw1 : MoP g (ChnP g) t F n w1) (hn4 : n ≤ 4) : Ct g yJ10_putAll (wsW_ yJ10_putAll cJ10_putAll 4 none [(54, 72, 75, 46), (54, 72, 75, 48)]) 11 (n + 2) (6 * n + 5) [.ref b, .ref t] [w0, w1] (fun (rv_ : Option Value) (rL_ : List va_W) => ∃ (u0 : va_W), rv_ = none ∧ rL_ = [u0] ∧ MoP g (ChnP g) b F n u0) noX := hw1.putAll J hw0 hn4
theorem ct_X15_init (g : Gv) (J : Jd g) {a : Nat} : Ct g yX15_init (ws_ yX15_init cX15_init 1 none) 1 0 0 [.ref a] [] (fun (rv_ : Option Value) (rL_ : List va_W) => rv_ = none ∧ rL_ = []) noX := by
  refine Ct.ofI "Keygrove$Proposal" [some (.ref a)] rfl (by decide) rfl (Nat.le_of_ble_eq_true rfl) rfl rfl ?_
  intro κ B E tb ini
  refine g_aload_n (q := 1) B dX15_init_0 rfl rfl (rv_r _) ?_
  refine g_objInit (q := 4) B q2400 q157 q158 dX15_init_1 rfl rfl (Nat.le_of_ble_eq_true rfl) ?_
  exact g_vret B E dX15_init_4 (⟨rfl, rfl⟩)
theorem moX15_init : Mo yX15_init 0 := by
  refine ⟨by decide, by decide, by decide +kernel⟩
theorem ct_X16_init (g : Gv) (J : Jd g) {a : Nat} {k : Nat} : Ct g yX16_init (ws_ yX16_init cX16_init 2 none) 2 0 0 [.ref a, .ref k] [[(a, .inr (8, [.null]))]] (fun (rv_ : Option Value) (rL_ : List va_W) => rv_ = none ∧ rL_ = [[(a, .inr (8, [.ref k]))]]) noX := by
  refine Ct.ofI "Keygrove$Add" [some (.ref a), some (.ref k)] rfl (by decide) rfl (Nat.le_of_ble_eq_true rfl) rfl rfl ?_
  intro κ B E tb ini
  refine g_aload_n (q := 1) B dX16_init_0 rfl rfl (rv_r _) ?_
  refine g_callIN (q := 4) (is := []) (kc2 := 0) (ks2 := 0) B [] (ct_X15_init g J (a := a)  ) dX16_init_1 rfl rfl q2397 q2398 q139 q2399 rfl rfl moX15_init rfl rfl (by decide) (by decide) (Nat.le_of_ble_eq_true rfl) (Nat.le_of_ble_eq_true rfl) (Nat.le_of_ble_eq_true rfl) (fun _ _ hx => noX_x hx) (fun v1 L1 hp1 => ?_)
  obtain ⟨rfl, rfl⟩ := hp1
  refine (show Go g κ 4 [some (.ref a), some (.ref k)] [] [[(a, .inr (8, [.null]))]] 0 0 from ?_)
  refine g_aload_n (q := 5) B dX16_init_4 rfl rfl (rv_r _) ?_
  refine g_aload_n (q := 6) B dX16_init_5 rfl rfl (rv_r _) ?_
  refine g_putF (q := 9) (L2 := [[(a, .inr (8, [.ref k]))]]) B (ci := 8) (k := 0) (j := 0) in_X16 tyX16 tyX16_ok nmX16 rfl dX16_init_6 rfl rfl (Nat.le_of_ble_eq_true rfl) q2401 rfl rfl (ini) rfl rfl rfl (Nat.le_of_ble_eq_true rfl) rfl ?_
  exact g_vret B E dX16_init_9 (⟨rfl, rfl⟩)
theorem ct_X18_init (g : Gv) (J : Jd g) {a : Nat} {l : Nat} : Ct g yX18_init (ws_ yX18_init cX18_init 2 none) 2 0 0 [.ref a, .int (nI l)] [[(a, .inr (9, [.int (nI 0)]))]] (fun (rv_ : Option Value) (rL_ : List va_W) => rv_ = none ∧ rL_ = [[(a, .inr (9, [.int (nI l)]))]]) noX := by
  refine Ct.ofI "Keygrove$Remove" [some (.ref a), some (.int (nI l))] rfl (by decide) rfl (Nat.le_of_ble_eq_true rfl) rfl rfl ?_
  intro κ B E tb ini
  refine g_aload_n (q := 1) B dX18_init_0 rfl rfl (rv_r _) ?_
  refine g_callIN (q := 4) (is := []) (kc2 := 0) (ks2 := 0) B [] (ct_X15_init g J (a := a)  ) dX18_init_1 rfl rfl q2426 q2398 q139 q2399 rfl rfl moX15_init rfl rfl (by decide) (by decide) (Nat.le_of_ble_eq_true rfl) (Nat.le_of_ble_eq_true rfl) (Nat.le_of_ble_eq_true rfl) (fun _ _ hx => noX_x hx) (fun v1 L1 hp1 => ?_)
  obtain ⟨rfl, rfl⟩ := hp1
  refine (show Go g κ 4 [some (.ref a), some (.int (nI l))] [] [[(a, .inr (9, [.int (nI 0)]))]] 0 0 from ?_)
  refine g_aload_n (q := 5) B dX18_init_4 rfl rfl (rv_r _) ?_
  refine g_iload_n (q := 6) B dX18_init_5 rfl rfl ?_
  refine g_putF (q := 9) (L2 := [[(a, .inr (9, [.int (nI l)]))]]) B (ci := 9) (k := 0) (j := 0) in_X18 tyX18 tyX18_ok nmX18 rfl dX18_init_6 rfl rfl (Nat.le_of_ble_eq_true rfl) q2427 rfl rfl (ini) rfl rfl rfl (Nat.le_of_ble_eq_true rfl) rfl ?_
  exact g_vret B E dX18_init_9 (⟨rfl, rfl⟩)
theorem ct_X19_init (g : Gv) (J : Jd g) {a : Nat} {l : Nat} {s : Nat} : Ct g yX19_init (ws_ yX19_init cX19_init 3 none) 2 0 0 [.ref a, .int (nI l), .int (nI s)] [[(a, .inr (10, [.int (nI 0), .int (nI 0)]))]] (fun (rv_ : Option Value) (rL_ : List va_W) => rv_ = none ∧ rL_ = [[(a, .inr (10, [.int (nI l), .int (nI s)]))]]) noX := by
  refine Ct.ofI "Keygrove$Renew" [some (.ref a), some (.int (nI l)), some (.int (nI s))] rfl (by decide) rfl (Nat.le_of_ble_eq_true rfl) rfl rfl ?_
  intro κ B E tb ini
  refine g_aload_n (q := 1) B dX19_init_0 rfl rfl (rv_r _) ?_
  refine g_callIN (q := 4) (is := []) (kc2 := 0) (ks2 := 0) B [] (ct_X15_init g J (a := a)  ) dX19_init_1 rfl rfl q2444 q2398 q139 q2399 rfl rfl moX15_init rfl rfl (by decide) (by decide) (Nat.le_of_ble_eq_true rfl) (Nat.le_of_ble_eq_true rfl) (Nat.le_of_ble_eq_true rfl) (fun _ _ hx => noX_x hx) (fun v1 L1 hp1 => ?_)
  obtain ⟨rfl, rfl⟩ := hp1
  refine (show Go g κ 4 [some (.ref a), some (.int (nI l)), some (.int (nI s))] [] [[(a, .inr (10, [.int (nI 0), .int (nI 0)]))]] 0 0 from ?_)
  refine g_aload_n (q := 5) B dX19_init_4 rfl rfl (rv_r _) ?_
  refine g_iload_n (q := 6) B dX19_init_5 rfl rfl ?_
  refine g_putF (q := 9) (L2 := [[(a, .inr (10, [.int (nI l), .int (nI 0)]))]]) B (ci := 10) (k := 0) (j := 0) in_X19 tyX19 tyX19_ok nmX19 rfl dX19_init_6 rfl rfl (Nat.le_of_ble_eq_true rfl) q2445 rfl rfl (ini) rfl rfl rfl (Nat.le_of_ble_eq_true rfl) rfl ?_
  refine g_aload_n (q := 10) B dX19_init_9 rfl rfl (rv_r _) ?_
  refine g_iload_n (q := 11) B dX19_init_10 rfl rfl ?_
  refine g_putF (q := 14) (L2 := [[(a, .inr (10, [.int (nI l), .int (nI s)]))]]) B (ci := 10) (k := 0) (j := 1) in_X19 tyX19 tyX19_ok nmX19 rfl dX19_init_11 rfl rfl (Nat.le_of_ble_eq_true rfl) q2447 rfl rfl (ini) rfl rfl rfl (Nat.le_of_ble_eq_true rfl) rfl ?_
  exact g_vret B E dX19_init_14 (⟨rfl, rfl⟩)
/-- a proposal at a; pks: the places of the packages -/
def PropP (g : Gv) (pks : List Nat) (a : Nat) (r : PrS) (w : va_W) : Prop := (r.1 = 0 ∧ ∃ k, pks[r.2.1]? = some k ∧ w = ([[(a, .inr (8, [.ref k]))]] : List va_W).flatten) ∨ (r.1 = 1 ∧ w = ([[(a, .inr (9, [.int (nI r.2.1)]))]] : List va_W).flatten) ∨ (r.1 = 2 ∧ w = ([[(a, .inr (10, [.int (nI r.2.1), .int (nI r.2.2)]))]] : List va_W).flatten)
theorem PropP.vd {g : Gv} {pks : List Nat} {a : Nat} {r : PrS} {w : va_W} (h : PropP g pks a r w) : Vd g a w := by
  rcases h with ⟨-, k, -, rfl⟩ | ⟨-, rfl⟩ | ⟨-, rfl⟩
  · exact Or.inl ⟨8, _, by decide, List.mem_cons_self⟩
  · exact Or.inl ⟨9, _, by decide, List.mem_cons_self⟩
  · exact Or.inl ⟨10, _, by decide, List.mem_cons_self⟩
theorem PropP.at {g : Gv} {pks : List Nat} {a : Nat} {r : PrS} {W : va_W} (h : Sub (PropP g pks a r) W) : (r.1 = 0 ∧ ∃ k, pks[r.2.1]? = some k ∧ (a, .inr (8, [.ref k])) ∈ W) ∨ (r.1 = 1 ∧ (a, .inr (9, [.int (nI r.2.1)])) ∈ W) ∨ (r.1 = 2 ∧ (a, .inr (10, [.int (nI r.2.1), .int (nI r.2.2)])) ∈ W) := by
  obtain ⟨w, R, hp, h⟩ := h
  rcases h with ⟨h1, k, h2, rfl⟩ | ⟨h1, rfl⟩ | ⟨h1, rfl⟩
  · exact Or.inl ⟨h1, k, h2, sub_c hp 0 rfl⟩
  · exact Or.inr (Or.inl ⟨h1, sub_c hp 0 rfl⟩)
  · exact Or.inr (Or.inr ⟨h1, sub_c hp 0 rfl⟩)
theorem PropP.grow {g : Gv} {pks : List Nat} {a p : Nat} {r : PrS} {w : va_W} (h : PropP g pks a r w) : PropP g (pks ++ [p]) a r w := by
  rcases h with ⟨h1, k, h2, h3⟩ | h | h
  · exact Or.inl ⟨h1, k, by rw [List.getElem?_append_left (get_lt2 h2)]; exact h2, h3⟩
  · exact Or.inr (Or.inl h)
  · exact Or.inr (Or.inr h)
/-- the list of proposals at p -/
def PropsP (g : Gv) (p : Nat) (pks : List Nat) (rs : List PrS) (cap : Nat) (w : va_W) : Prop := LhP g (PropP g pks) p rs cap w
