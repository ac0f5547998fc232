set_option maxRecDepth 100000
theorem ct_X6_init (g : Gv) (J : Jd g) {a : Nat} {v : Int32} {o : Int32} {p : Int32} : Ct g yX6_init (ws_ yX6_init cX6_init 4 none) 1 0 0 [.ref a, .int v, .int o, .int p] [[(a, .inr (3, [.int (nI 0), .int (nI 0), .int (nI 0)]))]] (fun (rv_ : Option Value) (rL_ : List va_W) => rv_ = none ∧ rL_ = [[(a, .inr (3, [.int v, .int o, .int p]))]]) noX := by
  refine Ct.ofI "Keygrove$Origin" [some (.ref a), some (.int v), some (.int o), some (.int p)] rfl (by decide) rfl (Nat.le_of_ble_eq_true rfl) rfl rfl ?_
  intro κ B E tb ini
  refine g_aload_n (q := 1) B dX6_init_0 rfl rfl (rv_r _) ?_
  refine g_objInit (q := 4) B q1624 q157 q158 dX6_init_1 rfl rfl (Nat.le_of_ble_eq_true rfl) ?_
  refine g_aload_n (q := 5) B dX6_init_4 rfl rfl (rv_r _) ?_
  refine g_iload_n (q := 6) B dX6_init_5 rfl rfl ?_
  refine g_putF (q := 9) (L2 := [[(a, .inr (3, [.int v, .int (nI 0), .int (nI 0)]))]]) B (ci := 3) (k := 0) (j := 0) in_X6 tyX6 tyX6_ok nmX6 rfl dX6_init_6 rfl rfl (Nat.le_of_ble_eq_true rfl) q1625 rfl rfl (ini) rfl rfl rfl (Nat.le_of_ble_eq_true rfl) rfl ?_
  refine g_aload_n (q := 10) B dX6_init_9 rfl rfl (rv_r _) ?_
  refine g_iload_n (q := 11) B dX6_init_10 rfl rfl ?_
  refine g_putF (q := 14) (L2 := [[(a, .inr (3, [.int v, .int o, .int (nI 0)]))]]) B (ci := 3) (k := 0) (j := 1) in_X6 tyX6 tyX6_ok nmX6 rfl dX6_init_11 rfl rfl (Nat.le_of_ble_eq_true rfl) q1627 rfl rfl (ini) rfl rfl rfl (Nat.le_of_ble_eq_true rfl) rfl ?_
  refine g_aload_n (q := 15) B dX6_init_14 rfl rfl (rv_r _) ?_
  refine g_iload_n (q := 16) B dX6_init_15 rfl rfl ?_
  refine g_putF (q := 19) (L2 := [[(a, .inr (3, [.int v, .int o, .int p]))]]) B (ci := 3) (k := 0) (j := 2) in_X6 tyX6 tyX6_ok nmX6 rfl dX6_init_16 rfl rfl (Nat.le_of_ble_eq_true rfl) q1629 rfl rfl (ini) rfl rfl rfl (Nat.le_of_ble_eq_true rfl) rfl ?_
  exact g_vret B E dX6_init_19 (⟨rfl, rfl⟩)
def OrgP (g : Gv) (a : Nat) (r : Sec) (w : va_W) : Prop := w = ([[(a, .inr (3, [.int r.1, .int (oI r.2.1), .int (oI r.2.2.1)]))]] : List va_W).flatten
theorem OrgP.hm {g : Gv} {a : Nat} {r : Sec} {w : va_W} (h : OrgP g a r w) : ∃ fs, (a, .inr (3, fs)) ∈ w := by
  obtain rfl := h
  exact ⟨_, List.mem_cons_self⟩
theorem OrgP.vd {g : Gv} {a : Nat} {r : Sec} {w : va_W} (h : OrgP g a r w) : Vd g a w := by
  obtain ⟨fs, h⟩ := OrgP.hm h
  exact Or.inl ⟨3, fs, by decide, h⟩
theorem OrgP.at {g : Gv} {a : Nat} {r : Sec} {W : va_W} (h : Sub (OrgP g a r) W) : (a, .inr (3, [.int r.1, .int (oI r.2.1), .int (oI r.2.2.1)])) ∈ W := by
  obtain ⟨w, R, hp, h⟩ := h
  obtain rfl := h
  exact sub_c hp 0 rfl
theorem ct_add_OrgL (g : Gv) (J : Jd g) {p : Nat} {rs : List Sec} {cap : Nat} {a : Nat} {r : Sec} {mc : Nat} {ms : Nat} {w0 : va_W} {w1 : va_W} (hw0 : LhP g (OrgP g) p rs cap w0) (hw1 : OrgP g a r w1) (hcap : cap < 8388608) (hm : rs.length = cap → 1 ≤ mc ∧ growN cap ≤ ms) : Ct g yJ2_add (ws_ yJ2_add cJ2_add 2 (some .boolean)) 6 mc ms [.ref p, .ref a] [w0, w1] (fun (rv_ : Option Value) (rL_ : List va_W) => ∃ (u0 : va_W), rv_ = some (.int (nI 1)) ∧ rL_ = [u0] ∧ LhP g (OrgP g) p (rs ++ [r]) (if rs.length = cap then growN cap else cap) u0) noX := LhP.push hw0 (fun _ _ _ z => OrgP.vd z) J hw1 hcap hm
def KvE (g : Gv) (t : Tp) (d : Nat × Ky) (w : va_W) : Prop := t.1 = hsh d.2 ∧ ∃ v1 v2 : va_W, StrP g t.2.1 (kTx d.2) v1 ∧ BoxP g t.2.2 (nI d.1) v2 ∧ w = ([v1, v2] : List va_W).flatten
/-- the texts and numbers that the map of what follows holds -/
def KvP (g : Gv) (xs : List Tp) (ds : List (Nat × Ky)) (w : va_W) : Prop := BigG (KvE g) xs ds w
theorem KvP.opn {g : Gv} {xs : List Tp} {ds : List (Nat × Ky)} {w : va_W} (h : KvP g xs ds w) {i : Nat} {k : Ky} (hm : (i, k) ∈ ds) : ∃ (k0 v0 : Nat) (w1 v1 v2 w2 : va_W), (hsh k, k0, v0) ∈ xs ∧ StrP g k0 (kTx k) v1 ∧ BoxP g v0 (nI i) v2 ∧ (∀ v3 v4, StrP g k0 (kTx k) v3 → BoxP g v0 (nI i) v4 → KvP g xs ds ([w1, v3, v4, w2] : List va_W).flatten) ∧ w = ([w1, v1, v2, w2] : List va_W).flatten := by
  obtain ⟨j, hj⟩ := List.getElem?_of_mem hm
  have hl := h.1
  obtain ⟨t, ht⟩ := get_ex (xs := xs) (i := j) (by have := get_lt2 hj; omega)
  obtain ⟨w1, wi, w2, ⟨he, v1, v2, h1, h2, rfl⟩, h3, rfl⟩ := BigG.opn h ht hj
  obtain ⟨hh, k0, v0⟩ := t
  refine ⟨k0, v0, w1, v1, v2, w2, ?_, h1, h2, fun v3 v4 h4 h5 => ?_, by simp⟩
  · have := List.mem_of_getElem? ht; rw [show hh = hsh k from he] at this; exact this
  · have z := h3 _ ⟨he, v3, v4, h4, h5, rfl⟩
    have e : ([w1, v3, v4, w2] : List va_W).flatten = ([w1, ([v3, v4] : List va_W).flatten, w2] : List va_W).flatten := by simp
    rw [e]; exact z
theorem KvP.hs {g : Gv} {xs : List Tp} {ds : List (Nat × Ky)} {w : va_W} (h : KvP g xs ds w) : xs.map (·.1) = ds.map fun d => hsh d.2 := by
  refine List.ext_getElem? fun j => ?_
  rw [List.getElem?_map, List.getElem?_map]
  have hl := h.1
  cases hx : xs[j]? with
  | none => rw [List.getElem?_eq_none (by have := List.getElem?_eq_none_iff.mp hx; omega)]; rfl
  | some t =>
    obtain ⟨d, hd⟩ := get_ex (xs := ds) (i := j) (by have := get_lt2 hx; omega)
    rw [hd]
    obtain ⟨w1, wi, w2, ⟨he, -⟩, -, -⟩ := BigG.opn h hx hd
    rw [Option.map_some, Option.map_some, he]
theorem KvP.no {g : Gv} {ss : List Sec} {xs : List Tp} {w : va_W} (h : KvP g xs (dv ss) w) (hs : SsOk ss) {k : Ky} (hk : kOk k) (hf : fnd ss k = none) : ∀ t ∈ xs, t.1 ≠ hsh k := by
  intro t ht he
  have h1 : t.1 ∈ xs.map (·.1) := List.mem_map.mpr ⟨t, ht, rfl⟩
  rw [h.hs] at h1
  obtain ⟨d, hd, h2⟩ := List.mem_map.mp h1
  exact fnd_n hf d hd (hsh_inj (hs.1 d hd).1 hk (h2.trans he))
theorem KvP.push {g : Gv} {ss : List Sec} {xs : List Tp} {w v1 v2 : va_W} (h : KvP g xs (dv ss) w) {s : Sec} {k : Ky} (hs : sKy s = some k) {k0 v0 : Nat} (h1 : StrP g k0 (kTx k) v1) (h2 : BoxP g v0 (nI ss.length) v2) : KvP g (xs ++ [(hsh k, k0, v0)]) (dv (ss ++ [s])) ([w, v1, v2] : List va_W).flatten := by
  have := BigG.push (a := (hsh k, k0, v0)) (r := (ss.length, k)) h ⟨rfl, v1, v2, h1, h2, rfl⟩
  rw [dv_app, hs]
  simpa [KvP] using this
theorem SsOk.push {ss : List Sec} (h : SsOk ss) {v : Int32} {k : Ky} (hk : kOk k) (hn : fnd ss k = none) (h1 : k.1 < ss.length) (h2 : ∀ q, k.2.1 = some q → q < ss.length) : SsOk (ss ++ [(v, some k.1, k.2.1, k.2.2)]) := by
  have e : dv (ss ++ [(v, some k.1, k.2.1, k.2.2)]) = dv ss ++ [(ss.length, k)] := by rw [dv_app]; rfl
  refine ⟨fun d hd => ?_, ?_⟩
  · rw [e] at hd
    rw [List.length_append]
    rcases List.mem_append.mp hd with z | z
    · obtain ⟨a, b, c, d⟩ := h.1 d z
      exact ⟨a, by omega, c, d⟩
    · rw [List.mem_singleton] at z; subst z
      exact ⟨hk, by simp, h1, h2⟩
  · rw [e, List.map_append, List.nodup_append]
    refine ⟨h.2, by simp, fun a ha b hb => ?_⟩
    obtain ⟨d, hd, rfl⟩ := List.mem_map.mp ha
    simp at hb; rw [hb]
    exact fnd_n hn d hd
theorem SsOk.draw {ss : List Sec} (h : SsOk ss) (v : Int32) : SsOk (ss ++ [(v, none, none, 0)]) := by
  have e := (Hc_dr ss (s := (v, none, none, 0)) rfl).2
  unfold SsOk; rw [e]
  refine ⟨fun d hd => ?_, h.2⟩
  obtain ⟨a, b, c, d⟩ := h.1 d hd
  exact ⟨a, by rw [List.length_append]; omega, c, d⟩
theorem vl_eq {ss : List Sec} {i : Nat} {s : Sec} (h : ss[i]? = some s) : vl ss i = s.1 := by unfold vl; rw [h]; rfl
theorem Hc_mo {ss : List Sec} {s : Sec} : Hc ss ≤ Hc (ss ++ [s]) := by
  cases h : sKy s with
  | none => rw [(Hc_dr ss h).1]; exact Nat.le_refl _
  | some k =>
    rw [← Hc_app ss h ((dv ss).map fun d => (hsh d.2, 0, 0)) (by simp [Function.comp_def])]
    have := hgr_ge ((dv ss).map fun d => (hsh d.2, 0, 0)) (Hc ss) (hsh k)
    omega
/-- the number of z that comes next -/
theorem lcg_ex (z : Int32) : ∃ y : Int32, y = z * 1103515245 + nI 12345 := ⟨_, rfl⟩
/-- shut: the kernel is not to open it -/
noncomputable def lcg (z : Int32) : Int32 := Classical.choose (lcg_ex z)
theorem lcg_eq (z : Int32) : z * 1103515245 + nI 12345 = lcg z := (Classical.choose_spec (lcg_ex z)).symm
noncomputable def drw (z : Int32) : Sec := (mixI (lcg z) (nI 1), none, none, 0)
theorem sKy_drw (z : Int32) : sKy (drw z) = none := rfl
def BxOk (n : Nat) (bx : List (Nat × Nat)) : Prop := ∀ p ∈ bx, p.1 < n ∧ p.2 < n
theorem BxOk.mono {n m : Nat} {bx : List (Nat × Nat)} (h : BxOk n bx) (hm : n ≤ m) : BxOk m bx := fun p hp => by have := h p hp; omega
theorem capF_m {n m : Nat} (h : n ≤ m) : capF n ≤ capF m := by
  induction m with
  | zero => rw [Nat.le_zero.mp h]; exact Nat.le_refl _
  | succ m ih =>
    rcases Nat.lt_or_ge m n with h1 | h1
    · rw [show n = m + 1 by omega]; exact Nat.le_refl _
    · exact Nat.le_trans (ih h1) (capF_mo m)
theorem ss_bd {ss : List Sec} (h : SsOk ss) {i : Nat} {s : Sec} (hs : ss[i]? = some s) : (∀ n, s.2.1 = some n → n < i) ∧ (s.2.1 ≠ none → ∀ n, s.2.2.1 = some n → n < i) := by
  have hm : ∀ k, sKy s = some k → (i, k) ∈ dv ss := fun k hk => by
    unfold dv
    rw [List.mem_filterMap]
    exact ⟨(s, i), List.mem_zipIdx_iff_getElem?.mpr hs, by show (sKy s).map _ = _; rw [hk]; rfl⟩
  refine ⟨fun n hn => ?_, fun hne n hn => ?_⟩
  · exact (h.1 _ (hm (n, s.2.2.1, s.2.2.2) (by unfold sKy; rw [hn]; rfl))).2.2.1
  · cases e : s.2.1 with
    | none => exact absurd e hne
    | some o => exact (h.1 _ (hm (o, s.2.2.1, s.2.2.2) (by unfold sKy; rw [e]; rfl))).2.2.2 n hn
theorem frm_le {ss : List Sec} {k : Ky} : ss.length ≤ (frm ss k).1.length ∧ (frm ss k).1.length ≤ ss.length + 1 ∧ Hc ss ≤ Hc (frm ss k).1 := by
  unfold frm
  split
  · exact ⟨Nat.le_refl _, Nat.le_succ _, Nat.le_refl _⟩
  · exact ⟨by simp, by simp, Hc_mo⟩
theorem dv_lt {ss : List Sec} {d : Nat × Ky} (h : d ∈ dv ss) : d.1 < ss.length := by
  unfold dv at h
  rw [List.mem_filterMap] at h
  obtain ⟨⟨s, i⟩, h1, h2⟩ := h
  have h3 := get_lt2 (List.mem_zipIdx_iff_getElem?.mp h1)
  cases e : sKy s with
  | none => simp [e] at h2
  | some k => simp [e] at h2; rw [← h2]; exact h3
theorem frm_lt {ss : List Sec} {k : Ky} : (frm ss k).2 < (frm ss k).1.length := by
  unfold frm
  split
  · rename_i i hf
    exact dv_lt (fnd_s hf)
  · simp
theorem frm_ok {ss : List Sec} (h : SsOk ss) {k : Ky} (hk : kOk k) (h1 : k.1 < ss.length) (h2 : ∀ q, k.2.1 = some q → q < ss.length) : SsOk (frm ss k).1 := by
  unfold frm
  split
  · exact h
  · rename_i hf
    exact h.push hk hf h1 h2
def BookP (g : Gv) (b : Nat) (ss : List Sec) (bx : List (Nat × Nat)) (z : Int32) (w : va_W) : Prop := ∃ (al : Nat) (fo : Nat) (ol : Nat) (cl : Nat) (xs : List Tp) (v0 : va_W) (v1 : va_W) (v2 : va_W) (v3 : va_W) (v4 : va_W), (SsOk ss) ∧ (BxOk ss.length bx) ∧ LhP g (OrgP g) al ss (capF ss.length) v0 ∧ HmT g fo xs (Hc ss) v1 ∧ KvP g xs (dv ss) v2 ∧ LhP g (BxE g) ol (bx.map (·.1)) (capF bx.length) v3 ∧ LhP g (BxE g) cl (bx.map (·.2)) (capF bx.length) v4 ∧ w = ([[(b, .inr (1, [.ref al, .ref fo, .ref ol, .ref cl, .int z]))], v0, v1, v2, v3, v4] : List va_W).flatten
theorem BookP.hm {g : Gv} {b : Nat} {ss : List Sec} {bx : List (Nat × Nat)} {z : Int32} {w : va_W} (h : BookP g b ss bx z w) : ∃ fs, (b, .inr (1, fs)) ∈ w := by
  obtain ⟨al, fo, ol, cl, xs, v0, v1, v2, v3, v4, hS, hbx, hv0, hv1, hv2, hv3, hv4, rfl⟩ := h
  exact ⟨_, List.mem_cons_self⟩
theorem BookP.vd {g : Gv} {b : Nat} {ss : List Sec} {bx : List (Nat × Nat)} {z : Int32} {w : va_W} (h : BookP g b ss bx z w) : Vd g b w := by
  obtain ⟨fs, h⟩ := BookP.hm h
  exact Or.inl ⟨1, fs, by decide, h⟩
theorem BookP.at {g : Gv} {b : Nat} {ss : List Sec} {bx : List (Nat × Nat)} {z : Int32} {W : va_W} (h : Sub (BookP g b ss bx z) W) : ∃ (al : Nat) (fo : Nat) (ol : Nat) (cl : Nat) (xs : List Tp), (SsOk ss) ∧ (BxOk ss.length bx) ∧ (b, .inr (1, [.ref al, .ref fo, .ref ol, .ref cl, .int z])) ∈ W ∧ Sub (LhP g (OrgP g) al ss (capF ss.length)) W ∧ Sub (HmT g fo xs (Hc ss)) W ∧ Sub (KvP g xs (dv ss)) W ∧ Sub (LhP g (BxE g) ol (bx.map (·.1)) (capF bx.length)) W ∧ Sub (LhP g (BxE g) cl (bx.map (·.2)) (capF bx.length)) W := by
  obtain ⟨w, R, hp, h⟩ := h
  obtain ⟨al, fo, ol, cl, xs, v0, v1, v2, v3, v4, hS, hbx, hv0, hv1, hv2, hv3, hv4, rfl⟩ := h
  exact ⟨al, fo, ol, cl, xs, hS, hbx, sub_c hp 0 rfl, Sub.in hp rfl 1 rfl hv0, Sub.in hp rfl 2 rfl hv1, Sub.in hp rfl 3 rfl hv2, Sub.in hp rfl 4 rfl hv3, Sub.in hp rfl 5 rfl hv4⟩
theorem BookP.ok {g : Gv} {b : Nat} {ss : List Sec} {bx : List (Nat × Nat)} {z : Int32} {w : va_W} (h : BookP g b ss bx z w) : SsOk ss ∧ BxOk ss.length bx := by
  obtain ⟨al, fo, ol, cl, xs, v0, v1, v2, v3, v4, hS, hbx, -⟩ := h
  exact ⟨hS, hbx⟩
theorem mojava_util_List_get__I_Ljava_lang_Object_ : Mo ⟨"java/util/List", "get", "(I)Ljava/lang/Object;"⟩ 1 := by
  refine ⟨by decide, by decide, by decide +kernel⟩
theorem ct_X2_value (g : Gv) (J : Jd g) {b : Nat} {ss : List Sec} {bx : List (Nat × Nat)} {z : Int32} {i : Nat} {w0 : va_W} (hw0 : BookP g b ss bx z w0) (hi : i < ss.length) : Ct g yX2_value (ws_ yX2_value cX2_value 2 (some .int)) 3 0 0 [.ref b, .int (nI i)] [w0] (fun (rv_ : Option Value) (rL_ : List va_W) => rv_ = some (.int (vl ss i)) ∧ rL_ = [w0]) noX := by
  refine Ct.of "Keygrove$Book" [some (.ref b), some (.int (nI i))] rfl (by decide) rfl (Nat.le_of_ble_eq_true rfl) rfl ?_
  intro κ B E tb
  refine g_aload_n (q := 1) B dX2_value_0 rfl rfl (rv_r _) ?_
  obtain ⟨al_1, fo_1, ol_1, cl_1, xs_1, hS_1, hbx_1, hc_1_0, hs_1_0, hs_1_1, hs_1_2, hs_1_3, hs_1_4⟩ := BookP.at (Sub.self hw0)
  refine g_getM (q := 4) B (ci := 1) (k := 0) (j := 0) in_X2 rfl dX2_value_1 rfl rfl (hc_1_0) (Nat.le_of_ble_eq_true rfl) q232 rfl rfl ?_
  refine g_iload_n (q := 5) B dX2_value_4 rfl rfl ?_
  obtain ⟨ps_2, md_2, hli_2, hln_2, hel_2⟩ := LhP.at (hs_1_0)
  obtain ⟨r5, hr5⟩ := get_ex (xs := ss) (i := i) (by omega)
  obtain ⟨x5, hx5⟩ := get_ex (xs := ps_2) (i := i) (by have := get_lt2 hr5; have := hln_2.1; omega)
  have hE_3 := hel_2 _ _ _ hx5 hr5
  refine g_callF (q := 10) (is := [0]) (kc2 := 0) (ks2 := 0) B [.int (nI i)] (ct_J2_get_s g J (p := al_1) (xs := ps_2) (md := md_2) (cap := (capF ss.length)) (i := i) (x := x5) (W0 := w0)  (hli_2) (hx5)) dX2_value_5 rfl (ci := 21) rfl (rc_in B (ci := 21) rfl (k := 0) rfl (Sub.hm (hs_1_0) fun _ z => LhP.hm z)) q1090 q1093 q1095 q81 q1097 q1092 q1091 q1096 q1094 q318 rfl rfl mojava_util_List_get__I_Ljava_lang_Object_ rfl rfl (by decide) (by decide) (Nat.le_of_ble_eq_true rfl) (Nat.le_of_ble_eq_true rfl) (Nat.le_of_ble_eq_true rfl) (fun _ _ hx => noX_x hx) (fun v5 L1 hp5 => ?_)
  obtain ⟨rfl, rfl⟩ := hp5
  refine (show Go g κ 10 [some (.ref b), some (.int (nI i))] [.ref x5] [w0] 0 0 from ?_)
  refine g_castRS (ci := 3) (q := 13) B rfl (rc_in B (ci := 3) rfl (k := 0) rfl (Sub.hm (hE_3) fun _ z => OrgP.hm z)) dX2_value_10 rfl q1108 ?_
  have hc_4_0 := OrgP.at (hE_3)
  refine g_getNM (q := 16) B (ci := 3) (k := 0) (j := 0) in_X6 rfl dX2_value_13 rfl rfl (hc_4_0) (Nat.le_of_ble_eq_true rfl) q1626 rfl rfl ?_
  exact g_iret B E dX2_value_16 (⟨by rw [vl_eq hr5], rfl⟩)
theorem nwX6 : ∀ j, j < 3 → defaultValue (tyX6 j) = vp_V [.int (nI 0), .int (nI 0), .int (nI 0)] j := by
  intro j hj
  match j, hj with
  | 0, _ => rfl
  | 1, _ => rfl
  | 2, _ => rfl
  | n + 3, hj => exact absurd hj (by omega)
theorem moX1_mix : Mo yX1_mix 2 := by
  refine ⟨by decide, by decide, by decide +kernel⟩
theorem moX6_init : Mo yX6_init 3 := by
  refine ⟨by decide, by decide, by decide +kernel⟩
theorem mojava_util_List_add__Ljava_lang_Object__Z : Mo ⟨"java/util/List", "add", "(Ljava/lang/Object;)Z"⟩ 1 := by
  refine ⟨by decide, by decide, by decide +kernel⟩
theorem mojava_util_List_size___I : Mo ⟨"java/util/List", "size", "()I"⟩ 0 := by
  refine ⟨by decide, by decide, by decide +kernel⟩
theorem ct_X2_draw (g : Gv) (J : Jd g) {b : Nat} {ss : List Sec} {bx : List (Nat × Nat)} {z : Int32} {w0 : va_W} (hw0 : BookP g b ss bx z w0) (hl : ss.length < 1000) : Ct g yX2_draw (ws_ yX2_draw cX2_draw 1 (some .int)) 7 2 (3 + 4 * (capF (ss.length + 1) - capF ss.length)) [.ref b] [w0] (fun (rv_ : Option Value) (rL_ : List va_W) => ∃ (u0 : va_W), rv_ = some (.int (nI ss.length)) ∧ rL_ = [u0] ∧ BookP g b (ss ++ [drw z]) bx (lcg z) u0) noX := by
  refine Ct.of "Keygrove$Book" [some (.ref b)] rfl (by decide) rfl (Nat.le_of_ble_eq_true rfl) rfl ?_
  intro κ B E tb
  obtain ⟨al, fo, ol, cl, xs, v0, v1, v2, v3, v4, hS, hbx, hv0, hv1, hv2, hv3, hv4, rfl⟩ := hw0
  refine g_open 0 rfl rfl rfl ?_
  refine (show Go g κ 0 [some (.ref b)] [] [[(b, .inr (1, [.ref al, .ref fo, .ref ol, .ref cl, .int z]))], v0, v1, v2, v3, v4] 2 (3 + 4 * (capF (ss.length + 1) - capF ss.length)) from ?_)
  refine g_aload_n (q := 1) B dX2_draw_0 rfl rfl (rv_r _) ?_
  refine g_aload_n (q := 2) B dX2_draw_1 rfl rfl (rv_r _) ?_
  refine g_get (q := 5) B (ci := 1) (k := 0) (j := 4) in_X2 rfl dX2_draw_2 rfl rfl (Nat.le_of_ble_eq_true rfl) q237 rfl rfl ?_
  refine g_ldc (v := 1103515245) (q := 7) B dX2_draw_5 rfl q1980 ?_
  refine g_imul (v := z * 1103515245) (q := 8) B dX2_draw_7 rfl rfl ?_
  refine g_sipush (v := nI 12345) (q := 11) B dX2_draw_8 rfl (by decide) ?_
  refine g_iadd (v := lcg z) (q := 12) B dX2_draw_11 rfl (lcg_eq z) ?_
  refine g_put (q := 15) (L2 := [[(b, .inr (1, [.ref al, .ref fo, .ref ol, .ref cl, .int (lcg z)]))], v0, v1, v2, v3, v4]) B (ci := 1) (k := 0) (j := 4) in_X2 tyX2 tyX2_ok nmX2 rfl dX2_draw_12 rfl rfl (Nat.le_of_ble_eq_true rfl) q237 rfl rfl rfl rfl (Nat.le_of_ble_eq_true rfl) rfl ?_
  refine g_aload_n (q := 16) B dX2_draw_15 rfl rfl (rv_r _) ?_
  refine g_get (q := 19) B (ci := 1) (k := 0) (j := 0) in_X2 rfl dX2_draw_16 rfl rfl (Nat.le_of_ble_eq_true rfl) q232 rfl rfl ?_
  refine g_new (q := 22) (kc2 := 1) (ks2 := (3 + 4 * (capF (ss.length + 1) - capF ss.length)) - 3) (fs := [.int (nI 0), .int (nI 0), .int (nI 0)]) B (ci := 3) in_X6 tyX6_ok rfl dX2_draw_19 rfl q1108 q1620 q102 (nwX6) (Nat.le_of_ble_eq_true rfl) (by omega) (fun n19 => ?_)
  refine (show Go g κ 22 [some (.ref b)] [.ref n19, .ref al] [[(b, .inr (1, [.ref al, .ref fo, .ref ol, .ref cl, .int (lcg z)]))], v0, v1, v2, v3, v4, [(n19, .inr (3, [.int (nI 0), .int (nI 0), .int (nI 0)]))]] 1 ((3 + 4 * (capF (ss.length + 1) - capF ss.length)) - 3) from ?_)
  refine g_dup (q := 23) B dX2_draw_22 rfl rfl ?_
  refine g_aload_n (q := 24) B dX2_draw_23 rfl rfl (rv_r _) ?_
  refine g_get (q := 27) B (ci := 1) (k := 0) (j := 4) in_X2 rfl dX2_draw_24 rfl rfl (Nat.le_of_ble_eq_true rfl) q237 rfl rfl ?_
  refine g_iconst (v := nI 1) (q := 28) B dX2_draw_27 rfl (by decide) ?_
  refine g_callSN (q := 31) (is := []) (kc2 := 1) (ks2 := (3 + 4 * (capF (ss.length + 1) - capF ss.length)) - 3) B [.int (lcg z), .int (nI 1)] (ct_X1_mix g J (a := lcg z) (b := nI 1)  ) dX2_draw_28 rfl q1240 q1241 q77 q1242 rfl rfl moX1_mix rfl rfl (by decide) (by decide) (Nat.le_of_ble_eq_true rfl) (Nat.le_of_ble_eq_true rfl) (by omega) (fun _ _ hx => noX_x hx) (fun v28 L1 hp28 => ?_)
  obtain ⟨rfl, rfl⟩ := hp28
  refine (show Go g κ 31 [some (.ref b)] [.int (mixI (lcg z) (nI 1)), .ref n19, .ref n19, .ref al] [[(b, .inr (1, [.ref al, .ref fo, .ref ol, .ref cl, .int (lcg z)]))], v0, v1, v2, v3, v4, [(n19, .inr (3, [.int (nI 0), .int (nI 0), .int (nI 0)]))]] 1 ((3 + 4 * (capF (ss.length + 1) - capF ss.length)) - 3) from ?_)
  refine g_iconst (v := -1) (q := 32) B dX2_draw_31 rfl (by decide) ?_
  refine g_iconst (v := -1) (q := 33) B dX2_draw_32 rfl (by decide) ?_
  refine g_callI (q := 36) (is := [6]) (kc2 := 1) (ks2 := (3 + 4 * (capF (ss.length + 1) - capF ss.length)) - 3) B [.int (mixI (lcg z) (nI 1)), .int (-1), .int (-1)] (ct_X6_init g J (a := n19) (v := mixI (lcg z) (nI 1)) (o := -1) (p := -1)  ) dX2_draw_33 rfl rfl q1621 q1622 q102 q1623 rfl rfl moX6_init rfl rfl (by decide) (by decide) (Nat.le_of_ble_eq_true rfl) (Nat.le_of_ble_eq_true rfl) (by omega) (fun _ _ hx => noX_x hx) (fun v33 L1 hp33 => ?_)
  obtain ⟨rfl, rfl⟩ := hp33
  refine (show Go g κ 36 [some (.ref b)] [.ref n19, .ref al] [[(b, .inr (1, [.ref al, .ref fo, .ref ol, .ref cl, .int (lcg z)]))], v0, v1, v2, v3, v4, [(n19, .inr (3, [.int (mixI (lcg z) (nI 1)), .int (-1), .int (-1)]))]] 1 ((3 + 4 * (capF (ss.length + 1) - capF ss.length)) - 3) from ?_)
  obtain ⟨wc_1, ewc_1⟩ : ∃ w : va_W, w = ([[(n19, .inr (3, [.int (mixI (lcg z) (nI 1)), .int (-1), .int (-1)]))]] : List va_W).flatten := ⟨_, rfl⟩
  have hwc_1 : OrgP g n19 (drw z) wc_1 := by
    rw [ewc_1]
    exact rfl
  refine g_close (w := wc_1) [6] rfl ewc_1 rfl ?_
  refine (show Go g κ 36 [some (.ref b)] [.ref n19, .ref al] [[(b, .inr (1, [.ref al, .ref fo, .ref ol, .ref cl, .int (lcg z)]))], v0, v1, v2, v3, v4, wc_1] 1 ((3 + 4 * (capF (ss.length + 1) - capF ss.length)) - 3) from ?_)
  obtain ⟨ps_2, md_2, hli_2, hln_2, hel_2⟩ := LhP.at (Sub.self hv0)
  refine g_callF (q := 41) (is := [1, 5]) (kc2 := 0) (ks2 := ((3 + 4 * (capF (ss.length + 1) - capF ss.length)) - 3) - (4 * (capF (ss.length + 1) - capF ss.length))) B [.ref n19] (ct_add_OrgL g J (p := al) (rs := ss) (cap := (capF ss.length)) (a := n19) (r := (drw z)) (mc := 1) (ms := (4 * (capF (ss.length + 1) - capF ss.length))) hv0 hwc_1 (by have := capF_le ss.length; omega) (fun h => ⟨Nat.le_refl _, capF_ms _ h⟩)) dX2_draw_36 rfl (ci := 21) rfl (rc_in B (ci := 21) rfl (k := 1) rfl (LhP.hm hv0)) q1639 q709 q711 q81 q713 q708 q707 q712 q710 q318 rfl rfl mojava_util_List_add__Ljava_lang_Object__Z rfl rfl (by decide) (by decide) (Nat.le_of_ble_eq_true rfl) (Nat.le_of_ble_eq_true rfl) (by omega) (fun _ _ hx => noX_x hx) (fun v36 L1 hp36 => ?_)
  obtain ⟨u0_36, rfl, rfl, hu0_36⟩ := hp36
  refine (show Go g κ 41 [some (.ref b)] [.int (nI 1)] [[(b, .inr (1, [.ref al, .ref fo, .ref ol, .ref cl, .int (lcg z)]))], v1, v2, v3, v4, u0_36] 0 (((3 + 4 * (capF (ss.length + 1) - capF ss.length)) - 3) - (4 * (capF (ss.length + 1) - capF ss.length))) from ?_)
  refine g_pop (q := 42) B dX2_draw_41 rfl rfl ?_
  refine g_aload_n (q := 43) B dX2_draw_42 rfl rfl (rv_r _) ?_
  refine g_get (q := 46) B (ci := 1) (k := 0) (j := 0) in_X2 rfl dX2_draw_43 rfl rfl (Nat.le_of_ble_eq_true rfl) q232 rfl rfl ?_
  obtain ⟨ps_3, md_3, hli_3, hln_3, hel_3⟩ := LhP.at (Sub.self hu0_36)
  refine g_callF (q := 51) (is := [5]) (kc2 := 0) (ks2 := ((3 + 4 * (capF (ss.length + 1) - capF ss.length)) - 3) - (4 * (capF (ss.length + 1) - capF ss.length))) B [] (ct_J2_size_s g J (p := al) (xs := ps_3) (md := md_3) (cap := (if ss.length = (capF ss.length) then growN (capF ss.length) else (capF ss.length))) (W0 := u0_36)  (hli_3)) dX2_draw_46 rfl (ci := 21) rfl (rc_in B (ci := 21) rfl (k := 5) rfl (LhP.hm hu0_36)) q1088 q319 q321 q81 q323 q317 q316 q322 q320 q318 rfl rfl mojava_util_List_size___I rfl rfl (by decide) (by decide) (Nat.le_of_ble_eq_true rfl) (Nat.le_of_ble_eq_true rfl) (by omega) (fun _ _ hx => noX_x hx) (fun v46 L1 hp46 => ?_)
  obtain ⟨rfl, rfl⟩ := hp46
  refine (show Go g κ 51 [some (.ref b)] [.int (nI ps_3.length)] [[(b, .inr (1, [.ref al, .ref fo, .ref ol, .ref cl, .int (lcg z)]))], v1, v2, v3, v4, u0_36] 0 (((3 + 4 * (capF (ss.length + 1) - capF ss.length)) - 3) - (4 * (capF (ss.length + 1) - capF ss.length))) from ?_)
  rw [hln_3.1]
  refine (show Go g κ 51 [some (.ref b)] [.int (nI ((ss ++ [(drw z)]).length))] [[(b, .inr (1, [.ref al, .ref fo, .ref ol, .ref cl, .int (lcg z)]))], v1, v2, v3, v4, u0_36] 0 (((3 + 4 * (capF (ss.length + 1) - capF ss.length)) - 3) - (4 * (capF (ss.length + 1) - capF ss.length))) from ?_)
  refine g_iconst (v := nI 1) (q := 52) B dX2_draw_51 rfl (by decide) ?_
  refine g_isub (v := nI ss.length) (q := 53) B dX2_draw_52 rfl (by rw [List.length_append]; exact pk_sub (by simp)) ?_
  obtain ⟨wc_4, ewc_4⟩ : ∃ w : va_W, w = ([[(b, .inr (1, [.ref al, .ref fo, .ref ol, .ref cl, .int (lcg z)]))], u0_36, v1, v2, v3, v4] : List va_W).flatten := ⟨_, rfl⟩
  have hwc_4 : BookP g b (ss ++ [drw z]) bx (lcg z) wc_4 := by
    rw [ewc_4]
    exact ⟨al, fo, ol, cl, xs, _, _, _, _, _, (hS.draw _), (hbx.mono (by simp)), (by have z_ := hu0_36; rw [capF_s] at z_; rw [List.length_append]; exact z_), (by rw [(Hc_dr ss (sKy_drw z)).1]; exact hv1), (by rw [(Hc_dr ss (sKy_drw z)).2]; exact hv2), hv3, hv4, rfl⟩
  refine g_close (w := wc_4) [0, 4, 0, 0, 0, 0] rfl ewc_4 rfl ?_
  refine (show Go g κ 53 [some (.ref b)] [.int (nI ss.length)] [wc_4] 0 (((3 + 4 * (capF (ss.length + 1) - capF ss.length)) - 3) - (4 * (capF (ss.length + 1) - capF ss.length))) from ?_)
  exact g_iret B E dX2_draw_53 (⟨wc_4, rfl, rfl, hwc_4⟩)
theorem moJ26_valueOf : Mo yJ26_valueOf 1 := by
  refine ⟨by decide, by decide, by decide +kernel⟩
theorem ct_X2_box (g : Gv) (J : Jd g) {b : Nat} {ss : List Sec} {bx : List (Nat × Nat)} {z : Int32} {o : Nat} {c : Nat} {w0 : va_W} (hw0 : BookP g b ss bx z w0) (ho : o < ss.length) (hc : c < ss.length) (hbl : bx.length < 2000) : Ct g yX2_box (ws_ yX2_box cX2_box 3 none) 7 4 (2 + 8 * (capF (bx.length + 1) - capF bx.length)) [.ref b, .int (nI o), .int (nI c)] [w0] (fun (rv_ : Option Value) (rL_ : List va_W) => ∃ (u0 : va_W), rv_ = none ∧ rL_ = [u0] ∧ BookP g b ss (bx ++ [(o, c)]) z u0) noX := by
  refine Ct.of "Keygrove$Book" [some (.ref b), some (.int (nI o)), some (.int (nI c))] rfl (by decide) rfl (Nat.le_of_ble_eq_true rfl) rfl ?_
  intro κ B E tb
  obtain ⟨al, fo, ol, cl, xs, v0, v1, v2, v3, v4, hS, hbx, hv0, hv1, hv2, hv3, hv4, rfl⟩ := hw0
  refine g_open 0 rfl rfl rfl ?_
  refine (show Go g κ 0 [some (.ref b), some (.int (nI o)), some (.int (nI c))] [] [[(b, .inr (1, [.ref al, .ref fo, .ref ol, .ref cl, .int z]))], v0, v1, v2, v3, v4] 4 (2 + 8 * (capF (bx.length + 1) - capF bx.length)) from ?_)
  refine g_aload_n (q := 1) B dX2_box_0 rfl rfl (rv_r _) ?_
  refine g_get (q := 4) B (ci := 1) (k := 0) (j := 2) in_X2 rfl dX2_box_1 rfl rfl (Nat.le_of_ble_eq_true rfl) q234 rfl rfl ?_
  refine g_iload_n (q := 5) B dX2_box_4 rfl rfl ?_
  refine g_callS (q := 8) (is := []) (kc2 := 3) (ks2 := (2 + 8 * (capF (bx.length + 1) - capF bx.length)) - 1) B [.int (nI o)] (ct_J26_valueOf g J (v := nI o)  ) dX2_box_5 rfl q1640 q686 q111 q687 rfl rfl moJ26_valueOf rfl rfl (by decide) (by decide) (Nat.le_of_ble_eq_true rfl) (Nat.le_of_ble_eq_true rfl) (by omega) (fun _ _ hx => noX_x hx) (fun v5 L1 hp5 => ?_)
  obtain ⟨a5, u0_5, rfl, rfl, hu0_5⟩ := hp5
  refine (show Go g κ 8 [some (.ref b), some (.int (nI o)), some (.int (nI c))] [.ref a5, .ref ol] [[(b, .inr (1, [.ref al, .ref fo, .ref ol, .ref cl, .int z]))], v0, v1, v2, v3, v4, u0_5] 3 ((2 + 8 * (capF (bx.length + 1) - capF bx.length)) - 1) from ?_)
  obtain ⟨ps_1, md_1, hli_1, hln_1, hel_1⟩ := LhP.at (Sub.self hv3)
  refine g_callF (q := 13) (is := [4, 5]) (kc2 := 2) (ks2 := ((2 + 8 * (capF (bx.length + 1) - capF bx.length)) - 1) - (4 * (capF (bx.length + 1) - capF bx.length))) B [.ref a5] (ct_add_IlP g J (p := ol) (rs := (bx.map (·.1))) (cap := (capF bx.length)) (a := a5) (r := o) (mc := 1) (ms := (4 * (capF (bx.length + 1) - capF bx.length))) hv3 hu0_5 (by have := capF_le bx.length; omega) (fun h => ⟨Nat.le_refl _, capF_ms _ (by rw [List.length_map] at h; exact h)⟩)) dX2_box_8 rfl (ci := 21) rfl (rc_in B (ci := 21) rfl (k := 4) rfl (LhP.hm hv3)) q1639 q709 q711 q81 q713 q708 q707 q712 q710 q318 rfl rfl mojava_util_List_add__Ljava_lang_Object__Z rfl rfl (by decide) (by decide) (Nat.le_of_ble_eq_true rfl) (Nat.le_of_ble_eq_true rfl) (by omega) (fun _ _ hx => noX_x hx) (fun v8 L1 hp8 => ?_)
  obtain ⟨u0_8, rfl, rfl, hu0_8⟩ := hp8
  refine (show Go g κ 13 [some (.ref b), some (.int (nI o)), some (.int (nI c))] [.int (nI 1)] [[(b, .inr (1, [.ref al, .ref fo, .ref ol, .ref cl, .int z]))], v0, v1, v2, v4, u0_8] 2 (((2 + 8 * (capF (bx.length + 1) - capF bx.length)) - 1) - (4 * (capF (bx.length + 1) - capF bx.length))) from ?_)
  refine g_pop (q := 14) B dX2_box_13 rfl rfl ?_
  refine g_aload_n (q := 15) B dX2_box_14 rfl rfl (rv_r _) ?_
  refine g_get (q := 18) B (ci := 1) (k := 0) (j := 3) in_X2 rfl dX2_box_15 rfl rfl (Nat.le_of_ble_eq_true rfl) q236 rfl rfl ?_
  refine g_iload_n (q := 19) B dX2_box_18 rfl rfl ?_
  refine g_callS (q := 22) (is := []) (kc2 := 1) (ks2 := (((2 + 8 * (capF (bx.length + 1) - capF bx.length)) - 1) - (4 * (capF (bx.length + 1) - capF bx.length))) - 1) B [.int (nI c)] (ct_J26_valueOf g J (v := nI c)  ) dX2_box_19 rfl q1640 q686 q111 q687 rfl rfl moJ26_valueOf rfl rfl (by decide) (by decide) (Nat.le_of_ble_eq_true rfl) (Nat.le_of_ble_eq_true rfl) (by omega) (fun _ _ hx => noX_x hx) (fun v19 L1 hp19 => ?_)
  obtain ⟨a19, u0_19, rfl, rfl, hu0_19⟩ := hp19
  refine (show Go g κ 22 [some (.ref b), some (.int (nI o)), some (.int (nI c))] [.ref a19, .ref cl] [[(b, .inr (1, [.ref al, .ref fo, .ref ol, .ref cl, .int z]))], v0, v1, v2, v4, u0_8, u0_19] 1 ((((2 + 8 * (capF (bx.length + 1) - capF bx.length)) - 1) - (4 * (capF (bx.length + 1) - capF bx.length))) - 1) from ?_)
  obtain ⟨ps_2, md_2, hli_2, hln_2, hel_2⟩ := LhP.at (Sub.self hv4)
  refine g_callF (q := 27) (is := [4, 5]) (kc2 := 0) (ks2 := ((((2 + 8 * (capF (bx.length + 1) - capF bx.length)) - 1) - (4 * (capF (bx.length + 1) - capF bx.length))) - 1) - (4 * (capF (bx.length + 1) - capF bx.length))) B [.ref a19] (ct_add_IlP g J (p := cl) (rs := (bx.map (·.2))) (cap := (capF bx.length)) (a := a19) (r := c) (mc := 1) (ms := (4 * (capF (bx.length + 1) - capF bx.length))) hv4 hu0_19 (by have := capF_le bx.length; omega) (fun h => ⟨Nat.le_refl _, capF_ms _ (by rw [List.length_map] at h; exact h)⟩)) dX2_box_22 rfl (ci := 21) rfl (rc_in B (ci := 21) rfl (k := 4) rfl (LhP.hm hv4)) q1639 q709 q711 q81 q713 q708 q707 q712 q710 q318 rfl rfl mojava_util_List_add__Ljava_lang_Object__Z rfl rfl (by decide) (by decide) (Nat.le_of_ble_eq_true rfl) (Nat.le_of_ble_eq_true rfl) (by omega) (fun _ _ hx => noX_x hx) (fun v22 L1 hp22 => ?_)
  obtain ⟨u0_22, rfl, rfl, hu0_22⟩ := hp22
  refine (show Go g κ 27 [some (.ref b), some (.int (nI o)), some (.int (nI c))] [.int (nI 1)] [[(b, .inr (1, [.ref al, .ref fo, .ref ol, .ref cl, .int z]))], v0, v1, v2, u0_8, u0_22] 0 (((((2 + 8 * (capF (bx.length + 1) - capF bx.length)) - 1) - (4 * (capF (bx.length + 1) - capF bx.length))) - 1) - (4 * (capF (bx.length + 1) - capF bx.length))) from ?_)
  refine g_pop (q := 28) B dX2_box_27 rfl rfl ?_
  obtain ⟨wc_3, ewc_3⟩ : ∃ w : va_W, w = ([[(b, .inr (1, [.ref al, .ref fo, .ref ol, .ref cl, .int z]))], v0, v1, v2, u0_8, u0_22] : List va_W).flatten := ⟨_, rfl⟩
  have hwc_3 : BookP g b ss (bx ++ [(o, c)]) z wc_3 := by
    rw [ewc_3]
    exact ⟨al, fo, ol, cl, xs, _, _, _, _, _, hS, (by intro p hp; rcases List.mem_append.mp hp with h | h; exact hbx p h; rw [List.mem_singleton] at h; rw [h]; exact ⟨ho, hc⟩), hv0, hv1, hv2, (by have z_ := hu0_8; rw [List.length_map, capF_s] at z_; rw [List.map_append, List.length_append]; exact z_), (by have z_ := hu0_22; rw [List.length_map, capF_s] at z_; rw [List.map_append, List.length_append]; exact z_), rfl⟩
  refine g_close (w := wc_3) [0, 0, 0, 0, 0, 0] rfl ewc_3 rfl ?_
  refine (show Go g κ 28 [some (.ref b), some (.int (nI o)), some (.int (nI c))] [] [wc_3] 0 (((((2 + 8 * (capF (bx.length + 1) - capF bx.length)) - 1) - (4 * (capF (bx.length + 1) - capF bx.length))) - 1) - (4 * (capF (bx.length + 1) - capF bx.length))) from ?_)
  exact g_vret B E dX2_box_28 (⟨wc_3, rfl, rfl, hwc_3⟩)
theorem frm_n {ss : List Sec} {k : Ky} (h : fnd ss k = none) : frm ss k = (ss ++ [(fvl ss k, some k.1, k.2.1, k.2.2)], ss.length) := by unfold frm; rw [h]
theorem frm_s {ss : List Sec} {k : Ky} {i : Nat} (h : fnd ss k = some i) : frm ss k = (ss, i) := by unfold frm; rw [h]
theorem KvP.ln {g : Gv} {ss : List Sec} {xs : List Tp} {w : va_W} (h : KvP g xs (dv ss) w) (hS : SsOk ss) : xs.length ≤ ss.length := by
  rw [h.1]
  unfold dv
  exact Nat.le_trans (List.length_filterMap_le _ _) (by simp)
theorem drop2 (a b : Nat) (h : a ≤ b) : a + 1 ≤ b + 1 := by omega
theorem moJ4_get : Mo yJ4_get 1 := by
  refine ⟨by decide, by decide, by decide +kernel⟩
theorem moJ4_put : Mo yJ4_put 2 := by
  refine ⟨by decide, by decide, by decide +kernel⟩
theorem moJ26_intValue : Mo yJ26_intValue 0 := by
  refine ⟨by decide, by decide, by decide +kernel⟩
theorem ct_X2_noted (g : Gv) (J : Jd g) {b : Nat} {ss : List Sec} {bx : List (Nat × Nat)} {z : Int32} {o : Nat} {q : Option Nat} {l : Nat} {s : Nat} {s2 : List Sec} {i : Nat} {cA : Nat} {cB : Nat} {w0 : va_W} {w1 : va_W} (hw0 : BookP g b ss bx z w0) (hw1 : StrP g s (kTx (o, q, l)) w1) (hk : kOk (o, q, l)) (ho : o < ss.length) (hq : ∀ n, q = some n → n < ss.length) (hl : ss.length < 999) (hfr : frm ss (o, q, l) = (s2, i)) (hA : Hc s2 ≤ Hc ss + cA) (hB : capF s2.length ≤ capF ss.length + cB) : Ct g yX2_noted (ws_ yX2_noted cX2_noted 6 (some .int)) 11 (15 + 13 * cA) (129 + 51 * cA + 4 * cB) [.ref b, .ref s, .int (fvl ss (o, q, l)), .int (nI o), .int (oI q)] [w0, w1] (fun (rv_ : Option Value) (rL_ : List va_W) => ∃ (u0 : va_W), rv_ = some (.int (nI i)) ∧ rL_ = [u0] ∧ BookP g b s2 bx z u0) noX := by
  refine Ct.of "Keygrove$Book" [some (.ref b), some (.ref s), some (.int (fvl ss (o, q, l))), some (.int (nI o)), some (.int (oI q)), none] rfl (by decide) rfl (Nat.le_of_ble_eq_true rfl) rfl ?_
  intro κ B E tb
  obtain ⟨al, fo, ol, cl, xs, v0, v1, v2, v3, v4, hS, hbx, hv0, hv1, hv2, hv3, hv4, rfl⟩ := hw0
  refine g_open 0 rfl rfl rfl ?_
  refine (show Go g κ 0 [some (.ref b), some (.ref s), some (.int (fvl ss (o, q, l))), some (.int (nI o)), some (.int (oI q)), none] [] [w1, [(b, .inr (1, [.ref al, .ref fo, .ref ol, .ref cl, .int z]))], v0, v1, v2, v3, v4] (15 + 13 * cA) (129 + 51 * cA + 4 * cB) from ?_)
  rcases hf : fnd ss (o, q, l) with _ | j
  · skip
    have hfr2 : (ss ++ [(fvl ss (o, q, l), some o, q, l)], ss.length) = (s2, i) := (frm_n hf).symm.trans hfr
    obtain ⟨rfl, rfl⟩ := Prod.mk.inj hfr2
    have hno := KvP.no hv2 hS hk hf
    have hcf := capF_le ss.length
    have hxl := KvP.ln hv2 hS
    have hc9 : capF (ss ++ [(fvl ss (o, q, l), some o, q, l)]).length = capF (ss.length + 1) := by rw [List.length_append]; rfl
    rw [hc9] at hB
    have hhm : Hc ss ≤ Hc (ss ++ [(fvl ss (o, q, l), some o, q, l)]) := Hc_mo
    refine (show Go g κ 0 [some (.ref b), some (.ref s), some (.int (fvl ss (o, q, l))), some (.int (nI o)), some (.int (oI q)), none] [] [w1, [(b, .inr (1, [.ref al, .ref fo, .ref ol, .ref cl, .int z]))], v0, v1, v2, v3, v4] (15 + 13 * cA) (129 + 51 * cA + 4 * cB) from ?_)
    refine g_aload_n (q := 1) B dX2_noted_0 rfl rfl (rv_r _) ?_
    refine g_get (q := 4) B (ci := 1) (k := 1) (j := 1) in_X2 rfl dX2_noted_1 rfl rfl (Nat.le_of_ble_eq_true rfl) q233 rfl rfl ?_
    refine g_aload_n (q := 5) B dX2_noted_4 rfl rfl (rv_r _) ?_
    refine g_callV (q := 8) (is := [3, 0]) (kc2 := 15 + 13 * cA) (ks2 := 129 + 51 * cA + 4 * cB) B [.ref s] (ct_J4_get_n g J (h := fo) (xs := xs) (cap := (Hc ss)) (s := s) (c := (kTx (o, q, l))) (hh := hsh (o, q, l)) hv1 hw1 (kOk_len hk) (rfl) (hno)) dX2_noted_5 rfl (rc_in B (ci := 23) rfl (k := 3) rfl (HmT.hm hv1)) rfl q1250 q1251 q1252 q83 q1253 rfl rfl moJ4_get rfl rfl (by decide) (by decide) (Nat.le_of_ble_eq_true rfl) (by omega) (by omega) (fun _ _ hx => noX_x hx) (fun v5 L1 hp5 => ?_)
    obtain ⟨u0_5, u1_5, rfl, rfl, hu0_5, hu1_5⟩ := hp5
    refine (show Go g κ 8 [some (.ref b), some (.ref s), some (.int (fvl ss (o, q, l))), some (.int (nI o)), some (.int (oI q)), none] [.null] [[(b, .inr (1, [.ref al, .ref fo, .ref ol, .ref cl, .int z]))], v0, v2, v3, v4, u0_5, u1_5] (15 + 13 * cA) (129 + 51 * cA + 4 * cB) from ?_)
    refine g_castN (q := 11) B dX2_noted_8 rfl ?_
    refine g_astore (q := 13) (lv2 := [some (.ref b), some (.ref s), some (.int (fvl ss (o, q, l))), some (.int (nI o)), some (.int (oI q)), some (.null)]) B dX2_noted_11 rfl (Nat.le_of_ble_eq_true rfl) rv_n rfl ?_
    refine g_aload (q := 15) B dX2_noted_13 rfl rfl rv_n ?_
    refine g_ifnull_n (tgt := 24) B dX2_noted_15 (by decide) ?_
    refine g_aload_n (q := 25) B dX2_noted_24 rfl rfl (rv_r _) ?_
    refine g_get (q := 28) B (ci := 1) (k := 0) (j := 0) in_X2 rfl dX2_noted_25 rfl rfl (Nat.le_of_ble_eq_true rfl) q232 rfl rfl ?_
    refine g_new (q := 31) (kc2 := (15 + 13 * cA) - 1) (ks2 := (129 + 51 * cA + 4 * cB) - 3) (fs := [.int (nI 0), .int (nI 0), .int (nI 0)]) B (ci := 3) in_X6 tyX6_ok rfl dX2_noted_28 rfl q1108 q1620 q102 (nwX6) (by omega) (by omega) (fun n28 => ?_)
    refine (show Go g κ 31 [some (.ref b), some (.ref s), some (.int (fvl ss (o, q, l))), some (.int (nI o)), some (.int (oI q)), some (.null)] [.ref n28, .ref al] [[(b, .inr (1, [.ref al, .ref fo, .ref ol, .ref cl, .int z]))], v0, v2, v3, v4, u0_5, u1_5, [(n28, .inr (3, [.int (nI 0), .int (nI 0), .int (nI 0)]))]] ((15 + 13 * cA) - 1) ((129 + 51 * cA + 4 * cB) - 3) from ?_)
    refine g_dup (q := 32) B dX2_noted_31 rfl rfl ?_
    refine g_iload_n (q := 33) B dX2_noted_32 rfl rfl ?_
    refine g_iload_n (q := 34) B dX2_noted_33 rfl rfl ?_
    refine g_iload (q := 36) B dX2_noted_34 rfl rfl ?_
    refine g_callI (q := 39) (is := [7]) (kc2 := (15 + 13 * cA) - 1) (ks2 := (129 + 51 * cA + 4 * cB) - 3) B [.int (fvl ss (o, q, l)), .int (nI o), .int (oI q)] (ct_X6_init g J (a := n28) (v := fvl ss (o, q, l)) (o := nI o) (p := oI q)  ) dX2_noted_36 rfl rfl q1621 q1622 q102 q1623 rfl rfl moX6_init rfl rfl (by decide) (by decide) (Nat.le_of_ble_eq_true rfl) (by omega) (by omega) (fun _ _ hx => noX_x hx) (fun v36 L1 hp36 => ?_)
    obtain ⟨rfl, rfl⟩ := hp36
    refine (show Go g κ 39 [some (.ref b), some (.ref s), some (.int (fvl ss (o, q, l))), some (.int (nI o)), some (.int (oI q)), some (.null)] [.ref n28, .ref al] [[(b, .inr (1, [.ref al, .ref fo, .ref ol, .ref cl, .int z]))], v0, v2, v3, v4, u0_5, u1_5, [(n28, .inr (3, [.int (fvl ss (o, q, l)), .int (nI o), .int (oI q)]))]] ((15 + 13 * cA) - 1) ((129 + 51 * cA + 4 * cB) - 3) from ?_)
    obtain ⟨wc_1, ewc_1⟩ : ∃ w : va_W, w = ([[(n28, .inr (3, [.int (fvl ss (o, q, l)), .int (nI o), .int (oI q)]))]] : List va_W).flatten := ⟨_, rfl⟩
    have hwc_1 : OrgP g n28 ((fvl ss (o, q, l), some o, q, l)) wc_1 := by
      rw [ewc_1]
      exact rfl
    refine g_close (w := wc_1) [7] rfl ewc_1 rfl ?_
    refine (show Go g κ 39 [some (.ref b), some (.ref s), some (.int (fvl ss (o, q, l))), some (.int (nI o)), some (.int (oI q)), some (.null)] [.ref n28, .ref al] [[(b, .inr (1, [.ref al, .ref fo, .ref ol, .ref cl, .int z]))], v0, v2, v3, v4, u0_5, u1_5, wc_1] ((15 + 13 * cA) - 1) ((129 + 51 * cA + 4 * cB) - 3) from ?_)
    obtain ⟨ps_2, md_2, hli_2, hln_2, hel_2⟩ := LhP.at (Sub.self hv0)
    refine g_callF (q := 44) (is := [1, 6]) (kc2 := (15 + 13 * cA) - 2) (ks2 := ((129 + 51 * cA + 4 * cB) - 3) - (4 * (capF (ss.length + 1) - capF ss.length))) B [.ref n28] (ct_add_OrgL g J (p := al) (rs := ss) (cap := (capF ss.length)) (a := n28) (r := ((fvl ss (o, q, l), some o, q, l))) (mc := 1) (ms := (4 * (capF (ss.length + 1) - capF ss.length))) hv0 hwc_1 (by have := capF_le ss.length; omega) (fun h => ⟨Nat.le_refl _, capF_ms _ h⟩)) dX2_noted_39 rfl (ci := 21) rfl (rc_in B (ci := 21) rfl (k := 1) rfl (LhP.hm hv0)) q1639 q709 q711 q81 q713 q708 q707 q712 q710 q318 rfl rfl mojava_util_List_add__Ljava_lang_Object__Z rfl rfl (by decide) (by decide) (Nat.le_of_ble_eq_true rfl) (by omega) (by omega) (fun _ _ hx => noX_x hx) (fun v39 L1 hp39 => ?_)
    obtain ⟨u0_39, rfl, rfl, hu0_39⟩ := hp39
    refine (show Go g κ 44 [some (.ref b), some (.ref s), some (.int (fvl ss (o, q, l))), some (.int (nI o)), some (.int (oI q)), some (.null)] [.int (nI 1)] [[(b, .inr (1, [.ref al, .ref fo, .ref ol, .ref cl, .int z]))], v2, v3, v4, u0_5, u1_5, u0_39] ((15 + 13 * cA) - 2) (((129 + 51 * cA + 4 * cB) - 3) - (4 * (capF (ss.length + 1) - capF ss.length))) from ?_)
    refine g_pop (q := 45) B dX2_noted_44 rfl rfl ?_
    refine g_aload_n (q := 46) B dX2_noted_45 rfl rfl (rv_r _) ?_
    refine g_get (q := 49) B (ci := 1) (k := 0) (j := 1) in_X2 rfl dX2_noted_46 rfl rfl (Nat.le_of_ble_eq_true rfl) q233 rfl rfl ?_
    refine g_aload_n (q := 50) B dX2_noted_49 rfl rfl (rv_r _) ?_
    refine g_aload_n (q := 51) B dX2_noted_50 rfl rfl (rv_r _) ?_
    refine g_get (q := 54) B (ci := 1) (k := 0) (j := 0) in_X2 rfl dX2_noted_51 rfl rfl (Nat.le_of_ble_eq_true rfl) q232 rfl rfl ?_
    obtain ⟨ps_3, md_3, hli_3, hln_3, hel_3⟩ := LhP.at (Sub.self hu0_39)
    refine g_callF (q := 59) (is := [6]) (kc2 := (15 + 13 * cA) - 2) (ks2 := ((129 + 51 * cA + 4 * cB) - 3) - (4 * (capF (ss.length + 1) - capF ss.length))) B [] (ct_J2_size_s g J (p := al) (xs := ps_3) (md := md_3) (cap := (if ss.length = (capF ss.length) then growN (capF ss.length) else (capF ss.length))) (W0 := u0_39)  (hli_3)) dX2_noted_54 rfl (ci := 21) rfl (rc_in B (ci := 21) rfl (k := 6) rfl (LhP.hm hu0_39)) q1088 q319 q321 q81 q323 q317 q316 q322 q320 q318 rfl rfl mojava_util_List_size___I rfl rfl (by decide) (by decide) (Nat.le_of_ble_eq_true rfl) (by omega) (by omega) (fun _ _ hx => noX_x hx) (fun v54 L1 hp54 => ?_)
    obtain ⟨rfl, rfl⟩ := hp54
    refine (show Go g κ 59 [some (.ref b), some (.ref s), some (.int (fvl ss (o, q, l))), some (.int (nI o)), some (.int (oI q)), some (.null)] [.int (nI ps_3.length), .ref s, .ref fo] [[(b, .inr (1, [.ref al, .ref fo, .ref ol, .ref cl, .int z]))], v2, v3, v4, u0_5, u1_5, u0_39] ((15 + 13 * cA) - 2) (((129 + 51 * cA + 4 * cB) - 3) - (4 * (capF (ss.length + 1) - capF ss.length))) from ?_)
    rw [hln_3.1]
    refine (show Go g κ 59 [some (.ref b), some (.ref s), some (.int (fvl ss (o, q, l))), some (.int (nI o)), some (.int (oI q)), some (.null)] [.int (nI ((ss ++ [((fvl ss (o, q, l), some o, q, l))]).length)), .ref s, .ref fo] [[(b, .inr (1, [.ref al, .ref fo, .ref ol, .ref cl, .int z]))], v2, v3, v4, u0_5, u1_5, u0_39] ((15 + 13 * cA) - 2) (((129 + 51 * cA + 4 * cB) - 3) - (4 * (capF (ss.length + 1) - capF ss.length))) from ?_)
    refine g_iconst (v := nI 1) (q := 60) B dX2_noted_59 rfl (by decide) ?_
    refine g_isub (v := nI ((ss ++ [(fvl ss (o, q, l), some o, q, l)]).length - 1)) (q := 61) B dX2_noted_60 rfl (pk_sub (by simp)) ?_
    refine g_callS (q := 64) (is := []) (kc2 := (15 + 13 * cA) - 3) (ks2 := (((129 + 51 * cA + 4 * cB) - 3) - (4 * (capF (ss.length + 1) - capF ss.length))) - 1) B [.int (nI ((ss ++ [(fvl ss (o, q, l), some o, q, l)]).length - 1))] (ct_J26_valueOf g J (v := nI ((ss ++ [(fvl ss (o, q, l), some o, q, l)]).length - 1))  ) dX2_noted_61 rfl q1640 q686 q111 q687 rfl rfl moJ26_valueOf rfl rfl (by decide) (by decide) (Nat.le_of_ble_eq_true rfl) (by omega) (by omega) (fun _ _ hx => noX_x hx) (fun v61 L1 hp61 => ?_)
    obtain ⟨a61, u0_61, rfl, rfl, hu0_61⟩ := hp61
    refine (show Go g κ 64 [some (.ref b), some (.ref s), some (.int (fvl ss (o, q, l))), some (.int (nI o)), some (.int (oI q)), some (.null)] [.ref a61, .ref s, .ref fo] [[(b, .inr (1, [.ref al, .ref fo, .ref ol, .ref cl, .int z]))], v2, v3, v4, u0_5, u1_5, u0_39, u0_61] ((15 + 13 * cA) - 3) ((((129 + 51 * cA + 4 * cB) - 3) - (4 * (capF (ss.length + 1) - capF ss.length))) - 1) from ?_)
    have hhc : hgr xs (Hc ss) (hsh (o, q, l)) = Hc (ss ++ [(fvl ss (o, q, l), some o, q, l)]) := Hc_app ss rfl xs (KvP.hs hv2)
    refine g_callV (q := 67) (is := [4, 4]) (kc2 := 0) (ks2 := 0) B [.ref s, .ref a61] (ct_J4_put g J (h := fo) (xs := xs) (cap0 := (Hc ss)) (hh := hsh (o, q, l)) (k := s) (v := a61) (c := (kTx (o, q, l))) hu0_5 hu1_5 (kOk_len hk) (rfl) (hno) (by omega)) dX2_noted_64 rfl (rc_in B (ci := 23) rfl (k := 4) rfl (HmT.hm hu0_5)) rfl q1641 q1642 q1643 q83 q1644 rfl rfl moJ4_put rfl rfl (by decide) (by decide) (Nat.le_of_ble_eq_true rfl) (by omega) (by omega) (fun _ _ hx => noX_x hx) (fun v64 L1 hp64 => ?_)
    obtain ⟨u0_64, u1_64, rfl, rfl, hu0_64, hu1_64⟩ := hp64
    refine (show Go g κ 67 [some (.ref b), some (.ref s), some (.int (fvl ss (o, q, l))), some (.int (nI o)), some (.int (oI q)), some (.null)] [.null] [[(b, .inr (1, [.ref al, .ref fo, .ref ol, .ref cl, .int z]))], v2, v3, v4, u0_39, u0_61, u0_64, u1_64] 0 0 from ?_)
    obtain ⟨wc_4, ewc_4⟩ : ∃ w : va_W, w = ([v2, u1_64, u0_61] : List va_W).flatten := ⟨_, rfl⟩
    have hwc_4 : KvP g (xs ++ [((hsh (o, q, l)), s, a61)]) (dv (ss ++ [(fvl ss (o, q, l), some o, q, l)])) wc_4 := by
      rw [ewc_4]
      exact KvP.push (s := (fvl ss (o, q, l), some o, q, l)) hv2 rfl hu1_64 (by rw [show ss.length = (ss ++ [(fvl ss (o, q, l), some o, q, l)]).length - 1 by simp]; exact hu0_61)
    refine g_close (w := wc_4) [1, 6, 4] rfl ewc_4 rfl ?_
    refine (show Go g κ 67 [some (.ref b), some (.ref s), some (.int (fvl ss (o, q, l))), some (.int (nI o)), some (.int (oI q)), some (.null)] [.null] [[(b, .inr (1, [.ref al, .ref fo, .ref ol, .ref cl, .int z]))], v3, v4, u0_39, u0_64, wc_4] 0 0 from ?_)
    refine g_pop (q := 68) B dX2_noted_67 rfl rfl ?_
    refine g_aload_n (q := 69) B dX2_noted_68 rfl rfl (rv_r _) ?_
    refine g_get (q := 72) B (ci := 1) (k := 0) (j := 0) in_X2 rfl dX2_noted_69 rfl rfl (Nat.le_of_ble_eq_true rfl) q232 rfl rfl ?_
    refine g_callF (q := 77) (is := [3]) (kc2 := 0) (ks2 := 0) B [] (ct_J2_size_s g J (p := al) (xs := ps_3) (md := md_3) (cap := (if ss.length = (capF ss.length) then growN (capF ss.length) else (capF ss.length))) (W0 := u0_39)  (hli_3)) dX2_noted_72 rfl (ci := 21) rfl (rc_in B (ci := 21) rfl (k := 3) rfl (LhP.hm hu0_39)) q1088 q319 q321 q81 q323 q317 q316 q322 q320 q318 rfl rfl mojava_util_List_size___I rfl rfl (by decide) (by decide) (Nat.le_of_ble_eq_true rfl) (Nat.le_of_ble_eq_true rfl) (Nat.le_of_ble_eq_true rfl) (fun _ _ hx => noX_x hx) (fun v72 L1 hp72 => ?_)
    obtain ⟨rfl, rfl⟩ := hp72
    refine (show Go g κ 77 [some (.ref b), some (.ref s), some (.int (fvl ss (o, q, l))), some (.int (nI o)), some (.int (oI q)), some (.null)] [.int (nI ps_3.length)] [[(b, .inr (1, [.ref al, .ref fo, .ref ol, .ref cl, .int z]))], v3, v4, u0_64, wc_4, u0_39] 0 0 from ?_)
    rw [hln_3.1]
    refine (show Go g κ 77 [some (.ref b), some (.ref s), some (.int (fvl ss (o, q, l))), some (.int (nI o)), some (.int (oI q)), some (.null)] [.int (nI ((ss ++ [((fvl ss (o, q, l), some o, q, l))]).length))] [[(b, .inr (1, [.ref al, .ref fo, .ref ol, .ref cl, .int z]))], v3, v4, u0_64, wc_4, u0_39] 0 0 from ?_)
    refine g_iconst (v := nI 1) (q := 78) B dX2_noted_77 rfl (by decide) ?_
    refine g_isub (v := nI ((ss ++ [(fvl ss (o, q, l), some o, q, l)]).length - 1)) (q := 79) B dX2_noted_78 rfl (pk_sub (by simp)) ?_
    obtain ⟨wc_5, ewc_5⟩ : ∃ w : va_W, w = ([[(b, .inr (1, [.ref al, .ref fo, .ref ol, .ref cl, .int z]))], u0_39, u0_64, wc_4, v3, v4] : List va_W).flatten := ⟨_, rfl⟩
    have hwc_5 : BookP g b (ss ++ [(fvl ss (o, q, l), some o, q, l)]) bx z wc_5 := by
      rw [ewc_5]
      exact ⟨al, fo, ol, cl, (xs ++ [((hsh (o, q, l)), s, a61)]), _, _, _, _, _, (hS.push hk hf ho hq), (hbx.mono (by simp)), (by have z_ := hu0_39; rw [capF_s] at z_; rw [List.length_append]; exact z_), (by rw [← hhc]; exact hu0_64), hwc_4, hv3, hv4, rfl⟩
    refine g_close (w := wc_5) [0, 4, 2, 2, 0, 0] rfl ewc_5 rfl ?_
    refine (show Go g κ 79 [some (.ref b), some (.ref s), some (.int (fvl ss (o, q, l))), some (.int (nI o)), some (.int (oI q)), some (.null)] [.int (nI ((ss ++ [(fvl ss (o, q, l), some o, q, l)]).length - 1))] [wc_5] 0 0 from ?_)
    exact g_iret B E dX2_noted_79 (⟨_, by simp, rfl, hwc_5⟩)
  · skip
    have hfr2 : (ss, j) = (s2, i) := (frm_s hf).symm.trans hfr
    obtain ⟨rfl, rfl⟩ := Prod.mk.inj hfr2
    refine (show Go g κ 0 [some (.ref b), some (.ref s), some (.int (fvl ss (o, q, l))), some (.int (nI o)), some (.int (oI q)), none] [] [w1, [(b, .inr (1, [.ref al, .ref fo, .ref ol, .ref cl, .int z]))], v0, v1, v2, v3, v4] (15 + 13 * cA) (129 + 51 * cA + 4 * cB) from ?_)
    obtain ⟨k0, e0, y1, y2, y3, y4, hin, hy2, hy3, hycl, hye⟩ := KvP.opn hv2 (fnd_s hf)
    refine g_open 4 rfl hye rfl ?_
    refine (show Go g κ 0 [some (.ref b), some (.ref s), some (.int (fvl ss (o, q, l))), some (.int (nI o)), some (.int (oI q)), none] [] [w1, [(b, .inr (1, [.ref al, .ref fo, .ref ol, .ref cl, .int z]))], v0, v1, v3, v4, y1, y2, y3, y4] (15 + 13 * cA) (129 + 51 * cA + 4 * cB) from ?_)
    refine g_aload_n (q := 1) B dX2_noted_0 rfl rfl (rv_r _) ?_
    refine g_get (q := 4) B (ci := 1) (k := 1) (j := 1) in_X2 rfl dX2_noted_1 rfl rfl (Nat.le_of_ble_eq_true rfl) q233 rfl rfl ?_
    refine g_aload_n (q := 5) B dX2_noted_4 rfl rfl (rv_r _) ?_
    refine g_callV (q := 8) (is := [3, 0, 5]) (kc2 := 15 + 13 * cA) (ks2 := 129 + 51 * cA + 4 * cB) B [.ref s] (ct_J4_get_s g J (h := fo) (xs := xs) (cap := (Hc ss)) (s := s) (c := (kTx (o, q, l))) (hh := hsh (o, q, l)) (k0 := k0) (v0 := e0) hv1 hw1 hy2 (kOk_len hk) (rfl) (hin)) dX2_noted_5 rfl (rc_in B (ci := 23) rfl (k := 3) rfl (HmT.hm hv1)) rfl q1250 q1251 q1252 q83 q1253 rfl rfl moJ4_get rfl rfl (by decide) (by decide) (Nat.le_of_ble_eq_true rfl) (by omega) (by omega) (fun _ _ hx => noX_x hx) (fun v5 L1 hp5 => ?_)
    obtain ⟨u0_5, u1_5, u2_5, rfl, rfl, hu0_5, hu1_5, hu2_5⟩ := hp5
    refine (show Go g κ 8 [some (.ref b), some (.ref s), some (.int (fvl ss (o, q, l))), some (.int (nI o)), some (.int (oI q)), none] [.ref e0] [[(b, .inr (1, [.ref al, .ref fo, .ref ol, .ref cl, .int z]))], v0, v3, v4, y1, y3, y4, u0_5, u1_5, u2_5] (15 + 13 * cA) (129 + 51 * cA + 4 * cB) from ?_)
    refine g_castRS (ci := 35) (q := 11) B rfl (rc_box B J (k := 5) rfl hy3) dX2_noted_8 rfl q1050 ?_
    refine g_astore (q := 13) (lv2 := [some (.ref b), some (.ref s), some (.int (fvl ss (o, q, l))), some (.int (nI o)), some (.int (oI q)), some (.ref e0)]) B dX2_noted_11 rfl (Nat.le_of_ble_eq_true rfl) (rv_r _) rfl ?_
    refine g_aload (q := 15) B dX2_noted_13 rfl rfl (rv_r _) ?_
    refine g_ifnull_r (q := 18) B dX2_noted_15 rfl ?_
    refine g_aload (q := 20) B dX2_noted_18 rfl rfl (rv_r _) ?_
    refine g_callV (q := 23) (is := [5]) (kc2 := 15 + 13 * cA) (ks2 := 129 + 51 * cA + 4 * cB) B [] (ct_J26_intValue g J (a := e0) (v := (nI j)) hy3 ) dX2_noted_20 rfl (rc_box B J (k := 5) rfl hy3) rfl q1051 q1052 q1053 q111 q1054 rfl rfl moJ26_intValue rfl rfl (by decide) (by decide) (Nat.le_of_ble_eq_true rfl) (by omega) (by omega) (fun _ _ hx => noX_x hx) (fun v20 L1 hp20 => ?_)
    obtain ⟨rfl, rfl⟩ := hp20
    refine (show Go g κ 23 [some (.ref b), some (.ref s), some (.int (fvl ss (o, q, l))), some (.int (nI o)), some (.int (oI q)), some (.ref e0)] [.int (nI j)] [[(b, .inr (1, [.ref al, .ref fo, .ref ol, .ref cl, .int z]))], v0, v3, v4, y1, y4, u0_5, u1_5, u2_5, y3] (15 + 13 * cA) (129 + 51 * cA + 4 * cB) from ?_)
    obtain ⟨wc_6, ewc_6⟩ : ∃ w : va_W, w = ([y1, u2_5, y3, y4] : List va_W).flatten := ⟨_, rfl⟩
    have hwc_6 : KvP g xs (dv ss) wc_6 := by
      rw [ewc_6]
      exact hycl _ _ hu2_5 hy3
    refine g_close (w := wc_6) [4, 7, 7, 4] rfl ewc_6 rfl ?_
    refine (show Go g κ 23 [some (.ref b), some (.ref s), some (.int (fvl ss (o, q, l))), some (.int (nI o)), some (.int (oI q)), some (.ref e0)] [.int (nI j)] [[(b, .inr (1, [.ref al, .ref fo, .ref ol, .ref cl, .int z]))], v0, v3, v4, u0_5, u1_5, wc_6] (15 + 13 * cA) (129 + 51 * cA + 4 * cB) from ?_)
    obtain ⟨wc_7, ewc_7⟩ : ∃ w : va_W, w = ([[(b, .inr (1, [.ref al, .ref fo, .ref ol, .ref cl, .int z]))], v0, u0_5, wc_6, v3, v4] : List va_W).flatten := ⟨_, rfl⟩
    have hwc_7 : BookP g b ss bx z wc_7 := by
      rw [ewc_7]
      exact ⟨al, fo, ol, cl, xs, _, _, _, _, _, hS, hbx, hv0, hu0_5, hwc_6, hv3, hv4, rfl⟩
    refine g_close (w := wc_7) [0, 0, 2, 3, 0, 0] rfl ewc_7 rfl ?_
    refine (show Go g κ 23 [some (.ref b), some (.ref s), some (.int (fvl ss (o, q, l))), some (.int (nI o)), some (.int (oI q)), some (.ref e0)] [.int (nI j)] [u1_5, wc_7] (15 + 13 * cA) (129 + 51 * cA + 4 * cB) from ?_)
    refine g_pk [1] rfl rfl ?_
    refine (show Go g κ 23 [some (.ref b), some (.ref s), some (.int (fvl ss (o, q, l))), some (.int (nI o)), some (.int (oI q)), some (.ref e0)] [.int (nI j)] [wc_7] (15 + 13 * cA) (129 + 51 * cA + 4 * cB) from ?_)
    exact g_iret B E dX2_noted_23 (⟨wc_7, rfl, rfl, hwc_7⟩)

theorem nwJ22 : ∀ j, j < 4 → defaultValue (tyJ22 j) = vp_V [.null, .int (nI 0), .int (nI 0), .int (nI 0)] j := by
  intro j hj
  match j, hj with
  | 0, _ => rfl
  | 1, _ => rfl
  | 2, _ => rfl
  | 3, _ => rfl
  | n + 4, hj => exact absurd hj (by omega)
theorem moJ22_init : Mo yJ22_init 0 := by
  refine ⟨by decide, by decide, by decide +kernel⟩
theorem moJ22_append_2 : Mo yJ22_append_2 1 := by
  refine ⟨by decide, by decide, by decide +kernel⟩
theorem moJ22_append : Mo yJ22_append 1 := by
  refine ⟨by decide, by decide, by decide +kernel⟩
theorem moJ22_toString : Mo yJ22_toString 0 := by
  refine ⟨by decide, by decide, by decide +kernel⟩
theorem moX2_value : Mo yX2_value 1 := by
  refine ⟨by decide, by decide, by decide +kernel⟩
theorem moX2_noted : Mo yX2_noted 4 := by
  refine ⟨by decide, by decide, by decide +kernel⟩
theorem ct_X2_from (g : Gv) (J : Jd g) {b : Nat} {ss : List Sec} {bx : List (Nat × Nat)} {z : Int32} {one : Nat} {l : Nat} {s2 : List Sec} {i : Nat} {cA : Nat} {cB : Nat} {w0 : va_W} (hw0 : BookP g b ss bx z w0) (ho : one < ss.length) (hl : ss.length < 999) (hlb : l < 10 ∨ (100 ≤ l ∧ l < 120)) (hfr : frm ss (one, none, l) = (s2, i)) (hA : Hc s2 ≤ Hc ss + cA) (hB : capF s2.length ≤ capF ss.length + cB) : Ct g yX2_from (ws_ yX2_from cX2_from 3 (some .int)) 12 (20 + 13 * cA) (170 + 51 * cA + 4 * cB) [.ref b, .int (nI one), .int (nI l)] [w0] (fun (rv_ : Option Value) (rL_ : List va_W) => ∃ (u0 : va_W), rv_ = some (.int (nI i)) ∧ rL_ = [u0] ∧ BookP g b s2 bx z u0) noX := by
  refine Ct.of "Keygrove$Book" [some (.ref b), some (.int (nI one)), some (.int (nI l))] rfl (by decide) rfl (Nat.le_of_ble_eq_true rfl) rfl ?_
  intro κ B E tb
  refine g_aload_n (q := 1) B dX2_from_0 rfl rfl (rv_r _) ?_
  refine g_new (q := 4) (kc2 := (20 + 13 * cA) - 1) (ks2 := (170 + 51 * cA + 4 * cB) - 4) (fs := [.null, .int (nI 0), .int (nI 0), .int (nI 0)]) B (ci := 37) in_J22 tyJ22_ok rfl dX2_from_1 rfl q1233 q386 q107 (nwJ22) (by omega) (by omega) (fun n1 => ?_)
  refine (show Go g κ 4 [some (.ref b), some (.int (nI one)), some (.int (nI l))] [.ref n1, .ref b] [w0, [(n1, .inr (37, [.null, .int (nI 0), .int (nI 0), .int (nI 0)]))]] ((20 + 13 * cA) - 1) ((170 + 51 * cA + 4 * cB) - 4) from ?_)
  refine g_dup (q := 5) B dX2_from_4 rfl rfl ?_
  refine g_callI (q := 8) (is := [1]) (kc2 := (20 + 13 * cA) - 2) (ks2 := (170 + 51 * cA + 4 * cB) - 20) B [] (ct_J22_init g J (b := n1)  ) dX2_from_5 rfl rfl q1234 q388 q107 q389 rfl rfl moJ22_init rfl rfl (by decide) (by decide) (Nat.le_of_ble_eq_true rfl) (by omega) (by omega) (fun _ _ hx => noX_x hx) (fun v5 L1 hp5 => ?_)
  obtain ⟨u0_5, rfl, rfl, hu0_5⟩ := hp5
  refine (show Go g κ 8 [some (.ref b), some (.int (nI one)), some (.int (nI l))] [.ref n1, .ref b] [w0, u0_5] ((20 + 13 * cA) - 2) ((170 + 51 * cA + 4 * cB) - 20) from ?_)
  refine g_iload_n (q := 9) B dX2_from_8 rfl rfl ?_
  refine g_callV (q := 12) (is := [1]) (kc2 := (20 + 13 * cA) - 2) (ks2 := (170 + 51 * cA + 4 * cB) - 20) B [.int (nI one)] (ct_J22_append_2 g J (b := n1) (c := []) (k := one) hu0_5 (by omega) (by simp [dec_len]; have h1_ := dln_le one; have h2_ := dln_le one; have h3_ := dln_le l; omega)) dX2_from_9 rfl (rc_in B (ci := 37) rfl (k := 1) rfl (SbP.hm hu0_5)) rfl q1235 q539 q540 q107 q541 rfl rfl moJ22_append_2 rfl rfl (by decide) (by decide) (Nat.le_of_ble_eq_true rfl) (by omega) (by omega) (fun _ _ hx => noX_x hx) (fun v9 L1 hp9 => ?_)
  obtain ⟨u0_9, rfl, rfl, hu0_9⟩ := hp9
  refine (show Go g κ 12 [some (.ref b), some (.int (nI one)), some (.int (nI l))] [.ref n1, .ref b] [w0, u0_9] ((20 + 13 * cA) - 2) ((170 + 51 * cA + 4 * cB) - 20) from ?_)
  refine g_ldcS (q := 14) B J.2.2.2.2.2.1.1 dX2_from_12 rfl ?_
  refine g_callV (q := 17) (is := [1]) (kc2 := (20 + 13 * cA) - 2) (ks2 := (170 + 51 * cA + 4 * cB) - 20) B [.ref (gA g 6)] (ct_J22_append g J (b := n1) (c := ([]) ++ dec one) hu0_9 (by simp [dec_len]; have h1_ := dln_le one; have h2_ := dln_le one; have h3_ := dln_le l; omega)) dX2_from_14 rfl (rc_in B (ci := 37) rfl (k := 1) rfl (SbP.hm hu0_9)) rfl q1237 q419 q420 q107 q421 rfl rfl moJ22_append rfl rfl (by decide) (by decide) (Nat.le_of_ble_eq_true rfl) (by omega) (by omega) (fun _ _ hx => noX_x hx) (fun v14 L1 hp14 => ?_)
  obtain ⟨u0_14, rfl, rfl, hu0_14⟩ := hp14
  refine (show Go g κ 17 [some (.ref b), some (.int (nI one)), some (.int (nI l))] [.ref n1, .ref b] [w0, u0_14] ((20 + 13 * cA) - 2) ((170 + 51 * cA + 4 * cB) - 20) from ?_)
  refine g_iload_n (q := 18) B dX2_from_17 rfl rfl ?_
  refine g_callV (q := 21) (is := [1]) (kc2 := (20 + 13 * cA) - 2) (ks2 := (170 + 51 * cA + 4 * cB) - 20) B [.int (nI l)] (ct_J22_append_2 g J (b := n1) (c := (([]) ++ dec one) ++ [44]) (k := l) hu0_14 (by omega) (by simp [dec_len]; have h1_ := dln_le one; have h2_ := dln_le one; have h3_ := dln_le l; omega)) dX2_from_18 rfl (rc_in B (ci := 37) rfl (k := 1) rfl (SbP.hm hu0_14)) rfl q1235 q539 q540 q107 q541 rfl rfl moJ22_append_2 rfl rfl (by decide) (by decide) (Nat.le_of_ble_eq_true rfl) (by omega) (by omega) (fun _ _ hx => noX_x hx) (fun v18 L1 hp18 => ?_)
  obtain ⟨u0_18, rfl, rfl, hu0_18⟩ := hp18
  refine (show Go g κ 21 [some (.ref b), some (.int (nI one)), some (.int (nI l))] [.ref n1, .ref b] [w0, u0_18] ((20 + 13 * cA) - 2) ((170 + 51 * cA + 4 * cB) - 20) from ?_)
  have hln : (((([]) ++ dec one) ++ [44]) ++ dec l : List Nat).length ≤ 9 := by simp [dec_len]; have h1_ := dln_le one; have h2_ := dln_le one; have h3_ := dln_le l; omega
  refine g_callV (q := 24) (is := [1]) (kc2 := (20 + 13 * cA) - 4) (ks2 := (170 + 51 * cA + 4 * cB) - 33) B [] (ct_J22_toString g J (b := n1) (c := ((([]) ++ dec one) ++ [44]) ++ dec l) hu0_18 (by omega)) dX2_from_21 rfl (rc_in B (ci := 37) rfl (k := 1) rfl (SbP.hm hu0_18)) rfl q1238 q564 q565 q107 q566 rfl rfl moJ22_toString rfl rfl (by decide) (by decide) (Nat.le_of_ble_eq_true rfl) (by omega) (by omega) (fun _ _ hx => noX_x hx) (fun v21 L1 hp21 => ?_)
  obtain ⟨s21, u0_21, rfl, rfl, hu0_21⟩ := hp21
  refine (show Go g κ 24 [some (.ref b), some (.int (nI one)), some (.int (nI l))] [.ref s21, .ref b] [w0, u0_21] ((20 + 13 * cA) - 4) ((170 + 51 * cA + 4 * cB) - 33) from ?_)
  refine g_aload_n (q := 25) B dX2_from_24 rfl rfl (rv_r _) ?_
  refine g_iload_n (q := 26) B dX2_from_25 rfl rfl ?_
  refine g_callV (q := 29) (is := [0]) (kc2 := (20 + 13 * cA) - 4) (ks2 := (170 + 51 * cA + 4 * cB) - 33) B [.int (nI one)] (ct_X2_value g J (b := b) (ss := ss) (bx := bx) (z := z) (i := one) hw0 (by first | assumption | omega | rfl)) dX2_from_26 rfl (rc_in B (ci := 1) rfl (k := 0) rfl (BookP.hm hw0)) rfl q1239 q1149 q1150 q78 q1151 rfl rfl moX2_value rfl rfl (by decide) (by decide) (Nat.le_of_ble_eq_true rfl) (by omega) (by omega) (fun _ _ hx => noX_x hx) (fun v26 L1 hp26 => ?_)
  obtain ⟨rfl, rfl⟩ := hp26
  refine (show Go g κ 29 [some (.ref b), some (.int (nI one)), some (.int (nI l))] [.int (vl ss one), .ref s21, .ref b] [u0_21, w0] ((20 + 13 * cA) - 4) ((170 + 51 * cA + 4 * cB) - 33) from ?_)
  refine g_iload_n (q := 30) B dX2_from_29 rfl rfl ?_
  refine g_callSN (q := 33) (is := []) (kc2 := (20 + 13 * cA) - 4) (ks2 := (170 + 51 * cA + 4 * cB) - 33) B [.int (vl ss one), .int (nI l)] (ct_X1_mix g J (a := vl ss one) (b := nI l)  ) dX2_from_30 rfl q1240 q1241 q77 q1242 rfl rfl moX1_mix rfl rfl (by decide) (by decide) (Nat.le_of_ble_eq_true rfl) (by omega) (by omega) (fun _ _ hx => noX_x hx) (fun v30 L1 hp30 => ?_)
  obtain ⟨rfl, rfl⟩ := hp30
  refine (show Go g κ 33 [some (.ref b), some (.int (nI one)), some (.int (nI l))] [.int (mixI (vl ss one) (nI l)), .ref s21, .ref b] [u0_21, w0] ((20 + 13 * cA) - 4) ((170 + 51 * cA + 4 * cB) - 33) from ?_)
  refine g_iload_n (q := 34) B dX2_from_33 rfl rfl ?_
  refine g_iconst (v := -1) (q := 35) B dX2_from_34 rfl (by decide) ?_
  have htx : (((([]) ++ dec one) ++ [44]) ++ dec l) = kTx (one, none, l) := by simp [kTx]
  refine g_callV (q := 38) (is := [1, 0]) (kc2 := ((20 + 13 * cA) - 4) - (15 + 13 * cA)) (ks2 := ((170 + 51 * cA + 4 * cB) - 33) - (129 + 51 * cA + 4 * cB)) B [.ref s21, .int (mixI (vl ss one) (nI l)), .int (nI one), .int (-1)] (ct_X2_noted g J (b := b) (ss := ss) (bx := bx) (z := z) (o := one) (q := none) (l := l) (s := s21) (s2 := s2) (i := i) (cA := cA) (cB := cB) hw0 (htx ▸ hu0_21) (⟨by omega, hlb⟩) (ho) (fun n h => by cases h) (by first | assumption | omega | rfl) (hfr) (hA) (hB)) dX2_from_35 rfl (rc_in B (ci := 1) rfl (k := 1) rfl (BookP.hm hw0)) rfl q1246 q1248 qs12 q78 q1249 rfl rfl moX2_noted rfl rfl (by decide) (by decide) (Nat.le_of_ble_eq_true rfl) (by omega) (by omega) (fun _ _ hx => noX_x hx) (fun v35 L1 hp35 => ?_)
  obtain ⟨u0_35, rfl, rfl, hu0_35⟩ := hp35
  refine (show Go g κ 38 [some (.ref b), some (.int (nI one)), some (.int (nI l))] [.int (nI i)] [u0_35] (((20 + 13 * cA) - 4) - (15 + 13 * cA)) (((170 + 51 * cA + 4 * cB) - 33) - (129 + 51 * cA + 4 * cB)) from ?_)
  exact g_iret B E dX2_from_38 (⟨u0_35, rfl, rfl, hu0_35⟩)
theorem ct_X2_from_2 (g : Gv) (J : Jd g) {b : Nat} {ss : List Sec} {bx : List (Nat × Nat)} {z : Int32} {one : Nat} {other : Nat} {s2 : List Sec} {i : Nat} {cA : Nat} {cB : Nat} {w0 : va_W} (hw0 : BookP g b ss bx z w0) (ho : one < ss.length) (hq : other < ss.length) (hl : ss.length < 999) (hfr : frm ss (one, some other, 3) = (s2, i)) (hA : Hc s2 ≤ Hc ss + cA) (hB : capF s2.length ≤ capF ss.length + cB) : Ct g yX2_from_2 (ws_ yX2_from_2 cX2_from_2 4 (some .int)) 12 (20 + 13 * cA) (170 + 51 * cA + 4 * cB) [.ref b, .int (nI one), .int (nI other), .int (nI 3)] [w0] (fun (rv_ : Option Value) (rL_ : List va_W) => ∃ (u0 : va_W), rv_ = some (.int (nI i)) ∧ rL_ = [u0] ∧ BookP g b s2 bx z u0) noX := by
  refine Ct.of "Keygrove$Book" [some (.ref b), some (.int (nI one)), some (.int (nI other)), some (.int (nI 3))] rfl (by decide) rfl (Nat.le_of_ble_eq_true rfl) rfl ?_
  intro κ B E tb
  have hdl3 : dln 3 = 1 := rfl
  refine g_aload_n (q := 1) B dX2_from_2_0 rfl rfl (rv_r _) ?_
  refine g_new (q := 4) (kc2 := (20 + 13 * cA) - 1) (ks2 := (170 + 51 * cA + 4 * cB) - 4) (fs := [.null, .int (nI 0), .int (nI 0), .int (nI 0)]) B (ci := 37) in_J22 tyJ22_ok rfl dX2_from_2_1 rfl q1233 q386 q107 (nwJ22) (by omega) (by omega) (fun n1 => ?_)
  refine (show Go g κ 4 [some (.ref b), some (.int (nI one)), some (.int (nI other)), some (.int (nI 3))] [.ref n1, .ref b] [w0, [(n1, .inr (37, [.null, .int (nI 0), .int (nI 0), .int (nI 0)]))]] ((20 + 13 * cA) - 1) ((170 + 51 * cA + 4 * cB) - 4) from ?_)
  refine g_dup (q := 5) B dX2_from_2_4 rfl rfl ?_
  refine g_callI (q := 8) (is := [1]) (kc2 := (20 + 13 * cA) - 2) (ks2 := (170 + 51 * cA + 4 * cB) - 20) B [] (ct_J22_init g J (b := n1)  ) dX2_from_2_5 rfl rfl q1234 q388 q107 q389 rfl rfl moJ22_init rfl rfl (by decide) (by decide) (Nat.le_of_ble_eq_true rfl) (by omega) (by omega) (fun _ _ hx => noX_x hx) (fun v5 L1 hp5 => ?_)
  obtain ⟨u0_5, rfl, rfl, hu0_5⟩ := hp5
  refine (show Go g κ 8 [some (.ref b), some (.int (nI one)), some (.int (nI other)), some (.int (nI 3))] [.ref n1, .ref b] [w0, u0_5] ((20 + 13 * cA) - 2) ((170 + 51 * cA + 4 * cB) - 20) from ?_)
  refine g_iload_n (q := 9) B dX2_from_2_8 rfl rfl ?_
  refine g_callV (q := 12) (is := [1]) (kc2 := (20 + 13 * cA) - 2) (ks2 := (170 + 51 * cA + 4 * cB) - 20) B [.int (nI one)] (ct_J22_append_2 g J (b := n1) (c := []) (k := one) hu0_5 (by omega) (by simp [dec_len]; have h1_ := dln_le one; have h2_ := dln_le other; omega)) dX2_from_2_9 rfl (rc_in B (ci := 37) rfl (k := 1) rfl (SbP.hm hu0_5)) rfl q1235 q539 q540 q107 q541 rfl rfl moJ22_append_2 rfl rfl (by decide) (by decide) (Nat.le_of_ble_eq_true rfl) (by omega) (by omega) (fun _ _ hx => noX_x hx) (fun v9 L1 hp9 => ?_)
  obtain ⟨u0_9, rfl, rfl, hu0_9⟩ := hp9
  refine (show Go g κ 12 [some (.ref b), some (.int (nI one)), some (.int (nI other)), some (.int (nI 3))] [.ref n1, .ref b] [w0, u0_9] ((20 + 13 * cA) - 2) ((170 + 51 * cA + 4 * cB) - 20) from ?_)
  refine g_ldcS (q := 14) B J.2.2.2.2.2.1.1 dX2_from_2_12 rfl ?_
  refine g_callV (q := 17) (is := [1]) (kc2 := (20 + 13 * cA) - 2) (ks2 := (170 + 51 * cA + 4 * cB) - 20) B [.ref (gA g 6)] (ct_J22_append g J (b := n1) (c := ([]) ++ dec one) hu0_9 (by simp [dec_len]; have h1_ := dln_le one; have h2_ := dln_le other; omega)) dX2_from_2_14 rfl (rc_in B (ci := 37) rfl (k := 1) rfl (SbP.hm hu0_9)) rfl q1237 q419 q420 q107 q421 rfl rfl moJ22_append rfl rfl (by decide) (by decide) (Nat.le_of_ble_eq_true rfl) (by omega) (by omega) (fun _ _ hx => noX_x hx) (fun v14 L1 hp14 => ?_)
  obtain ⟨u0_14, rfl, rfl, hu0_14⟩ := hp14
  refine (show Go g κ 17 [some (.ref b), some (.int (nI one)), some (.int (nI other)), some (.int (nI 3))] [.ref n1, .ref b] [w0, u0_14] ((20 + 13 * cA) - 2) ((170 + 51 * cA + 4 * cB) - 20) from ?_)
  refine g_iload_n (q := 18) B dX2_from_2_17 rfl rfl ?_
  refine g_callV (q := 21) (is := [1]) (kc2 := (20 + 13 * cA) - 2) (ks2 := (170 + 51 * cA + 4 * cB) - 20) B [.int (nI other)] (ct_J22_append_2 g J (b := n1) (c := (([]) ++ dec one) ++ [44]) (k := other) hu0_14 (by omega) (by simp [dec_len]; have h1_ := dln_le one; have h2_ := dln_le other; omega)) dX2_from_2_18 rfl (rc_in B (ci := 37) rfl (k := 1) rfl (SbP.hm hu0_14)) rfl q1235 q539 q540 q107 q541 rfl rfl moJ22_append_2 rfl rfl (by decide) (by decide) (Nat.le_of_ble_eq_true rfl) (by omega) (by omega) (fun _ _ hx => noX_x hx) (fun v18 L1 hp18 => ?_)
  obtain ⟨u0_18, rfl, rfl, hu0_18⟩ := hp18
  refine (show Go g κ 21 [some (.ref b), some (.int (nI one)), some (.int (nI other)), some (.int (nI 3))] [.ref n1, .ref b] [w0, u0_18] ((20 + 13 * cA) - 2) ((170 + 51 * cA + 4 * cB) - 20) from ?_)
  refine g_ldcS (q := 23) B J.2.2.2.2.2.1.1 dX2_from_2_21 rfl ?_
  refine g_callV (q := 26) (is := [1]) (kc2 := (20 + 13 * cA) - 2) (ks2 := (170 + 51 * cA + 4 * cB) - 20) B [.ref (gA g 6)] (ct_J22_append g J (b := n1) (c := ((([]) ++ dec one) ++ [44]) ++ dec other) hu0_18 (by simp [dec_len]; have h1_ := dln_le one; have h2_ := dln_le other; omega)) dX2_from_2_23 rfl (rc_in B (ci := 37) rfl (k := 1) rfl (SbP.hm hu0_18)) rfl q1237 q419 q420 q107 q421 rfl rfl moJ22_append rfl rfl (by decide) (by decide) (Nat.le_of_ble_eq_true rfl) (by omega) (by omega) (fun _ _ hx => noX_x hx) (fun v23 L1 hp23 => ?_)
  obtain ⟨u0_23, rfl, rfl, hu0_23⟩ := hp23
  refine (show Go g κ 26 [some (.ref b), some (.int (nI one)), some (.int (nI other)), some (.int (nI 3))] [.ref n1, .ref b] [w0, u0_23] ((20 + 13 * cA) - 2) ((170 + 51 * cA + 4 * cB) - 20) from ?_)
  refine g_iload_n (q := 27) B dX2_from_2_26 rfl rfl ?_
  refine g_callV (q := 30) (is := [1]) (kc2 := (20 + 13 * cA) - 2) (ks2 := (170 + 51 * cA + 4 * cB) - 20) B [.int (nI 3)] (ct_J22_append_2 g J (b := n1) (c := (((([]) ++ dec one) ++ [44]) ++ dec other) ++ [44]) (k := 3) hu0_23 (by omega) (by simp [dec_len]; have h1_ := dln_le one; have h2_ := dln_le other; omega)) dX2_from_2_27 rfl (rc_in B (ci := 37) rfl (k := 1) rfl (SbP.hm hu0_23)) rfl q1235 q539 q540 q107 q541 rfl rfl moJ22_append_2 rfl rfl (by decide) (by decide) (Nat.le_of_ble_eq_true rfl) (by omega) (by omega) (fun _ _ hx => noX_x hx) (fun v27 L1 hp27 => ?_)
  obtain ⟨u0_27, rfl, rfl, hu0_27⟩ := hp27
  refine (show Go g κ 30 [some (.ref b), some (.int (nI one)), some (.int (nI other)), some (.int (nI 3))] [.ref n1, .ref b] [w0, u0_27] ((20 + 13 * cA) - 2) ((170 + 51 * cA + 4 * cB) - 20) from ?_)
  have hln : (((((([]) ++ dec one) ++ [44]) ++ dec other) ++ [44]) ++ dec 3 : List Nat).length ≤ 9 := by simp [dec_len]; have h1_ := dln_le one; have h2_ := dln_le other; omega
  refine g_callV (q := 33) (is := [1]) (kc2 := (20 + 13 * cA) - 4) (ks2 := (170 + 51 * cA + 4 * cB) - 33) B [] (ct_J22_toString g J (b := n1) (c := ((((([]) ++ dec one) ++ [44]) ++ dec other) ++ [44]) ++ dec 3) hu0_27 (by omega)) dX2_from_2_30 rfl (rc_in B (ci := 37) rfl (k := 1) rfl (SbP.hm hu0_27)) rfl q1238 q564 q565 q107 q566 rfl rfl moJ22_toString rfl rfl (by decide) (by decide) (Nat.le_of_ble_eq_true rfl) (by omega) (by omega) (fun _ _ hx => noX_x hx) (fun v30 L1 hp30 => ?_)
  obtain ⟨s30, u0_30, rfl, rfl, hu0_30⟩ := hp30
  refine (show Go g κ 33 [some (.ref b), some (.int (nI one)), some (.int (nI other)), some (.int (nI 3))] [.ref s30, .ref b] [w0, u0_30] ((20 + 13 * cA) - 4) ((170 + 51 * cA + 4 * cB) - 33) from ?_)
  refine g_aload_n (q := 34) B dX2_from_2_33 rfl rfl (rv_r _) ?_
  refine g_iload_n (q := 35) B dX2_from_2_34 rfl rfl ?_
  refine g_callV (q := 38) (is := [0]) (kc2 := (20 + 13 * cA) - 4) (ks2 := (170 + 51 * cA + 4 * cB) - 33) B [.int (nI one)] (ct_X2_value g J (b := b) (ss := ss) (bx := bx) (z := z) (i := one) hw0 (by first | assumption | omega | rfl)) dX2_from_2_35 rfl (rc_in B (ci := 1) rfl (k := 0) rfl (BookP.hm hw0)) rfl q1239 q1149 q1150 q78 q1151 rfl rfl moX2_value rfl rfl (by decide) (by decide) (Nat.le_of_ble_eq_true rfl) (by omega) (by omega) (fun _ _ hx => noX_x hx) (fun v35 L1 hp35 => ?_)
  obtain ⟨rfl, rfl⟩ := hp35
  refine (show Go g κ 38 [some (.ref b), some (.int (nI one)), some (.int (nI other)), some (.int (nI 3))] [.int (vl ss one), .ref s30, .ref b] [u0_30, w0] ((20 + 13 * cA) - 4) ((170 + 51 * cA + 4 * cB) - 33) from ?_)
  refine g_aload_n (q := 39) B dX2_from_2_38 rfl rfl (rv_r _) ?_
  refine g_iload_n (q := 40) B dX2_from_2_39 rfl rfl ?_
  refine g_callV (q := 43) (is := [1]) (kc2 := (20 + 13 * cA) - 4) (ks2 := (170 + 51 * cA + 4 * cB) - 33) B [.int (nI other)] (ct_X2_value g J (b := b) (ss := ss) (bx := bx) (z := z) (i := other) hw0 (by first | assumption | omega | rfl)) dX2_from_2_40 rfl (rc_in B (ci := 1) rfl (k := 1) rfl (BookP.hm hw0)) rfl q1239 q1149 q1150 q78 q1151 rfl rfl moX2_value rfl rfl (by decide) (by decide) (Nat.le_of_ble_eq_true rfl) (by omega) (by omega) (fun _ _ hx => noX_x hx) (fun v40 L1 hp40 => ?_)
  obtain ⟨rfl, rfl⟩ := hp40
  refine (show Go g κ 43 [some (.ref b), some (.int (nI one)), some (.int (nI other)), some (.int (nI 3))] [.int (vl ss other), .int (vl ss one), .ref s30, .ref b] [u0_30, w0] ((20 + 13 * cA) - 4) ((170 + 51 * cA + 4 * cB) - 33) from ?_)
  refine g_callSN (q := 46) (is := []) (kc2 := (20 + 13 * cA) - 4) (ks2 := (170 + 51 * cA + 4 * cB) - 33) B [.int (vl ss one), .int (vl ss other)] (ct_X1_mix g J (a := vl ss one) (b := vl ss other)  ) dX2_from_2_43 rfl q1240 q1241 q77 q1242 rfl rfl moX1_mix rfl rfl (by decide) (by decide) (Nat.le_of_ble_eq_true rfl) (by omega) (by omega) (fun _ _ hx => noX_x hx) (fun v43 L1 hp43 => ?_)
  obtain ⟨rfl, rfl⟩ := hp43
  refine (show Go g κ 46 [some (.ref b), some (.int (nI one)), some (.int (nI other)), some (.int (nI 3))] [.int (mixI (vl ss one) (vl ss other)), .ref s30, .ref b] [u0_30, w0] ((20 + 13 * cA) - 4) ((170 + 51 * cA + 4 * cB) - 33) from ?_)
  refine g_iload_n (q := 47) B dX2_from_2_46 rfl rfl ?_
  refine g_callSN (q := 50) (is := []) (kc2 := (20 + 13 * cA) - 4) (ks2 := (170 + 51 * cA + 4 * cB) - 33) B [.int (mixI (vl ss one) (vl ss other)), .int (nI 3)] (ct_X1_mix g J (a := mixI (vl ss one) (vl ss other)) (b := nI 3)  ) dX2_from_2_47 rfl q1240 q1241 q77 q1242 rfl rfl moX1_mix rfl rfl (by decide) (by decide) (Nat.le_of_ble_eq_true rfl) (by omega) (by omega) (fun _ _ hx => noX_x hx) (fun v47 L1 hp47 => ?_)
  obtain ⟨rfl, rfl⟩ := hp47
  refine (show Go g κ 50 [some (.ref b), some (.int (nI one)), some (.int (nI other)), some (.int (nI 3))] [.int (mixI (mixI (vl ss one) (vl ss other)) (nI 3)), .ref s30, .ref b] [u0_30, w0] ((20 + 13 * cA) - 4) ((170 + 51 * cA + 4 * cB) - 33) from ?_)
  refine g_iload_n (q := 51) B dX2_from_2_50 rfl rfl ?_
  refine g_iload_n (q := 52) B dX2_from_2_51 rfl rfl ?_
  have htx : (((((([]) ++ dec one) ++ [44]) ++ dec other) ++ [44]) ++ dec 3) = kTx (one, some other, 3) := by simp [kTx]
  refine g_callV (q := 55) (is := [1, 0]) (kc2 := ((20 + 13 * cA) - 4) - (15 + 13 * cA)) (ks2 := ((170 + 51 * cA + 4 * cB) - 33) - (129 + 51 * cA + 4 * cB)) B [.ref s30, .int (mixI (mixI (vl ss one) (vl ss other)) (nI 3)), .int (nI one), .int (nI other)] (ct_X2_noted g J (b := b) (ss := ss) (bx := bx) (z := z) (o := one) (q := some other) (l := 3) (s := s30) (s2 := s2) (i := i) (cA := cA) (cB := cB) hw0 (htx ▸ hu0_30) (⟨by omega, by omega, rfl⟩) (ho) (fun n h => by cases h; exact hq) (by first | assumption | omega | rfl) (hfr) (hA) (hB)) dX2_from_2_52 rfl (rc_in B (ci := 1) rfl (k := 1) rfl (BookP.hm hw0)) rfl q1246 q1248 qs12 q78 q1249 rfl rfl moX2_noted rfl rfl (by decide) (by decide) (Nat.le_of_ble_eq_true rfl) (by omega) (by omega) (fun _ _ hx => noX_x hx) (fun v52 L1 hp52 => ?_)
  obtain ⟨u0_52, rfl, rfl, hu0_52⟩ := hp52
  refine (show Go g κ 55 [some (.ref b), some (.int (nI one)), some (.int (nI other)), some (.int (nI 3))] [.int (nI i)] [u0_52] (((20 + 13 * cA) - 4) - (15 + 13 * cA)) (((170 + 51 * cA + 4 * cB) - 33) - (129 + 51 * cA + 4 * cB)) from ?_)
  exact g_iret B E dX2_from_2_55 (⟨u0_52, rfl, rfl, hu0_52⟩)
theorem fnd_lt {ss : List Sec} {k : Ky} {i : Nat} (h : fnd ss k = some i) : i < ss.length := dv_lt (fnd_s h)
theorem map_at {α β : Type} {f : α → β} {l : List α} {i : Nat} {x : β} (h : (l.map f)[i]? = some x) : ∃ p, l[i]? = some p ∧ f p = x := by
  rw [List.getElem?_map] at h
  cases e : l[i]? with
  | none => rw [e] at h; cases h
  | some p => rw [e] at h; cases h; exact ⟨p, rfl, rfl⟩
theorem ct_X2_opened (g : Gv) (J : Jd g) {b : Nat} {ss : List Sec} {bx : List (Nat × Nat)} {z : Int32} {f : Nat} {tt : Nat} {h : Nat} {w0 : va_W} (hw0 : BookP g b ss bx z w0) (hft : f ≤ tt) (htb : tt ≤ bx.length) (hbl : bx.length < 2000) (hh : h < 999) (hl : ss.length ≤ 1000) : Ct g yX2_opened (ws_ yX2_opened cX2_opened 7 (some .int)) 12 4 40 [.ref b, .int (nI f), .int (nI tt), .int (nI h)] [w0] (fun (rv_ : Option Value) (rL_ : List va_W) => ∃ (r : Option Nat) (u0 : va_W), rv_ = some (.int (oI r)) ∧ rL_ = [u0] ∧ BookP g b ss bx z u0 ∧ (r = none → ∀ o, fnd ss (h, none, 1) = some o → ∀ j p, f ≤ j → j < tt → bx[j]? = some p → p.1 ≠ o) ∧ (∀ c, r = some c → ∃ o j, fnd ss (h, none, 1) = some o ∧ f ≤ j ∧ j < tt ∧ bx[j]? = some (o, c))) noX := by
  refine Ct.of "Keygrove$Book" [some (.ref b), some (.int (nI f)), some (.int (nI tt)), some (.int (nI h)), none, none, none] rfl (by decide) rfl (Nat.le_of_ble_eq_true rfl) rfl ?_
  intro κ B E tb
  have hk : kOk (h, none, 1) := ⟨by omega, Or.inl (by decide)⟩
  refine g_new (q := 3) (kc2 := 3) (ks2 := 36) (fs := [.null, .int (nI 0), .int (nI 0), .int (nI 0)]) B (ci := 37) in_J22 tyJ22_ok rfl dX2_opened_0 rfl q1233 q386 q107 (nwJ22) (Nat.le_of_ble_eq_true rfl) (Nat.le_of_ble_eq_true rfl) (fun n0 => ?_)
  refine (show Go g κ 3 [some (.ref b), some (.int (nI f)), some (.int (nI tt)), some (.int (nI h)), none, none, none] [.ref n0] [w0, [(n0, .inr (37, [.null, .int (nI 0), .int (nI 0), .int (nI 0)]))]] 3 36 from ?_)
  refine g_dup (q := 4) B dX2_opened_3 rfl rfl ?_
  refine g_callI (q := 7) (is := [1]) (kc2 := 2) (ks2 := 20) B [] (ct_J22_init g J (b := n0)  ) dX2_opened_4 rfl rfl q1234 q388 q107 q389 rfl rfl moJ22_init rfl rfl (by decide) (by decide) (Nat.le_of_ble_eq_true rfl) (Nat.le_of_ble_eq_true rfl) (Nat.le_of_ble_eq_true rfl) (fun _ _ hx => noX_x hx) (fun v4 L1 hp4 => ?_)
  obtain ⟨u0_4, rfl, rfl, hu0_4⟩ := hp4
  refine (show Go g κ 7 [some (.ref b), some (.int (nI f)), some (.int (nI tt)), some (.int (nI h)), none, none, none] [.ref n0] [w0, u0_4] 2 20 from ?_)
  refine g_iload_n (q := 8) B dX2_opened_7 rfl rfl ?_
  refine g_callV (q := 11) (is := [1]) (kc2 := 2) (ks2 := 20) B [.int (nI h)] (ct_J22_append_2 g J (b := n0) (c := []) (k := h) hu0_4 (by omega) (by simp [dec_len]; have h1_ := dln_le h; have h2_ : dln 1 = 1 := rfl; omega)) dX2_opened_8 rfl (rc_in B (ci := 37) rfl (k := 1) rfl (SbP.hm hu0_4)) rfl q1235 q539 q540 q107 q541 rfl rfl moJ22_append_2 rfl rfl (by decide) (by decide) (Nat.le_of_ble_eq_true rfl) (Nat.le_of_ble_eq_true rfl) (Nat.le_of_ble_eq_true rfl) (fun _ _ hx => noX_x hx) (fun v8 L1 hp8 => ?_)
  obtain ⟨u0_8, rfl, rfl, hu0_8⟩ := hp8
  refine (show Go g κ 11 [some (.ref b), some (.int (nI f)), some (.int (nI tt)), some (.int (nI h)), none, none, none] [.ref n0] [w0, u0_8] 2 20 from ?_)
  refine g_ldcS (q := 13) B J.2.2.2.2.2.1.1 dX2_opened_11 rfl ?_
  refine g_callV (q := 16) (is := [1]) (kc2 := 2) (ks2 := 20) B [.ref (gA g 6)] (ct_J22_append g J (b := n0) (c := ([]) ++ dec h) hu0_8 (by simp [dec_len]; have h1_ := dln_le h; have h2_ : dln 1 = 1 := rfl; omega)) dX2_opened_13 rfl (rc_in B (ci := 37) rfl (k := 1) rfl (SbP.hm hu0_8)) rfl q1237 q419 q420 q107 q421 rfl rfl moJ22_append rfl rfl (by decide) (by decide) (Nat.le_of_ble_eq_true rfl) (Nat.le_of_ble_eq_true rfl) (Nat.le_of_ble_eq_true rfl) (fun _ _ hx => noX_x hx) (fun v13 L1 hp13 => ?_)
  obtain ⟨u0_13, rfl, rfl, hu0_13⟩ := hp13
  refine (show Go g κ 16 [some (.ref b), some (.int (nI f)), some (.int (nI tt)), some (.int (nI h)), none, none, none] [.ref n0] [w0, u0_13] 2 20 from ?_)
  refine g_iconst (v := nI 1) (q := 17) B dX2_opened_16 rfl (by decide) ?_
  refine g_callV (q := 20) (is := [1]) (kc2 := 2) (ks2 := 20) B [.int (nI 1)] (ct_J22_append_2 g J (b := n0) (c := (([]) ++ dec h) ++ [44]) (k := 1) hu0_13 (by decide) (by simp [dec_len]; have h1_ := dln_le h; have h2_ : dln 1 = 1 := rfl; omega)) dX2_opened_17 rfl (rc_in B (ci := 37) rfl (k := 1) rfl (SbP.hm hu0_13)) rfl q1235 q539 q540 q107 q541 rfl rfl moJ22_append_2 rfl rfl (by decide) (by decide) (Nat.le_of_ble_eq_true rfl) (Nat.le_of_ble_eq_true rfl) (Nat.le_of_ble_eq_true rfl) (fun _ _ hx => noX_x hx) (fun v17 L1 hp17 => ?_)
  obtain ⟨u0_17, rfl, rfl, hu0_17⟩ := hp17
  refine (show Go g κ 20 [some (.ref b), some (.int (nI f)), some (.int (nI tt)), some (.int (nI h)), none, none, none] [.ref n0] [w0, u0_17] 2 20 from ?_)
  have hln : (((([]) ++ dec h) ++ [44]) ++ dec 1 : List Nat).length ≤ 9 := by simp [dec_len]; have h1_ := dln_le h; have h2_ : dln 1 = 1 := rfl; omega
  refine g_callV (q := 23) (is := [1]) (kc2 := 0) (ks2 := 7) B [] (ct_J22_toString g J (b := n0) (c := ((([]) ++ dec h) ++ [44]) ++ dec 1) hu0_17 (by omega)) dX2_opened_20 rfl (rc_in B (ci := 37) rfl (k := 1) rfl (SbP.hm hu0_17)) rfl q1238 q564 q565 q107 q566 rfl rfl moJ22_toString rfl rfl (by decide) (by decide) (Nat.le_of_ble_eq_true rfl) (Nat.le_of_ble_eq_true rfl) (by omega) (fun _ _ hx => noX_x hx) (fun v20 L1 hp20 => ?_)
  obtain ⟨s20, u0_20, rfl, rfl, hu0_20⟩ := hp20
  refine (show Go g κ 23 [some (.ref b), some (.int (nI f)), some (.int (nI tt)), some (.int (nI h)), none, none, none] [.ref s20] [w0, u0_20] 0 7 from ?_)
  have htx : (((([]) ++ dec h) ++ [44]) ++ dec 1) = kTx (h, none, 1) := by simp [kTx]
  refine g_astore (q := 25) (lv2 := [some (.ref b), some (.int (nI f)), some (.int (nI tt)), some (.int (nI h)), some (.ref s20), none, none]) B dX2_opened_23 rfl (Nat.le_of_ble_eq_true rfl) (rv_r _) rfl ?_
  rcases hf : fnd ss (h, none, 1) with _ | j
  · skip
    obtain ⟨al, fo, ol, cl, xs, v0, v1, v2, v3, v4, hS, hbx, hv0, hv1, hv2, hv3, hv4, rfl⟩ := hw0
    refine g_open 0 rfl rfl rfl ?_
    refine (show Go g κ 25 [some (.ref b), some (.int (nI f)), some (.int (nI tt)), some (.int (nI h)), some (.ref s20), none, none] [] [u0_20, [(b, .inr (1, [.ref al, .ref fo, .ref ol, .ref cl, .int z]))], v0, v1, v2, v3, v4] 0 7 from ?_)
    have hno := KvP.no hv2 hS hk hf
    refine g_aload_n (q := 26) B dX2_opened_25 rfl rfl (rv_r _) ?_
    refine g_get (q := 29) B (ci := 1) (k := 1) (j := 1) in_X2 rfl dX2_opened_26 rfl rfl (Nat.le_of_ble_eq_true rfl) q233 rfl rfl ?_
    refine g_aload (q := 31) B dX2_opened_29 rfl rfl (rv_r _) ?_
    refine g_callV (q := 34) (is := [3, 0]) (kc2 := 0) (ks2 := 7) B [.ref s20] (ct_J4_get_n g J (h := fo) (xs := xs) (cap := (Hc ss)) (s := s20) (c := (kTx (h, none, 1))) (hh := hsh (h, none, 1)) hv1 (htx ▸ hu0_20) (kOk_len hk) (rfl) (hno)) dX2_opened_31 rfl (rc_in B (ci := 23) rfl (k := 3) rfl (HmT.hm hv1)) rfl q1250 q1251 q1252 q83 q1253 rfl rfl moJ4_get rfl rfl (by decide) (by decide) (Nat.le_of_ble_eq_true rfl) (Nat.le_of_ble_eq_true rfl) (Nat.le_of_ble_eq_true rfl) (fun _ _ hx => noX_x hx) (fun v31 L1 hp31 => ?_)
    obtain ⟨u0_31, u1_31, rfl, rfl, hu0_31, hu1_31⟩ := hp31
    refine (show Go g κ 34 [some (.ref b), some (.int (nI f)), some (.int (nI tt)), some (.int (nI h)), some (.ref s20), none, none] [.null] [[(b, .inr (1, [.ref al, .ref fo, .ref ol, .ref cl, .int z]))], v0, v2, v3, v4, u0_31, u1_31] 0 7 from ?_)
    refine g_castN (q := 37) B dX2_opened_34 rfl ?_
    refine g_astore (q := 39) (lv2 := [some (.ref b), some (.int (nI f)), some (.int (nI tt)), some (.int (nI h)), some (.ref s20), some (.null), none]) B dX2_opened_37 rfl (Nat.le_of_ble_eq_true rfl) rv_n rfl ?_
    refine g_iload_n (q := 40) B dX2_opened_39 rfl rfl ?_
    refine g_istore (q := 42) (lv2 := [some (.ref b), some (.int (nI f)), some (.int (nI tt)), some (.int (nI h)), some (.ref s20), some (.null), some (.int (nI f))]) B dX2_opened_40 rfl (Nat.le_of_ble_eq_true rfl) rfl ?_
    refine g_iload (q := 44) B dX2_opened_42 rfl rfl ?_
    refine g_iload_n (q := 45) B dX2_opened_44 rfl rfl ?_
    refine g_icmp_ge (tgt := 102) (q := 48) B dX2_opened_45 rfl (by decide) (nI_leI (by omega) (by omega)) (fun c45 => ?_) (fun c45 => ?_)
    · skip
      refine g_iconst (v := -1) (q := 103) B dX2_opened_102 rfl (by decide) ?_
      obtain ⟨wc_1, ewc_1⟩ : ∃ w : va_W, w = ([[(b, .inr (1, [.ref al, .ref fo, .ref ol, .ref cl, .int z]))], v0, u0_31, v2, v3, v4] : List va_W).flatten := ⟨_, rfl⟩
      have hwc_1 : BookP g b ss bx z wc_1 := by
        rw [ewc_1]
        exact ⟨al, fo, ol, cl, xs, _, _, _, _, _, hS, hbx, hv0, hu0_31, hv2, hv3, hv4, rfl⟩
      refine g_close (w := wc_1) [0, 0, 3, 0, 0, 0] rfl ewc_1 rfl ?_
      refine (show Go g κ 103 [some (.ref b), some (.int (nI f)), some (.int (nI tt)), some (.int (nI h)), some (.ref s20), some (.null), some (.int (nI f))] [.int (-1)] [u1_31, wc_1] 0 7 from ?_)
      refine g_pk [1] rfl rfl ?_
      refine (show Go g κ 103 [some (.ref b), some (.int (nI f)), some (.int (nI tt)), some (.int (nI h)), some (.ref s20), some (.null), some (.int (nI f))] [.int (-1)] [wc_1] 0 7 from ?_)
      exact g_iret B E dX2_opened_103 (⟨none, _, rfl, rfl, hwc_1, (fun _ o ho => by rw [hf] at ho; cases ho), fun c hc => by cases hc⟩)
    · skip
      refine g_aload (q := 50) B dX2_opened_48 rfl rfl rv_n ?_
      refine g_ifnull_n (tgt := 102) B dX2_opened_50 (by decide) ?_
      refine g_iconst (v := -1) (q := 103) B dX2_opened_102 rfl (by decide) ?_
      obtain ⟨wc_2, ewc_2⟩ : ∃ w : va_W, w = ([[(b, .inr (1, [.ref al, .ref fo, .ref ol, .ref cl, .int z]))], v0, u0_31, v2, v3, v4] : List va_W).flatten := ⟨_, rfl⟩
      have hwc_2 : BookP g b ss bx z wc_2 := by
        rw [ewc_2]
        exact ⟨al, fo, ol, cl, xs, _, _, _, _, _, hS, hbx, hv0, hu0_31, hv2, hv3, hv4, rfl⟩
      refine g_close (w := wc_2) [0, 0, 3, 0, 0, 0] rfl ewc_2 rfl ?_
      refine (show Go g κ 103 [some (.ref b), some (.int (nI f)), some (.int (nI tt)), some (.int (nI h)), some (.ref s20), some (.null), some (.int (nI f))] [.int (-1)] [u1_31, wc_2] 0 7 from ?_)
      refine g_pk [1] rfl rfl ?_
      refine (show Go g κ 103 [some (.ref b), some (.int (nI f)), some (.int (nI tt)), some (.int (nI h)), some (.ref s20), some (.null), some (.int (nI f))] [.int (-1)] [wc_2] 0 7 from ?_)
      exact g_iret B E dX2_opened_103 (⟨none, _, rfl, rfl, hwc_2, (fun _ o ho => by rw [hf] at ho; cases ho), fun c hc => by cases hc⟩)
  · skip
    obtain ⟨al, fo, ol, cl, xs, v0, v1, v2, v3, v4, hS, hbx, hv0, hv1, hv2, hv3, hv4, rfl⟩ := hw0
    refine g_open 0 rfl rfl rfl ?_
    refine (show Go g κ 25 [some (.ref b), some (.int (nI f)), some (.int (nI tt)), some (.int (nI h)), some (.ref s20), none, none] [] [u0_20, [(b, .inr (1, [.ref al, .ref fo, .ref ol, .ref cl, .int z]))], v0, v1, v2, v3, v4] 0 7 from ?_)
    obtain ⟨k0, e0, y1, y2, y3, y4, hin, hy2, hy3, hycl, hye⟩ := KvP.opn hv2 (fnd_s hf)
    refine g_open 4 rfl hye rfl ?_
    refine (show Go g κ 25 [some (.ref b), some (.int (nI f)), some (.int (nI tt)), some (.int (nI h)), some (.ref s20), none, none] [] [u0_20, [(b, .inr (1, [.ref al, .ref fo, .ref ol, .ref cl, .int z]))], v0, v1, v3, v4, y1, y2, y3, y4] 0 7 from ?_)
    refine g_aload_n (q := 26) B dX2_opened_25 rfl rfl (rv_r _) ?_
    refine g_get (q := 29) B (ci := 1) (k := 1) (j := 1) in_X2 rfl dX2_opened_26 rfl rfl (Nat.le_of_ble_eq_true rfl) q233 rfl rfl ?_
    refine g_aload (q := 31) B dX2_opened_29 rfl rfl (rv_r _) ?_
    refine g_callV (q := 34) (is := [3, 0, 5]) (kc2 := 0) (ks2 := 7) B [.ref s20] (ct_J4_get_s g J (h := fo) (xs := xs) (cap := (Hc ss)) (s := s20) (c := (kTx (h, none, 1))) (hh := hsh (h, none, 1)) (k0 := k0) (v0 := e0) hv1 (htx ▸ hu0_20) hy2 (kOk_len hk) (rfl) (hin)) dX2_opened_31 rfl (rc_in B (ci := 23) rfl (k := 3) rfl (HmT.hm hv1)) rfl q1250 q1251 q1252 q83 q1253 rfl rfl moJ4_get rfl rfl (by decide) (by decide) (Nat.le_of_ble_eq_true rfl) (Nat.le_of_ble_eq_true rfl) (Nat.le_of_ble_eq_true rfl) (fun _ _ hx => noX_x hx) (fun v31 L1 hp31 => ?_)
    obtain ⟨u0_31, u1_31, u2_31, rfl, rfl, hu0_31, hu1_31, hu2_31⟩ := hp31
    refine (show Go g κ 34 [some (.ref b), some (.int (nI f)), some (.int (nI tt)), some (.int (nI h)), some (.ref s20), none, none] [.ref e0] [[(b, .inr (1, [.ref al, .ref fo, .ref ol, .ref cl, .int z]))], v0, v3, v4, y1, y3, y4, u0_31, u1_31, u2_31] 0 7 from ?_)
    refine g_castRS (ci := 35) (q := 37) B rfl (rc_box B J (k := 5) rfl hy3) dX2_opened_34 rfl q1050 ?_
    refine g_astore (q := 39) (lv2 := [some (.ref b), some (.int (nI f)), some (.int (nI tt)), some (.int (nI h)), some (.ref s20), some (.ref e0), none]) B dX2_opened_37 rfl (Nat.le_of_ble_eq_true rfl) (rv_r _) rfl ?_
    refine g_iload_n (q := 40) B dX2_opened_39 rfl rfl ?_
    refine g_istore (q := 42) (lv2 := [some (.ref b), some (.int (nI f)), some (.int (nI tt)), some (.int (nI h)), some (.ref s20), some (.ref e0), some (.int (nI f))]) B dX2_opened_40 rfl (Nat.le_of_ble_eq_true rfl) rfl ?_
    have lp42 : ∀ (n42 : Nat) (k : Nat) , (f ≤ k) → (k ≤ tt) → (∀ i p, f ≤ i → i < k → bx[i]? = some p → p.1 ≠ j) → tt - k = n42 → Go g κ 42 [some (.ref b), some (.int (nI f)), some (.int (nI tt)), some (.int (nI h)), some (.ref s20), some (.ref e0), some (.int (nI k))] [] [[(b, .inr (1, [.ref al, .ref fo, .ref ol, .ref cl, .int z]))], v0, v3, v4, y1, y3, y4, u0_31, u1_31, u2_31] 0 7 := by
      intro n42
      induction n42 using Nat.strongRecOn with
      | _ n42 ih42 =>
      intro k  hkf hkt hnb hmu42
      refine g_iload (q := 44) B dX2_opened_42 rfl rfl ?_
      refine g_iload_n (q := 45) B dX2_opened_44 rfl rfl ?_
      refine g_icmp_ge (tgt := 102) (q := 48) B dX2_opened_45 rfl (by decide) (nI_leI (by omega) (by omega)) (fun c45 => ?_) (fun c45 => ?_)
      · skip
        obtain ⟨wc_3, ewc_3⟩ : ∃ w : va_W, w = ([y1, u2_31, y3, y4] : List va_W).flatten := ⟨_, rfl⟩
        have hwc_3 : KvP g xs (dv ss) wc_3 := by
          rw [ewc_3]
          exact hycl _ _ hu2_31 hy3
        refine g_close (w := wc_3) [4, 8, 4, 4] rfl ewc_3 rfl ?_
        refine (show Go g κ 102 [some (.ref b), some (.int (nI f)), some (.int (nI tt)), some (.int (nI h)), some (.ref s20), some (.ref e0), some (.int (nI k))] [] [[(b, .inr (1, [.ref al, .ref fo, .ref ol, .ref cl, .int z]))], v0, v3, v4, u0_31, u1_31, wc_3] 0 7 from ?_)
        refine g_iconst (v := -1) (q := 103) B dX2_opened_102 rfl (by decide) ?_
        obtain ⟨wc_4, ewc_4⟩ : ∃ w : va_W, w = ([[(b, .inr (1, [.ref al, .ref fo, .ref ol, .ref cl, .int z]))], v0, u0_31, wc_3, v3, v4] : List va_W).flatten := ⟨_, rfl⟩
        have hwc_4 : BookP g b ss bx z wc_4 := by
          rw [ewc_4]
          exact ⟨al, fo, ol, cl, xs, _, _, _, _, _, hS, hbx, hv0, hu0_31, hwc_3, hv3, hv4, rfl⟩
        refine g_close (w := wc_4) [0, 0, 2, 3, 0, 0] rfl ewc_4 rfl ?_
        refine (show Go g κ 103 [some (.ref b), some (.int (nI f)), some (.int (nI tt)), some (.int (nI h)), some (.ref s20), some (.ref e0), some (.int (nI k))] [.int (-1)] [u1_31, wc_4] 0 7 from ?_)
        refine g_pk [1] rfl rfl ?_
        refine (show Go g κ 103 [some (.ref b), some (.int (nI f)), some (.int (nI tt)), some (.int (nI h)), some (.ref s20), some (.ref e0), some (.int (nI k))] [.int (-1)] [wc_4] 0 7 from ?_)
        exact g_iret B E dX2_opened_103 (⟨none, _, rfl, rfl, hwc_4, (fun _ o ho i p h1 h2 h3 => by rw [hf] at ho; cases ho; exact hnb i p h1 (by omega) h3), fun c hc => by cases hc⟩)
      · skip
        refine g_aload (q := 50) B dX2_opened_48 rfl rfl (rv_r _) ?_
        refine g_ifnull_r (q := 53) B dX2_opened_50 rfl ?_
        refine g_aload_n (q := 54) B dX2_opened_53 rfl rfl (rv_r _) ?_
        refine g_get (q := 57) B (ci := 1) (k := 0) (j := 2) in_X2 rfl dX2_opened_54 rfl rfl (Nat.le_of_ble_eq_true rfl) q234 rfl rfl ?_
        refine g_iload (q := 59) B dX2_opened_57 rfl rfl ?_
        obtain ⟨ps_5, md_5, hli_5, hln_5, hel_5⟩ := LhP.at (Sub.self hv3)
        obtain ⟨r59, hr59⟩ := get_ex (xs := (bx.map (·.1))) (i := k) (by rw [List.length_map]; omega)
        obtain ⟨x59, hx59⟩ := get_ex (xs := ps_5) (i := k) (by have := get_lt2 hr59; have := hln_5.1; omega)
        have hb_6 := Sub.box (hel_5 _ _ _ hx59 hr59)
        refine g_callF (q := 64) (is := [2]) (kc2 := 0) (ks2 := 7) B [.int (nI k)] (ct_J2_get_s g J (p := ol) (xs := ps_5) (md := md_5) (cap := (capF bx.length)) (i := k) (x := x59) (W0 := v3)  (hli_5) (hx59)) dX2_opened_59 rfl (ci := 21) rfl (rc_in B (ci := 21) rfl (k := 2) rfl (LhP.hm hv3)) q1090 q1093 q1095 q81 q1097 q1092 q1091 q1096 q1094 q318 rfl rfl mojava_util_List_get__I_Ljava_lang_Object_ rfl rfl (by decide) (by decide) (Nat.le_of_ble_eq_true rfl) (Nat.le_of_ble_eq_true rfl) (Nat.le_of_ble_eq_true rfl) (fun _ _ hx => noX_x hx) (fun v59 L1 hp59 => ?_)
        obtain ⟨rfl, rfl⟩ := hp59
        refine (show Go g κ 64 [some (.ref b), some (.int (nI f)), some (.int (nI tt)), some (.int (nI h)), some (.ref s20), some (.ref e0), some (.int (nI k))] [.ref x59] [[(b, .inr (1, [.ref al, .ref fo, .ref ol, .ref cl, .int z]))], v0, v4, y1, y3, y4, u0_31, u1_31, u2_31, v3] 0 7 from ?_)
        obtain ⟨p59, hbk, hp59⟩ := map_at hr59
        refine g_castRS (ci := 35) (q := 67) B rfl (rc_bxat B J (k := 9) rfl hb_6) dX2_opened_64 rfl q1050 ?_
        refine g_callV (q := 70) (is := [9]) (kc2 := 0) (ks2 := 7) B [] (ct_J26_intValue_b g J (a := x59) (v := nI r59) (wb := v3)  (hb_6)) dX2_opened_67 rfl (rc_bxat B J (k := 9) rfl hb_6) rfl q1051 q1052 q1053 q111 q1054 rfl rfl moJ26_intValue rfl rfl (by decide) (by decide) (Nat.le_of_ble_eq_true rfl) (Nat.le_of_ble_eq_true rfl) (Nat.le_of_ble_eq_true rfl) (fun _ _ hx => noX_x hx) (fun v67 L1 hp67 => ?_)
        obtain ⟨rfl, rfl⟩ := hp67
        refine (show Go g κ 70 [some (.ref b), some (.int (nI f)), some (.int (nI tt)), some (.int (nI h)), some (.ref s20), some (.ref e0), some (.int (nI k))] [.int (nI r59)] [[(b, .inr (1, [.ref al, .ref fo, .ref ol, .ref cl, .int z]))], v0, v4, y1, y3, y4, u0_31, u1_31, u2_31, v3] 0 7 from ?_)
        refine g_aload (q := 72) B dX2_opened_70 rfl rfl (rv_r _) ?_
        refine g_callV (q := 75) (is := [4]) (kc2 := 0) (ks2 := 7) B [] (ct_J26_intValue g J (a := e0) (v := (nI j)) hy3 ) dX2_opened_72 rfl (rc_box B J (k := 4) rfl hy3) rfl q1051 q1052 q1053 q111 q1054 rfl rfl moJ26_intValue rfl rfl (by decide) (by decide) (Nat.le_of_ble_eq_true rfl) (Nat.le_of_ble_eq_true rfl) (Nat.le_of_ble_eq_true rfl) (fun _ _ hx => noX_x hx) (fun v72 L1 hp72 => ?_)
        obtain ⟨rfl, rfl⟩ := hp72
        refine (show Go g κ 75 [some (.ref b), some (.int (nI f)), some (.int (nI tt)), some (.int (nI h)), some (.ref s20), some (.ref e0), some (.int (nI k))] [.int (nI j), .int (nI r59)] [[(b, .inr (1, [.ref al, .ref fo, .ref ol, .ref cl, .int z]))], v0, v4, y1, y4, u0_31, u1_31, u2_31, v3, y3] 0 7 from ?_)
        refine g_icmp_ne (tgt := 96) (q := 78) B dX2_opened_75 rfl (by decide) (not_congr (nI_eq (by have := (hbx _ (List.mem_of_getElem? hbk)).1; omega) (by have := (fnd_lt hf); omega))) (fun c75 => ?_) (fun c75 => ?_)
        · skip
          refine g_iinc (v := nI (k + 1)) (q := 99) (lv2 := [some (.ref b), some (.int (nI f)), some (.int (nI tt)), some (.int (nI h)), some (.ref s20), some (.ref e0), some (.int (nI (k + 1)))]) B dX2_opened_96 rfl rfl (nI_add _ 1) (Nat.le_of_ble_eq_true rfl) rfl ?_
          refine g_goto (tgt := 42) B dX2_opened_99 (by decide) ?_
          refine g_pk [0, 0, 6, 0, 0, 4, 0, 0, 0, 0] rfl rfl ?_
          refine (show Go g κ 42 [some (.ref b), some (.int (nI f)), some (.int (nI tt)), some (.int (nI h)), some (.ref s20), some (.ref e0), some (.int (nI (k + 1)))] [] [[(b, .inr (1, [.ref al, .ref fo, .ref ol, .ref cl, .int z]))], v0, v3, v4, y1, y3, y4, u0_31, u1_31, u2_31] 0 7 from ?_)
          exact ih42 _ (by omega) (k + 1) (by omega) (by omega) (fun i p h1 h2 h3 => by rcases Nat.lt_or_ge i k with z | z; exact hnb i p h1 z h3; have e : i = k := (by omega); rw [e, hbk] at h3; cases h3; exact fun q => c75 (by rw [← hp59]; exact q)) rfl
        · skip
          refine g_aload_n (q := 79) B dX2_opened_78 rfl rfl (rv_r _) ?_
          refine g_get (q := 82) B (ci := 1) (k := 0) (j := 3) in_X2 rfl dX2_opened_79 rfl rfl (Nat.le_of_ble_eq_true rfl) q236 rfl rfl ?_
          refine g_iload (q := 84) B dX2_opened_82 rfl rfl ?_
          obtain ⟨ps_7, md_7, hli_7, hln_7, hel_7⟩ := LhP.at (Sub.self hv4)
          obtain ⟨r84, hr84⟩ := get_ex (xs := (bx.map (·.2))) (i := k) (by rw [List.length_map]; omega)
          obtain ⟨x84, hx84⟩ := get_ex (xs := ps_7) (i := k) (by have := get_lt2 hr84; have := hln_7.1; omega)
          have hb_8 := Sub.box (hel_7 _ _ _ hx84 hr84)
          refine g_callF (q := 89) (is := [2]) (kc2 := 0) (ks2 := 7) B [.int (nI k)] (ct_J2_get_s g J (p := cl) (xs := ps_7) (md := md_7) (cap := (capF bx.length)) (i := k) (x := x84) (W0 := v4)  (hli_7) (hx84)) dX2_opened_84 rfl (ci := 21) rfl (rc_in B (ci := 21) rfl (k := 2) rfl (LhP.hm hv4)) q1090 q1093 q1095 q81 q1097 q1092 q1091 q1096 q1094 q318 rfl rfl mojava_util_List_get__I_Ljava_lang_Object_ rfl rfl (by decide) (by decide) (Nat.le_of_ble_eq_true rfl) (Nat.le_of_ble_eq_true rfl) (Nat.le_of_ble_eq_true rfl) (fun _ _ hx => noX_x hx) (fun v84 L1 hp84 => ?_)
          obtain ⟨rfl, rfl⟩ := hp84
          refine (show Go g κ 89 [some (.ref b), some (.int (nI f)), some (.int (nI tt)), some (.int (nI h)), some (.ref s20), some (.ref e0), some (.int (nI k))] [.ref x84] [[(b, .inr (1, [.ref al, .ref fo, .ref ol, .ref cl, .int z]))], v0, y1, y4, u0_31, u1_31, u2_31, v3, y3, v4] 0 7 from ?_)
          obtain ⟨p84, hbk2, hp84⟩ := map_at hr84
          rw [hbk] at hbk2; cases hbk2
          refine g_castRS (ci := 35) (q := 92) B rfl (rc_bxat B J (k := 9) rfl hb_8) dX2_opened_89 rfl q1050 ?_
          refine g_callV (q := 95) (is := [9]) (kc2 := 0) (ks2 := 7) B [] (ct_J26_intValue_b g J (a := x84) (v := nI r84) (wb := v4)  (hb_8)) dX2_opened_92 rfl (rc_bxat B J (k := 9) rfl hb_8) rfl q1051 q1052 q1053 q111 q1054 rfl rfl moJ26_intValue rfl rfl (by decide) (by decide) (Nat.le_of_ble_eq_true rfl) (Nat.le_of_ble_eq_true rfl) (Nat.le_of_ble_eq_true rfl) (fun _ _ hx => noX_x hx) (fun v92 L1 hp92 => ?_)
          obtain ⟨rfl, rfl⟩ := hp92
          refine (show Go g κ 95 [some (.ref b), some (.int (nI f)), some (.int (nI tt)), some (.int (nI h)), some (.ref s20), some (.ref e0), some (.int (nI k))] [.int (nI r84)] [[(b, .inr (1, [.ref al, .ref fo, .ref ol, .ref cl, .int z]))], v0, y1, y4, u0_31, u1_31, u2_31, v3, y3, v4] 0 7 from ?_)
          obtain ⟨wc_9, ewc_9⟩ : ∃ w : va_W, w = ([y1, u2_31, y3, y4] : List va_W).flatten := ⟨_, rfl⟩
          have hwc_9 : KvP g xs (dv ss) wc_9 := by
            rw [ewc_9]
            exact hycl _ _ hu2_31 hy3
          refine g_close (w := wc_9) [2, 5, 6, 2] rfl ewc_9 rfl ?_
          refine (show Go g κ 95 [some (.ref b), some (.int (nI f)), some (.int (nI tt)), some (.int (nI h)), some (.ref s20), some (.ref e0), some (.int (nI k))] [.int (nI r84)] [[(b, .inr (1, [.ref al, .ref fo, .ref ol, .ref cl, .int z]))], v0, u0_31, u1_31, v3, v4, wc_9] 0 7 from ?_)
          obtain ⟨wc_10, ewc_10⟩ : ∃ w : va_W, w = ([[(b, .inr (1, [.ref al, .ref fo, .ref ol, .ref cl, .int z]))], v0, u0_31, wc_9, v3, v4] : List va_W).flatten := ⟨_, rfl⟩
          have hwc_10 : BookP g b ss bx z wc_10 := by
            rw [ewc_10]
            exact ⟨al, fo, ol, cl, xs, _, _, _, _, _, hS, hbx, hv0, hu0_31, hwc_9, hv3, hv4, rfl⟩
          refine g_close (w := wc_10) [0, 0, 0, 3, 1, 1] rfl ewc_10 rfl ?_
          refine (show Go g κ 95 [some (.ref b), some (.int (nI f)), some (.int (nI tt)), some (.int (nI h)), some (.ref s20), some (.ref e0), some (.int (nI k))] [.int (nI r84)] [u1_31, wc_10] 0 7 from ?_)
          refine g_pk [1] rfl rfl ?_
          refine (show Go g κ 95 [some (.ref b), some (.int (nI f)), some (.int (nI tt)), some (.int (nI h)), some (.ref s20), some (.ref e0), some (.int (nI k))] [.int (nI r84)] [wc_10] 0 7 from ?_)
          exact g_iret B E dX2_opened_95 (⟨some r84, _, rfl, rfl, hwc_10, (fun h => by cases h), fun c hc => by cases hc; exact ⟨j, k, hf, hkf, by omega, by rw [hbk, ← hp84]; have z := Classical.not_not.mp c75; rw [← hp59] at z; rw [← z]⟩⟩)
    exact lp42 _ f (Nat.le_refl _) (hft) (fun i p h1 h2 => absurd h2 (by omega)) rfl

