set_option maxRecDepth 100000
/-- the bins of a table -/
def TbP (g : Gv) (bm cap : Nat) (tab : Nat → Option Nat) (tf : Nat → List Tp) (w : va_W) : Prop := Big cap (fun b v => BinP g bm (tab b) (tf b) v) w
def RzP (g : Gv) (bm cap j : Nat) (tab ntab : Nat → Option Nat) (tf : Nat → List Tp) (w : va_W) : Prop := Big cap (fun b v => if b < j then Np g bm ntab cap (tf b) b v else BinP g bm (tab b) (tf b) v) w
theorem rz_0 {g : Gv} {bm : Nat} {cap : Nat} {tab ntab : Nat → Option Nat} {tf : Nat → List Tp} {w : va_W} (h : TbP g bm cap tab tf w) : RzP g bm cap 0 tab ntab tf w := h.mono fun b _ v hv => by rw [if_neg (Nat.not_lt_zero b)]; exact hv
theorem rz_n {g : Gv} {bm : Nat} {cap : Nat} {tab ntab : Nat → Option Nat} {tf : Nat → List Tp} {w : va_W} (h : RzP g bm cap cap tab ntab tf w) : ∃ w2, w.Perm (w2 ++ []) ∧ TbP g bm (2 * cap) ntab (fun b => (tf (b % cap)).filter fun t => if b < cap then lob cap t.1 else !lob cap t.1) w2 := big_row (h.mono fun b hb v hv => by rw [if_pos hb] at hv; exact hv)
theorem rz_op {g : Gv} {bm : Nat} {cap j : Nat} {tab ntab : Nat → Option Nat} {tf : Nat → List Tp} {w : va_W} (h : RzP g bm cap j tab ntab tf w) (hj : j < cap) : ∃ w1 wj w2 : va_W, BinP g bm (tab j) (tf j) wj ∧ (∀ (o1 o2 : Option Nat) (u1 u2 : va_W), BinP g bm o1 ((tf j).filter fun t => lob cap t.1) u1 → BinP g bm o2 ((tf j).filter fun t => !lob cap t.1) u2 → RzP g bm cap (j + 1) tab (va_up (va_up ntab j o1) (j + cap) o2) tf ([w1, u1, u2, w2] : List va_W).flatten) ∧ w = ([w1, wj, w2] : List va_W).flatten := by
  obtain ⟨w1, wj, w2, h1, h2, h3⟩ := Big.opn h hj
  refine ⟨w1, wj, w2, by simpa using h1, fun o1 o2 u1 u2 b1 b2 => ?_, h3⟩
  have z := h2 (fun b v => if b < j + 1 then Np g bm (va_up (va_up ntab j o1) (j + cap) o2) cap (tf b) b v else BinP g bm (tab b) (tf b) v) ([u1, u2] : List va_W).flatten ?_ ?_
  · have e : ([w1, ([u1, u2] : List va_W).flatten, w2] : List va_W).flatten = ([w1, u1, u2, w2] : List va_W).flatten := by simp
    rw [e] at z
    exact z
  · intro b hb hne v hv
    by_cases hlt : b < j
    · rw [if_pos hlt] at hv
      rw [if_pos (by omega)]
      obtain ⟨v1, v2, a1, a2, a3⟩ := hv
      have e1 : va_up (va_up ntab j o1) (j + cap) o2 b = ntab b := by unfold va_up; rw [if_neg (by omega), if_neg hne]
      have e2 : va_up (va_up ntab j o1) (j + cap) o2 (b + cap) = ntab (b + cap) := by unfold va_up; rw [if_neg (by omega), if_neg (by omega)]
      exact ⟨v1, v2, by rw [e1]; exact a1, by rw [e2]; exact a2, a3⟩
    · rw [if_neg hlt] at hv
      rw [if_neg (by omega)]; exact hv
  · rw [if_pos (Nat.lt_succ_self j)]
    have e1 : va_up (va_up ntab j o1) (j + cap) o2 j = o1 := by unfold va_up; rw [if_neg (by omega), if_pos rfl]
    have e2 : va_up (va_up ntab j o1) (j + cap) o2 (j + cap) = o2 := by unfold va_up; rw [if_pos rfl]
    exact ⟨u1, u2, by rw [e1]; exact b1, by rw [e2]; exact b2, rfl⟩
theorem NodG.part {g : Gv} {ns : List Nat} {hs : Nat → Int32} {ky vl : Nat → Nat} {nx : Nat → Option Nat} {w : va_W} (h : NodG g ns hs ky vl nx w) (p : Nat → Bool) : ∃ w1 w2, w.Perm (w1 ++ w2) ∧ NodG g (ns.filter p) hs ky vl nx w1 ∧ NodG g (ns.filter fun a => !p a) hs ky vl nx w2 := by
  refine ⟨_, _, ?_, ⟨h.1.filter p, rfl⟩, ⟨h.1.filter _, rfl⟩⟩
  rw [h.2, ← List.map_append]
  exact ((List.filter_append_perm p ns).symm).map _
/-- the chain as if its last one had no next -/
def cutl (nx : Nat → Option Nat) (lt : Option Nat) : Nat → Option Nat := match lt with
  | none => nx
  | some t => fup nx t none
theorem cu_sn {nx : Nat → Option Nat} {ds : List Nat} {o : Option Nat} {t x : Nat} (h : Ch (cutl nx (some t)) o ds) (hn : ds.Nodup) (hx : x ∉ ds) (ht : ds.getLast? = some t) : Ch (cutl (fup nx t (some x)) (some x)) o (ds ++ [x]) := by
  have hne : t ≠ x := fun e => hx (e ▸ gl_mem ht)
  refine ch_congr (ch_snoc h hn hx ht) fun a _ => ?_
  simp only [cutl, fup]
  grind
theorem cu_oth {nx : Nat → Option Nat} {ct o y : Option Nat} {ds : List Nat} {t : Nat} (h : Ch (cutl nx ct) o ds) (hb : ∀ b ∈ ds, b ≠ t) : Ch (cutl (fup nx t y) ct) o ds := by
  refine ch_congr h fun b hbd => ?_
  have hne := hb b hbd
  cases ct with
  | none => exact fup_n hne
  | some q =>
    show fup (fup nx t y) q none b = fup nx q none b
    by_cases e : b = q
    · rw [e, fup_s, fup_s]
    · rw [fup_n e, fup_n e, fup_n hne]
theorem cu_fL {nx : Nat → Option Nat} {lt ct o : Option Nat} {ds : List Nat} (h : Ch (cutl nx lt) o ds) (hb : ∀ q, ct = some q → q ∉ ds) : Ch (cutl (cutl nx lt) ct) o ds := by
  cases ct with
  | none => exact h
  | some q => exact ch_congr h fun b hbd => fup_n (fun (e : b = q) => hb q rfl (e ▸ hbd))
theorem cu_fH {nx : Nat → Option Nat} {lt ct o : Option Nat} {ds : List Nat} (h : Ch (cutl nx ct) o ds) (hb : ∀ q, lt = some q → q ∉ ds) : Ch (cutl (cutl nx lt) ct) o ds := by
  cases lt with
  | none => exact h
  | some q => exact cu_oth h fun b hbd e => hb q rfl (e ▸ hbd)
theorem ts_lo {cap : Nat} {ts : List Tp} (h : ∀ t ∈ ts, lob cap t.1 = true) : (ts.filter fun t => lob cap t.1) = ts ∧ (ts.filter fun t => !lob cap t.1) = [] := by
  refine ⟨List.filter_eq_self.mpr h, List.filter_eq_nil_iff.mpr fun t ht => by simp [h t ht]⟩
theorem ts_hi {cap : Nat} {ts : List Tp} (h : ∀ t ∈ ts, lob cap t.1 = false) : (ts.filter fun t => lob cap t.1) = [] ∧ (ts.filter fun t => !lob cap t.1) = ts := by
  refine ⟨List.filter_eq_nil_iff.mpr fun t ht => by simp [h t ht], List.filter_eq_self.mpr fun t ht => by simp [h t ht]⟩
theorem BinP.wn {g : Gv} {bm : Nat} {ts : List Tp} {w : va_W} (h : BinP g bm Option.none ts w) : w = [] := by
  rcases h with ⟨ns, cs, hs, ky, vl, nx, h1, h2, h3, h4, h5, h6⟩ | ⟨ns, cs, hs, ky, vl, nx, pp, lf, rg, pv, rd, lo, hi, root, h1, h2, h3, h4, h5, h6⟩
  · have e := List.head?_eq_none_iff.mp (ch_head h2).symm
    have e2 : ns = [] := List.eq_nil_iff_forall_not_mem.mpr fun a ha => by have := (h4 a).mpr ha; rw [e] at this; simp at this
    rw [h1.2, e2]; rfl
  · have e := List.head?_eq_none_iff.mp (ch_head h2).symm
    have e2 : ns = [] := List.eq_nil_iff_forall_not_mem.mpr fun a ha => by have := (h4 a).mpr ha; rw [e] at this; simp at this
    rw [h1.2, e2]; rfl
theorem nd_inj {cs : List Nat} {f : Nat → Int32} (h : (cs.map f).Nodup) {a b : Nat} (ha : a ∈ cs) (hb : b ∈ cs) (he : f a = f b) : a = b := by
  obtain ⟨i, hi⟩ := List.getElem?_of_mem ha
  obtain ⟨k, hk⟩ := List.getElem?_of_mem hb
  obtain ⟨h1, h1'⟩ := List.getElem?_eq_some_iff.mp hi
  obtain ⟨h2, h2'⟩ := List.getElem?_eq_some_iff.mp hk
  have z : (cs.map f)[i]'(by simpa using h1) = (cs.map f)[k]'(by simpa using h2) := by simp [h1', h2', he]
  have := (List.getElem_inj h).mp z
  subst this
  exact h1'.symm.trans h2'
theorem rs_shl {n : Nat} (h : n ≤ 1048576) : nI n <<< (nI 1 &&& 31) = nI (2 * n) := by
  rw [pk_shlN (nI 1 &&& 31) 1 (by decide) (by omega)]
  congr 1
  omega
theorem nc_177 : Cond.not (.castable "java/util/HashMap$Node" "java/util/HashMap$TreeNode") ∈ gNc := List.mem_of_getElem? (i := 177) (by decide +kernel)
theorem moJ40_split : Mo yJ40_split 4 := by
  refine ⟨by decide, by decide, by decide +kernel⟩
theorem ct_J4_resize (g : Gv) (J : Jd g) {h : Nat} {tl : Nat} {n : Nat} {md : Nat} {thr : Nat} {lfac : UInt32} {cap : Nat} {kk : Nat} {tab : Nat → Option Nat} {tf : Nat → List Tp} {bm : Nat} {w2 : va_W} (hw2 : TbP g bm cap tab tf w2) (hbm : 6 ≤ bm) (hcap : cap = 2 ^ kk) (hk4 : 4 ≤ kk) (hk : kk ≤ 20) (hthr : 4 * thr = 3 * cap) (hpl : ∀ b, b < cap → ∀ t ∈ tf b, hU t.1 % cap = b) (hdj : ∀ b, b < cap → ((tf b).map (·.1)).Nodup) (htn : ∀ b, b < cap → (tf b).length < 100000) : Ct g yJ4_resize (ws_ yJ4_resize cJ4_resize 14 (some (.array (.object "java/util/HashMap$Node")))) 7 (12 * cap + 1) (50 * cap) [.ref h] [[(h, .inr (23, [.null, .null, .ref tl, .null, .int (nI n), .int (nI md), .int (nI thr), .float lfac]))], [(tl, .inl (g.2.1 6, cap, .inr (.inr (.inr (.inr tab)))))], w2] (fun (rv_ : Option Value) (rL_ : List va_W) => ∃ (nt : Nat) (ntab : Nat → Option Nat) (u2 : va_W), rv_ = some (.ref nt) ∧ rL_ = [[(h, .inr (23, [.null, .null, .ref nt, .null, .int (nI n), .int (nI md), .int (nI (2 * thr)), .float lfac]))], [(nt, .inl (g.2.1 6, 2 * cap, .inr (.inr (.inr (.inr ntab)))))], u2] ∧ TbP g bm (2 * cap) ntab (fun b => (tf (b % cap)).filter fun t => if b < cap then lob cap t.1 else !lob cap t.1) u2) noX := by
  refine Ct.of "java/util/HashMap" [some (.ref h), none, none, none, none, none, none, none, none, none, none, none, none, none] rfl (by decide) rfl (Nat.le_of_ble_eq_true rfl) rfl ?_
  intro κ B E tb
  have hc0 : 16 ≤ cap ∧ cap ≤ 1048576 := by
    rw [hcap]
    exact ⟨Nat.le_trans (Nat.le_of_ble_eq_true rfl) (Nat.pow_le_pow_right (n := 2) (by decide) hk4), Nat.le_trans (Nat.pow_le_pow_right (by decide) hk) (Nat.le_of_ble_eq_true rfl)⟩
  refine g_aload_n (q := 1) B dJ4_resize_0 rfl rfl (rv_r _) ?_
  refine g_get (q := 4) B (ci := 23) (k := 0) (j := 2) in_J4 rfl dJ4_resize_1 rfl rfl (Nat.le_of_ble_eq_true rfl) q205 rfl rfl ?_
  refine g_astore_n (q := 5) (lv2 := [some (.ref h), some (.ref tl), none, none, none, none, none, none, none, none, none, none, none, none]) B dJ4_resize_4 rfl (Nat.le_of_ble_eq_true rfl) (rv_r _) rfl ?_
  refine g_aload_n (q := 6) B dJ4_resize_5 rfl rfl (rv_r _) ?_
  refine g_ifnonnull_r (tgt := 13) B dJ4_resize_6 (by decide) ?_
  refine g_aload_n (q := 14) B dJ4_resize_13 rfl rfl (rv_r _) ?_
  refine g_alen (v := nI cap) (q := 15) B (k := 1) (t := 6) dJ4_resize_14 rfl rfl rfl rfl ?_
  refine g_istore_n (q := 16) (lv2 := [some (.ref h), some (.ref tl), some (.int (nI cap)), none, none, none, none, none, none, none, none, none, none, none]) B dJ4_resize_15 rfl (Nat.le_of_ble_eq_true rfl) rfl ?_
  refine g_aload_n (q := 17) B dJ4_resize_16 rfl rfl (rv_r _) ?_
  refine g_get (q := 20) B (ci := 23) (k := 0) (j := 6) in_J4 rfl dJ4_resize_17 rfl rfl (Nat.le_of_ble_eq_true rfl) q211 rfl rfl ?_
  refine g_istore_n (q := 21) (lv2 := [some (.ref h), some (.ref tl), some (.int (nI cap)), some (.int (nI thr)), none, none, none, none, none, none, none, none, none, none]) B dJ4_resize_20 rfl (Nat.le_of_ble_eq_true rfl) rfl ?_
  refine g_iconst (v := nI 0) (q := 22) B dJ4_resize_21 rfl (by decide) ?_
  refine g_istore (q := 24) (lv2 := [some (.ref h), some (.ref tl), some (.int (nI cap)), some (.int (nI thr)), none, some (.int (nI 0)), none, none, none, none, none, none, none, none]) B dJ4_resize_22 rfl (Nat.le_of_ble_eq_true rfl) rfl ?_
  refine g_iload_n (q := 25) B dJ4_resize_24 rfl rfl ?_
  refine g_if_le (tgt := 67) (q := 28) B dJ4_resize_25 rfl (by decide) (iff_false_intro (fun h => absurd ((nI_le0 (by omega)).mp h) (by omega))) (fun z => z.elim) (fun _ => ?_)
  refine g_iload_n (q := 29) B dJ4_resize_28 rfl rfl ?_
  refine g_ldc (v := nI 1073741824) (q := 31) B dJ4_resize_29 rfl q1653 ?_
  refine g_icmp_lt (tgt := 42) (q := 34) B dJ4_resize_31 rfl (by decide) (iff_true_intro ((nI_ltI (by omega) (by omega)).mpr (by omega))) (fun _ => ?_) (fun z => absurd trivial z)
  refine g_iload_n (q := 43) B dJ4_resize_42 rfl rfl ?_
  refine g_iconst (v := nI 1) (q := 44) B dJ4_resize_43 rfl (by decide) ?_
  refine g_ishl (v := nI (2 * cap)) (q := 45) B dJ4_resize_44 rfl (rs_shl hc0.2) ?_
  refine g_dup (q := 46) B dJ4_resize_45 rfl rfl ?_
  refine g_istore (q := 48) (lv2 := [some (.ref h), some (.ref tl), some (.int (nI cap)), some (.int (nI thr)), some (.int (nI (2 * cap))), some (.int (nI 0)), none, none, none, none, none, none, none, none]) B dJ4_resize_46 rfl (Nat.le_of_ble_eq_true rfl) rfl ?_
  refine g_ldc (v := nI 1073741824) (q := 50) B dJ4_resize_48 rfl q1653 ?_
  refine g_icmp_ge (tgt := 85) (q := 53) B dJ4_resize_50 rfl (by decide) (iff_false_intro (fun h => absurd ((nI_leI (by omega) (by omega)).mp h) (by omega))) (fun z => z.elim) (fun _ => ?_)
  refine g_iload_n (q := 54) B dJ4_resize_53 rfl rfl ?_
  refine g_bipush (v := nI 16) (q := 56) B dJ4_resize_54 rfl (by decide) ?_
  refine g_icmp_lt (tgt := 85) (q := 59) B dJ4_resize_56 rfl (by decide) (iff_false_intro (fun h => absurd ((nI_ltI (by omega) (by omega)).mp h) (by omega))) (fun z => z.elim) (fun _ => ?_)
  refine g_iload_n (q := 60) B dJ4_resize_59 rfl rfl ?_
  refine g_iconst (v := nI 1) (q := 61) B dJ4_resize_60 rfl (by decide) ?_
  refine g_ishl (v := nI (2 * thr)) (q := 62) B dJ4_resize_61 rfl (rs_shl (by omega)) ?_
  refine g_istore (q := 64) (lv2 := [some (.ref h), some (.ref tl), some (.int (nI cap)), some (.int (nI thr)), some (.int (nI (2 * cap))), some (.int (nI (2 * thr))), none, none, none, none, none, none, none, none]) B dJ4_resize_62 rfl (Nat.le_of_ble_eq_true rfl) rfl ?_
  refine g_goto (tgt := 85) B dJ4_resize_64 (by decide) ?_
  refine g_iload (q := 87) B dJ4_resize_85 rfl rfl ?_
  refine g_if_ne (tgt := 125) (q := 90) B dJ4_resize_87 rfl (by decide) (iff_true_intro ((nI_ne00 (by omega)).mpr (by omega))) (fun _ => ?_) (fun z => absurd trivial z)
  refine g_aload_n (q := 126) B dJ4_resize_125 rfl rfl (rv_r _) ?_
  refine g_iload (q := 128) B dJ4_resize_126 rfl rfl ?_
  refine g_put (q := 131) (L2 := [[(h, .inr (23, [.null, .null, .ref tl, .null, .int (nI n), .int (nI md), .int (nI (2 * thr)), .float lfac]))], [(tl, .inl (g.2.1 6, cap, .inr (.inr (.inr (.inr tab)))))], w2]) B (ci := 23) (k := 0) (j := 6) in_J4 tyJ4 tyJ4_ok nmJ4 rfl dJ4_resize_128 rfl rfl (Nat.le_of_ble_eq_true rfl) q211 rfl rfl rfl rfl (Nat.le_of_ble_eq_true rfl) rfl ?_
  refine g_iload (q := 133) B dJ4_resize_131 rfl rfl ?_
  refine g_newq (q := 136) (kc2 := (12 * cap + 1) - 1) (ks2 := (50 * cap) - (2 * cap)) (t := 6) (N := 2 * cap) B q1656 q1657 rfl dJ4_resize_133 rfl (nI_pos (by omega)) (nI_clamp (by omega)) (by omega) (by omega) (by omega) (fun n133 => ?_)
  refine (show Go g κ 136 [some (.ref h), some (.ref tl), some (.int (nI cap)), some (.int (nI thr)), some (.int (nI (2 * cap))), some (.int (nI (2 * thr))), none, none, none, none, none, none, none, none] [.ref n133] [[(h, .inr (23, [.null, .null, .ref tl, .null, .int (nI n), .int (nI md), .int (nI (2 * thr)), .float lfac]))], [(tl, .inl (g.2.1 6, cap, .inr (.inr (.inr (.inr tab)))))], w2, [(n133, .inl (g.2.1 6, 2 * cap, .inr (.inr (.inr (.inr (fun _ => none))))))]] ((12 * cap + 1) - 1) ((50 * cap) - (2 * cap)) from ?_)
  refine g_astore (q := 138) (lv2 := [some (.ref h), some (.ref tl), some (.int (nI cap)), some (.int (nI thr)), some (.int (nI (2 * cap))), some (.int (nI (2 * thr))), some (.ref n133), none, none, none, none, none, none, none]) B dJ4_resize_136 rfl (Nat.le_of_ble_eq_true rfl) (rv_r _) rfl ?_
  refine g_aload_n (q := 139) B dJ4_resize_138 rfl rfl (rv_r _) ?_
  refine g_aload (q := 141) B dJ4_resize_139 rfl rfl (rv_r _) ?_
  refine g_put (q := 144) (L2 := [[(h, .inr (23, [.null, .null, .ref n133, .null, .int (nI n), .int (nI md), .int (nI (2 * thr)), .float lfac]))], [(tl, .inl (g.2.1 6, cap, .inr (.inr (.inr (.inr tab)))))], w2, [(n133, .inl (g.2.1 6, 2 * cap, .inr (.inr (.inr (.inr (fun _ => none))))))]]) B (ci := 23) (k := 0) (j := 2) in_J4 tyJ4 tyJ4_ok nmJ4 rfl dJ4_resize_141 rfl rfl (Nat.le_of_ble_eq_true rfl) q205 rfl rfl rfl rfl (Nat.le_of_ble_eq_true rfl) rfl ?_
  refine g_aload_n (q := 145) B dJ4_resize_144 rfl rfl (rv_r _) ?_
  refine g_ifnull_r (q := 148) B dJ4_resize_145 rfl ?_
  refine g_iconst (v := nI 0) (q := 149) B dJ4_resize_148 rfl (by decide) ?_
  refine g_istore (q := 151) (lv2 := [some (.ref h), some (.ref tl), some (.int (nI cap)), some (.int (nI thr)), some (.int (nI (2 * cap))), some (.int (nI (2 * thr))), some (.ref n133), some (.int (nI 0)), none, none, none, none, none, none]) B dJ4_resize_149 rfl (Nat.le_of_ble_eq_true rfl) rfl ?_
  have lp151 : ∀ (n151 : Nat) (j : Nat) (ntab : Nat → Option Nat) (l151_3 : va_W), RzP g bm cap j tab ntab tf l151_3 → (j ≤ cap) → (∀ b, j ≤ b → b < cap → ntab b = none ∧ ntab (b + cap) = none) → cap - j = n151 → Go g κ 151 [some (.ref h), some (.ref tl), some (.int (nI cap)), some (.int (nI thr)), some (.int (nI (2 * cap))), some (.int (nI (2 * thr))), some (.ref n133), some (.int (nI j)), none, none, none, none, none, none] [] [[(h, .inr (23, [.null, .null, .ref n133, .null, .int (nI n), .int (nI md), .int (nI (2 * thr)), .float lfac]))], [(tl, .inl (g.2.1 6, cap, .inr (.inr (.inr (.inr (ctb tab j))))))], [(n133, .inl (g.2.1 6, 2 * cap, .inr (.inr (.inr (.inr ntab)))))], l151_3] (12 * cap - 12 * j) (48 * cap - 48 * j) := by
    intro n151
    induction n151 using Nat.strongRecOn with
    | _ n151 ih151 =>
    intro j ntab l151_3 hl151_3 hj hnn hmu151
    refine g_iload (q := 153) B dJ4_resize_151 rfl rfl ?_
    refine g_iload_n (q := 154) B dJ4_resize_153 rfl rfl ?_
    refine g_icmp_ge (tgt := 353) (q := 157) B dJ4_resize_154 rfl (by decide) (nI_leI (by omega) (by omega)) (fun c154 => ?_) (fun c154 => ?_)
    · skip
      have hje : j = cap := by omega
      have hrz := hl151_3
      rw [hje] at hrz
      obtain ⟨wn, hpn, hwn⟩ := rz_n hrz
      refine g_sub 3 rfl hpn rfl ?_
      refine (show Go g κ 353 [some (.ref h), some (.ref tl), some (.int (nI cap)), some (.int (nI thr)), some (.int (nI (2 * cap))), some (.int (nI (2 * thr))), some (.ref n133), some (.int (nI j)), none, none, none, none, none, none] [] [[(h, .inr (23, [.null, .null, .ref n133, .null, .int (nI n), .int (nI md), .int (nI (2 * thr)), .float lfac]))], [(tl, .inl (g.2.1 6, cap, .inr (.inr (.inr (.inr (ctb tab j))))))], [(n133, .inl (g.2.1 6, 2 * cap, .inr (.inr (.inr (.inr ntab)))))], wn] (12 * cap - 12 * j) (48 * cap - 48 * j) from ?_)
      refine g_aload (q := 355) B dJ4_resize_353 rfl rfl (rv_r _) ?_
      refine g_pk [0, 1, 1] rfl rfl ?_
      refine (show Go g κ 355 [some (.ref h), some (.ref tl), some (.int (nI cap)), some (.int (nI thr)), some (.int (nI (2 * cap))), some (.int (nI (2 * thr))), some (.ref n133), some (.int (nI j)), none, none, none, none, none, none] [.ref n133] [[(h, .inr (23, [.null, .null, .ref n133, .null, .int (nI n), .int (nI md), .int (nI (2 * thr)), .float lfac]))], [(n133, .inl (g.2.1 6, 2 * cap, .inr (.inr (.inr (.inr ntab)))))], wn] (12 * cap - 12 * j) (48 * cap - 48 * j) from ?_)
      exact g_aret B E dJ4_resize_355 (by first | exact Or.inl ⟨_, rfl⟩ | exact Or.inr ⟨_, rfl⟩) (rv_r _) (⟨n133, ntab, _, rfl, rfl, hwn⟩)
    · skip
      refine g_aload_n (q := 158) B dJ4_resize_157 rfl rfl (rv_r _) ?_
      refine g_iload (q := 160) B dJ4_resize_158 rfl rfl ?_
      refine g_ald (r := tab j) (q := 161) B (k := 1) (t := 6) dJ4_resize_160 rfl rfl rfl (vp_in_nI (by omega) (by omega)) (by rw [nI_clamp (by omega)]; exact ctb_at tab j) ?_
      refine g_dup (q := 162) B dJ4_resize_161 rfl (rv_c (rv_o _)) ?_
      refine g_astore (q := 164) (lv2 := [some (.ref h), some (.ref tl), some (.int (nI cap)), some (.int (nI thr)), some (.int (nI (2 * cap))), some (.int (nI (2 * thr))), some (.ref n133), some (.int (nI j)), some (va_rf (tab j)), none, none, none, none, none]) B dJ4_resize_162 rfl (Nat.le_of_ble_eq_true rfl) (rv_o _) rfl ?_
      refine g_ifnull_o (tgt := 347) (q := 167) B dJ4_resize_164 rfl (by decide) (fun c164 => ?_) (fun tabj_a164 c164 => ?_)
      · skip
        rw [c164]
        refine (show Go g κ 347 [some (.ref h), some (.ref tl), some (.int (nI cap)), some (.int (nI thr)), some (.int (nI (2 * cap))), some (.int (nI (2 * thr))), some (.ref n133), some (.int (nI j)), some (.null), none, none, none, none, none] [] [[(h, .inr (23, [.null, .null, .ref n133, .null, .int (nI n), .int (nI md), .int (nI (2 * thr)), .float lfac]))], [(tl, .inl (g.2.1 6, cap, .inr (.inr (.inr (.inr (ctb tab j))))))], [(n133, .inl (g.2.1 6, 2 * cap, .inr (.inr (.inr (.inr ntab)))))], l151_3] (12 * cap - 12 * j) (48 * cap - 48 * j) from ?_)
        obtain ⟨w1, wj, w2, hbj, hcl, rfl⟩ := rz_op hl151_3 (by omega)
        refine g_open 3 rfl rfl rfl ?_
        refine (show Go g κ 347 [some (.ref h), some (.ref tl), some (.int (nI cap)), some (.int (nI thr)), some (.int (nI (2 * cap))), some (.int (nI (2 * thr))), some (.ref n133), some (.int (nI j)), some (.null), none, none, none, none, none] [] [[(h, .inr (23, [.null, .null, .ref n133, .null, .int (nI n), .int (nI md), .int (nI (2 * thr)), .float lfac]))], [(tl, .inl (g.2.1 6, cap, .inr (.inr (.inr (.inr (ctb tab j))))))], [(n133, .inl (g.2.1 6, 2 * cap, .inr (.inr (.inr (.inr ntab)))))], w1, wj, w2] (12 * cap - 12 * j) (48 * cap - 48 * j) from ?_)
        rw [c164] at hbj
        have hte := hbj.none
        have hwe := hbj.wn
        subst hwe
        refine (show Go g κ 347 [some (.ref h), some (.ref tl), some (.int (nI cap)), some (.int (nI thr)), some (.int (nI (2 * cap))), some (.int (nI (2 * thr))), some (.ref n133), some (.int (nI j)), some (.null), none, none, none, none, none] [] [[(h, .inr (23, [.null, .null, .ref n133, .null, .int (nI n), .int (nI md), .int (nI (2 * thr)), .float lfac]))], [(tl, .inl (g.2.1 6, cap, .inr (.inr (.inr (.inr (ctb tab j))))))], [(n133, .inl (g.2.1 6, 2 * cap, .inr (.inr (.inr (.inr ntab)))))], w1, ([] : va_W), w2] (12 * cap - 12 * j) (48 * cap - 48 * j) from ?_)
        refine g_pk [0, 0, 0, 0, 1] rfl rfl ?_
        refine (show Go g κ 347 [some (.ref h), some (.ref tl), some (.int (nI cap)), some (.int (nI thr)), some (.int (nI (2 * cap))), some (.int (nI (2 * thr))), some (.ref n133), some (.int (nI j)), some (.null), none, none, none, none, none] [] [[(h, .inr (23, [.null, .null, .ref n133, .null, .int (nI n), .int (nI md), .int (nI (2 * thr)), .float lfac]))], [(tl, .inl (g.2.1 6, cap, .inr (.inr (.inr (.inr (ctb tab j))))))], [(n133, .inl (g.2.1 6, 2 * cap, .inr (.inr (.inr (.inr ntab)))))], w1, w2] (12 * cap - 12 * j) (48 * cap - 48 * j) from ?_)
        obtain ⟨wc_1, ewc_1⟩ : ∃ w : va_W, w = ([] : List va_W).flatten := ⟨_, rfl⟩
        have hwc_1 : BinP g bm none ((tf j).filter (fun t => lob cap t.1)) wc_1 := by
          rw [ewc_1]
          exact by rw [hte]; exact BinP.nil
        refine g_close (w := wc_1) [] rfl ewc_1 rfl ?_
        refine (show Go g κ 347 [some (.ref h), some (.ref tl), some (.int (nI cap)), some (.int (nI thr)), some (.int (nI (2 * cap))), some (.int (nI (2 * thr))), some (.ref n133), some (.int (nI j)), some (.null), none, none, none, none, none] [] [[(h, .inr (23, [.null, .null, .ref n133, .null, .int (nI n), .int (nI md), .int (nI (2 * thr)), .float lfac]))], [(tl, .inl (g.2.1 6, cap, .inr (.inr (.inr (.inr (ctb tab j))))))], [(n133, .inl (g.2.1 6, 2 * cap, .inr (.inr (.inr (.inr ntab)))))], w1, w2, wc_1] (12 * cap - 12 * j) (48 * cap - 48 * j) from ?_)
        obtain ⟨wc_2, ewc_2⟩ : ∃ w : va_W, w = ([] : List va_W).flatten := ⟨_, rfl⟩
        have hwc_2 : BinP g bm none ((tf j).filter (fun t => !lob cap t.1)) wc_2 := by
          rw [ewc_2]
          exact by rw [hte]; exact BinP.nil
        refine g_close (w := wc_2) [] rfl ewc_2 rfl ?_
        refine (show Go g κ 347 [some (.ref h), some (.ref tl), some (.int (nI cap)), some (.int (nI thr)), some (.int (nI (2 * cap))), some (.int (nI (2 * thr))), some (.ref n133), some (.int (nI j)), some (.null), none, none, none, none, none] [] [[(h, .inr (23, [.null, .null, .ref n133, .null, .int (nI n), .int (nI md), .int (nI (2 * thr)), .float lfac]))], [(tl, .inl (g.2.1 6, cap, .inr (.inr (.inr (.inr (ctb tab j))))))], [(n133, .inl (g.2.1 6, 2 * cap, .inr (.inr (.inr (.inr ntab)))))], w1, w2, wc_1, wc_2] (12 * cap - 12 * j) (48 * cap - 48 * j) from ?_)
        rw [ctb_n c164]
        refine (show Go g κ 347 [some (.ref h), some (.ref tl), some (.int (nI cap)), some (.int (nI thr)), some (.int (nI (2 * cap))), some (.int (nI (2 * thr))), some (.ref n133), some (.int (nI j)), some (.null), none, none, none, none, none] [] [[(h, .inr (23, [.null, .null, .ref n133, .null, .int (nI n), .int (nI md), .int (nI (2 * thr)), .float lfac]))], [(tl, .inl (g.2.1 6, cap, .inr (.inr (.inr (.inr (ctb tab (j + 1)))))))], [(n133, .inl (g.2.1 6, 2 * cap, .inr (.inr (.inr (.inr ntab)))))], w1, w2, wc_1, wc_2] (12 * cap - 12 * j) (48 * cap - 48 * j) from ?_)
        rw [show ntab = va_up (va_up ntab j none) (j + cap) none from by
          first
          | rfl
          | (rw [up_same (f := ntab) (b := j) (x := none) (hnn j (by omega) (by omega)).1, up_same (f := ntab) (b := j + cap) (x := none) (hnn j (by omega) (by omega)).2])
          | (rw [up_same (f := ntab) (b := j) (x := none) (hnn j (by omega) (by omega)).1])
          | (rw [up_same (f := va_up ntab j none) (b := j + cap) (x := none) (by show (if j + cap = j then none else ntab (j + cap)) = none; rw [if_neg (by omega)]; exact (hnn j (by omega) (by omega)).2)])]
        refine (show Go g κ 347 [some (.ref h), some (.ref tl), some (.int (nI cap)), some (.int (nI thr)), some (.int (nI (2 * cap))), some (.int (nI (2 * thr))), some (.ref n133), some (.int (nI j)), some (.null), none, none, none, none, none] [] [[(h, .inr (23, [.null, .null, .ref n133, .null, .int (nI n), .int (nI md), .int (nI (2 * thr)), .float lfac]))], [(tl, .inl (g.2.1 6, cap, .inr (.inr (.inr (.inr (ctb tab (j + 1)))))))], [(n133, .inl (g.2.1 6, 2 * cap, .inr (.inr (.inr (.inr (va_up (va_up ntab j none) (j + cap) none))))))], w1, w2, wc_1, wc_2] (12 * cap - 12 * j) (48 * cap - 48 * j) from ?_)
        obtain ⟨wc_3, ewc_3⟩ : ∃ w : va_W, w = ([w1, wc_1, wc_2, w2] : List va_W).flatten := ⟨_, rfl⟩
        have hwc_3 : RzP g bm cap (j + 1) tab (va_up (va_up ntab j none) (j + cap) none) tf wc_3 := by
          rw [ewc_3]
          exact hcl _ _ _ _ hwc_1 hwc_2
        refine g_close (w := wc_3) [3, 4, 4, 3] rfl ewc_3 rfl ?_
        refine (show Go g κ 347 [some (.ref h), some (.ref tl), some (.int (nI cap)), some (.int (nI thr)), some (.int (nI (2 * cap))), some (.int (nI (2 * thr))), some (.ref n133), some (.int (nI j)), some (.null), none, none, none, none, none] [] [[(h, .inr (23, [.null, .null, .ref n133, .null, .int (nI n), .int (nI md), .int (nI (2 * thr)), .float lfac]))], [(tl, .inl (g.2.1 6, cap, .inr (.inr (.inr (.inr (ctb tab (j + 1)))))))], [(n133, .inl (g.2.1 6, 2 * cap, .inr (.inr (.inr (.inr (va_up (va_up ntab j none) (j + cap) none))))))], wc_3] (12 * cap - 12 * j) (48 * cap - 48 * j) from ?_)
        refine g_iinc (v := nI (j + 1)) (q := 350) (lv2 := [some (.ref h), some (.ref tl), some (.int (nI cap)), some (.int (nI thr)), some (.int (nI (2 * cap))), some (.int (nI (2 * thr))), some (.ref n133), some (.int (nI (j + 1))), some (.null), none, none, none, none, none]) B dJ4_resize_347 rfl rfl (nI_add _ 1) (Nat.le_of_ble_eq_true rfl) rfl ?_
        refine g_goto (tgt := 151) B dJ4_resize_350 (by decide) ?_
        refine g_fg 8 rfl ?_
        refine g_room (kc2 := 12 * cap - 12 * (j + 1)) (ks2 := 48 * cap - 48 * (j + 1)) (by omega) (by omega) ?_
        exact ih151 _ (by omega) (j + 1) (va_up (va_up ntab j none) (j + cap) none) wc_3 hwc_3 (by omega) (fun b h1 h2 => by
            have z := hnn b (by omega) h2
            unfold va_up
            rw [if_neg (by omega), if_neg (by omega), if_neg (by omega), if_neg (by omega)]
            exact z) rfl
      · skip
        rw [c164]
        refine (show Go g κ 167 [some (.ref h), some (.ref tl), some (.int (nI cap)), some (.int (nI thr)), some (.int (nI (2 * cap))), some (.int (nI (2 * thr))), some (.ref n133), some (.int (nI j)), some (.ref tabj_a164), none, none, none, none, none] [] [[(h, .inr (23, [.null, .null, .ref n133, .null, .int (nI n), .int (nI md), .int (nI (2 * thr)), .float lfac]))], [(tl, .inl (g.2.1 6, cap, .inr (.inr (.inr (.inr (ctb tab j))))))], [(n133, .inl (g.2.1 6, 2 * cap, .inr (.inr (.inr (.inr ntab)))))], l151_3] (12 * cap - 12 * j) (48 * cap - 48 * j) from ?_)
        refine g_aload_n (q := 168) B dJ4_resize_167 rfl rfl (rv_r _) ?_
        refine g_iload (q := 170) B dJ4_resize_168 rfl rfl ?_
        refine g_aconst_null (q := 171) B dJ4_resize_170 rfl ?_
        refine g_astN (q := 172) (L2 := [[(h, .inr (23, [.null, .null, .ref n133, .null, .int (nI n), .int (nI md), .int (nI (2 * thr)), .float lfac]))], [(tl, .inl (g.2.1 6, cap, .inr (.inr (.inr (.inr (ctb tab (j + 1)))))))], [(n133, .inl (g.2.1 6, 2 * cap, .inr (.inr (.inr (.inr ntab)))))], l151_3]) B (k := 1) (t := 6) dJ4_resize_171 rfl rfl rfl (vp_in_nI (by omega) (by omega)) (by rw [nI_clamp (by omega), ctb_s] <;> rfl) ?_
        obtain ⟨w1, wj, w2, hbj, hcl, rfl⟩ := rz_op hl151_3 (by omega)
        refine g_open 3 rfl rfl rfl ?_
        refine (show Go g κ 172 [some (.ref h), some (.ref tl), some (.int (nI cap)), some (.int (nI thr)), some (.int (nI (2 * cap))), some (.int (nI (2 * thr))), some (.ref n133), some (.int (nI j)), some (.ref tabj_a164), none, none, none, none, none] [] [[(h, .inr (23, [.null, .null, .ref n133, .null, .int (nI n), .int (nI md), .int (nI (2 * thr)), .float lfac]))], [(tl, .inl (g.2.1 6, cap, .inr (.inr (.inr (.inr (ctb tab (j + 1)))))))], [(n133, .inl (g.2.1 6, 2 * cap, .inr (.inr (.inr (.inr ntab)))))], w1, wj, w2] (12 * cap - 12 * j) (48 * cap - 48 * j) from ?_)
        rw [c164] at hbj
        have hplj := hpl j (by omega)
        have hdjj := hdj j (by omega)
        have htnj := htn j (by omega)
        have hbj0 := hbj
        rcases hbj with ⟨ns, cs, hs, ky, vl, nx, hwj, hC, hN, hM, hpm, hlb0⟩ | ⟨ns, cs, hs, ky, vl, nx, pp, lf, rg, pv, rd, lo, hi, root, hwj, hC, hN, hM, hpm, hP, hT, hb10⟩
        · skip
          obtain ⟨ct, hcs⟩ : ∃ ct, cs = tabj_a164 :: ct := by
            cases cs with
            | nil => exact absurd hC (by simp [Ch])
            | cons z t => obtain ⟨q, -⟩ := hC; cases q; exact ⟨t, rfl⟩
          have hem : tabj_a164 ∈ ns := (hM _).mp (by rw [hcs]; simp)
          have hmem : ∀ a ∈ ns, (hs a, ky a, vl a) ∈ tf j := fun a ha => hpm.mem_iff.mpr (List.mem_map.mpr ⟨a, (hM a).mpr ha, rfl⟩)
          have hij : ∀ a ∈ ns, ∀ b ∈ ns, hs a = hs b → a = b := fun a ha b hb he => by
            have z : ((cs.map fun a => (hs a, ky a, vl a)).map (·.1)).Nodup := ((hpm.map (·.1)).nodup_iff).mp hdjj
            rw [List.map_map] at z
            exact nd_inj z ((hM a).mpr ha) ((hM b).mpr hb) he
          have hixs : ∀ a ∈ ns, hU (hs a) % cap = j := fun a ha => hplj _ (hmem a ha)
          have hcl2 : cs.length < 100000 := by have := hpm.length_eq; rw [List.length_map] at this; omega
          refine (show Go g κ 172 [some (.ref h), some (.ref tl), some (.int (nI cap)), some (.int (nI thr)), some (.int (nI (2 * cap))), some (.int (nI (2 * thr))), some (.ref n133), some (.int (nI j)), some (.ref tabj_a164), none, none, none, none, none] [] [[(h, .inr (23, [.null, .null, .ref n133, .null, .int (nI n), .int (nI md), .int (nI (2 * thr)), .float lfac]))], [(tl, .inl (g.2.1 6, cap, .inr (.inr (.inr (.inr (ctb tab (j + 1)))))))], [(n133, .inl (g.2.1 6, 2 * cap, .inr (.inr (.inr (.inr ntab)))))], w1, wj, w2] (12 * cap - 12 * j) (48 * cap - 48 * j) from ?_)
          refine g_aload (q := 174) B dJ4_resize_172 rfl rfl (rv_r _) ?_
          refine g_getM (v := va_rf (nx tabj_a164)) (q := 177) B (ci := 24) (k := 4) (j := 3) in_J38 rfl dJ4_resize_174 rfl rfl (NodG.mem hwj hem) (Nat.le_of_ble_eq_true rfl) q1693 rfl rfl ?_
          refine g_ifnonnull_o (tgt := 198) (q := 180) B dJ4_resize_177 rfl (by decide) (fun nxtabj_a177 c177 => ?_) (fun c177 => ?_)
          · skip
            refine g_aload (q := 200) B dJ4_resize_198 rfl rfl (rv_r _) ?_
            refine g_instRNo (q := 203) B (rc_in B (ci := 24) rfl (k := 4) rfl ⟨_, NodG.mem hwj hem⟩) dJ4_resize_200 rfl q1408 nc_177 ?_
            refine g_if_eq (tgt := 223) (q := 206) B dJ4_resize_203 rfl (by decide) (iff_true_intro (by decide)) (fun _ => ?_) (fun z => absurd trivial z)
            refine g_aconst_null (q := 224) B dJ4_resize_223 rfl ?_
            refine g_astore (q := 226) (lv2 := [some (.ref h), some (.ref tl), some (.int (nI cap)), some (.int (nI thr)), some (.int (nI (2 * cap))), some (.int (nI (2 * thr))), some (.ref n133), some (.int (nI j)), some (.ref tabj_a164), some (.null), none, none, none, none]) B dJ4_resize_224 rfl (Nat.le_of_ble_eq_true rfl) rv_n rfl ?_
            refine g_aconst_null (q := 227) B dJ4_resize_226 rfl ?_
            refine g_astore (q := 229) (lv2 := [some (.ref h), some (.ref tl), some (.int (nI cap)), some (.int (nI thr)), some (.int (nI (2 * cap))), some (.int (nI (2 * thr))), some (.ref n133), some (.int (nI j)), some (.ref tabj_a164), some (.null), some (.null), none, none, none]) B dJ4_resize_227 rfl (Nat.le_of_ble_eq_true rfl) rv_n rfl ?_
            refine g_aconst_null (q := 230) B dJ4_resize_229 rfl ?_
            refine g_astore (q := 232) (lv2 := [some (.ref h), some (.ref tl), some (.int (nI cap)), some (.int (nI thr)), some (.int (nI (2 * cap))), some (.int (nI (2 * thr))), some (.ref n133), some (.int (nI j)), some (.ref tabj_a164), some (.null), some (.null), some (.null), none, none]) B dJ4_resize_230 rfl (Nat.le_of_ble_eq_true rfl) rv_n rfl ?_
            refine g_aconst_null (q := 233) B dJ4_resize_232 rfl ?_
            refine g_astore (q := 235) (lv2 := [some (.ref h), some (.ref tl), some (.int (nI cap)), some (.int (nI thr)), some (.int (nI (2 * cap))), some (.int (nI (2 * thr))), some (.ref n133), some (.int (nI j)), some (.ref tabj_a164), some (.null), some (.null), some (.null), some (.null), none]) B dJ4_resize_233 rfl (Nat.le_of_ble_eq_true rfl) rv_n rfl ?_
            have lp235 : ∀ (n235 : Nat) (us : List Nat) (x : Nat) (vt : List Nat) (los : List Nat) (his : List Nat) (nx : Nat → Option Nat) (lh : Option Nat) (lt : Option Nat) (ch : Option Nat) (ct : Option Nat) (l235_4 : va_W), NodG g ns hs ky vl nx l235_4 → (cs = us ++ x :: vt) → (los = us.filter (fun a => lob cap (hs a))) → (his = us.filter (fun a => !lob cap (hs a))) → (Ch nx (nx x) vt) → (Ch (cutl nx lt) lh los) → (Ch (cutl nx ct) ch his) → (los.getLast? = lt) → (his.getLast? = ct) → vt.length = n235 → Go g κ 235 [some (.ref h), some (.ref tl), some (.int (nI cap)), some (.int (nI thr)), some (.int (nI (2 * cap))), some (.int (nI (2 * thr))), some (.ref n133), some (.int (nI j)), some (.ref x), some (va_rf lh), some (va_rf lt), some (va_rf ch), some (va_rf ct), none] [] [[(h, .inr (23, [.null, .null, .ref n133, .null, .int (nI n), .int (nI md), .int (nI (2 * thr)), .float lfac]))], [(tl, .inl (g.2.1 6, cap, .inr (.inr (.inr (.inr (ctb tab (j + 1)))))))], [(n133, .inl (g.2.1 6, 2 * cap, .inr (.inr (.inr (.inr ntab)))))], w1, l235_4, w2] (12 * cap - 12 * j) (48 * cap - 48 * j) := by
              intro n235
              induction n235 using Nat.strongRecOn with
              | _ n235 ih235 =>
              intro us x vt los his nx lh lt ch ct l235_4 hl235_4 hcs2 hlos hhis hV hL hH hlt hct hmu235
              have hN2 := hN
              rw [hcs2] at hN2
              have hN3 := nd_mid hN2
              have hxu : x ∉ us := fun e => (List.nodup_cons.mp hN3).1 (List.mem_append_left _ e)
              have hxv : x ∉ vt := fun e => (List.nodup_cons.mp hN3).1 (List.mem_append_right _ e)
              have hxm : x ∈ ns := (hM x).mp (by rw [hcs2]; simp)
              have hxl : x ∉ los := fun e => hxu (by rw [hlos] at e; exact (List.mem_filter.mp e).1)
              have hxh : x ∉ his := fun e => hxu (by rw [hhis] at e; exact (List.mem_filter.mp e).1)
              have huv : ∀ b ∈ us, b ∉ vt := fun b hb hv => by
                have := (List.nodup_cons.mp hN3).2
                rw [List.nodup_append] at this
                exact this.2.2 b hb b hv rfl
              have hlm : ∀ b ∈ los, b ∈ us ∧ lob cap (hs b) = true := fun b hb => by rw [hlos] at hb; exact List.mem_filter.mp hb
              have hhm : ∀ b ∈ his, b ∈ us ∧ lob cap (hs b) = false := fun b hb => by rw [hhis] at hb; have := List.mem_filter.mp hb; exact ⟨this.1, by simpa using this.2⟩
              have hum : ∀ b ∈ us, b ∈ ns := fun b hb => (hM b).mp (by rw [hcs2]; simp [hb])
              have hlnd : los.Nodup := by rw [hlos]; exact (List.nodup_append.mp hN2).1.filter _
              have hhnd : his.Nodup := by rw [hhis]; exact (List.nodup_append.mp hN2).1.filter _
              refine g_aload (q := 237) B dJ4_resize_235 rfl rfl (rv_r _) ?_
              refine g_getM (v := va_rf (nx x)) (q := 240) B (ci := 24) (k := 4) (j := 3) in_J38 rfl dJ4_resize_237 rfl rfl (NodG.mem hl235_4 hxm) (Nat.le_of_ble_eq_true rfl) q1693 rfl rfl ?_
              refine g_astore (q := 242) (lv2 := [some (.ref h), some (.ref tl), some (.int (nI cap)), some (.int (nI thr)), some (.int (nI (2 * cap))), some (.int (nI (2 * thr))), some (.ref n133), some (.int (nI j)), some (.ref x), some (va_rf lh), some (va_rf lt), some (va_rf ch), some (va_rf ct), some (va_rf (nx x))]) B dJ4_resize_240 rfl (Nat.le_of_ble_eq_true rfl) (rv_o _) (by simp only [lst1, lclr_o]; try rfl) ?_
              refine g_aload (q := 244) B dJ4_resize_242 rfl rfl (rv_r _) ?_
              refine g_getM (v := .int (hs x)) (q := 247) B (ci := 24) (k := 4) (j := 0) in_J38 rfl dJ4_resize_244 rfl rfl (NodG.mem hl235_4 hxm) (Nat.le_of_ble_eq_true rfl) q1680 rfl rfl ?_
              refine g_iload_n (q := 248) B dJ4_resize_247 rfl rfl ?_
              refine g_iand (v := hs x &&& nI cap) (q := 249) B dJ4_resize_248 rfl rfl ?_
              refine g_if_ne (tgt := 278) (q := 252) B dJ4_resize_249 rfl (by decide) (Iff.rfl) (fun c249 => ?_) (fun c249 => ?_)
              · skip
                refine g_aload (q := 280) B dJ4_resize_278 rfl rfl (rv_o _) ?_
                refine g_ifnonnull_o (tgt := 290) (q := 283) B dJ4_resize_280 rfl (by decide) (fun ct_a280 c280 => ?_) (fun c280 => ?_)
                · skip
                  subst c280
                  have htl : ct_a280 ∈ his := gl_mem hct
                  have htn2 : ct_a280 ∈ ns := hum _ (hhm _ htl).1
                  have hte : ct_a280 ≠ x := fun e => hxu (e ▸ (hhm _ htl).1)
                  refine g_aload (q := 292) B dJ4_resize_290 rfl rfl (rv_r _) ?_
                  refine g_aload (q := 294) B dJ4_resize_292 rfl rfl (rv_r _) ?_
                  refine g_putNodG3 (q := 297) (k := 4) (x := some x) B hl235_4 htn2 dJ4_resize_294 rfl rfl q1693 (Or.inl rfl) (fun wa_4_294 hwa_4_294 => ?_)
                  refine (show Go g κ 297 [some (.ref h), some (.ref tl), some (.int (nI cap)), some (.int (nI thr)), some (.int (nI (2 * cap))), some (.int (nI (2 * thr))), some (.ref n133), some (.int (nI j)), some (.ref x), some (va_rf lh), some (va_rf lt), some (va_rf ch), some (.ref ct_a280), some (va_rf (nx x))] [] [[(h, .inr (23, [.null, .null, .ref n133, .null, .int (nI n), .int (nI md), .int (nI (2 * thr)), .float lfac]))], [(tl, .inl (g.2.1 6, cap, .inr (.inr (.inr (.inr (ctb tab (j + 1)))))))], [(n133, .inl (g.2.1 6, 2 * cap, .inr (.inr (.inr (.inr ntab)))))], w1, wa_4_294, w2] (12 * cap - 12 * j) (48 * cap - 48 * j) from ?_)
                  refine g_aload (q := 299) B dJ4_resize_297 rfl rfl (rv_r _) ?_
                  refine g_astore (q := 301) (lv2 := [some (.ref h), some (.ref tl), some (.int (nI cap)), some (.int (nI thr)), some (.int (nI (2 * cap))), some (.int (nI (2 * thr))), some (.ref n133), some (.int (nI j)), some (.ref x), some (va_rf lh), some (va_rf lt), some (va_rf ch), some (.ref x), some (va_rf (nx x))]) B dJ4_resize_299 rfl (Nat.le_of_ble_eq_true rfl) (rv_r _) (by simp only [lst1, lclr_o]; try rfl) ?_
                  refine g_aload (q := 303) B dJ4_resize_301 rfl rfl (rv_o _) ?_
                  refine g_dup (q := 304) B dJ4_resize_303 rfl (rv_c (rv_o _)) ?_
                  refine g_astore (q := 306) (lv2 := [some (.ref h), some (.ref tl), some (.int (nI cap)), some (.int (nI thr)), some (.int (nI (2 * cap))), some (.int (nI (2 * thr))), some (.ref n133), some (.int (nI j)), some (va_rf (nx x)), some (va_rf lh), some (va_rf lt), some (va_rf ch), some (.ref x), some (va_rf (nx x))]) B dJ4_resize_304 rfl (Nat.le_of_ble_eq_true rfl) (rv_o _) rfl ?_
                  refine g_ifnonnull_o (tgt := 235) (q := 309) B dJ4_resize_306 rfl (by decide) (fun nxx_a306 c306 => ?_) (fun c306 => ?_)
                  · skip
                    rw [c306]
                    refine (show Go g κ 235 [some (.ref h), some (.ref tl), some (.int (nI cap)), some (.int (nI thr)), some (.int (nI (2 * cap))), some (.int (nI (2 * thr))), some (.ref n133), some (.int (nI j)), some (.ref nxx_a306), some (va_rf lh), some (va_rf lt), some (va_rf ch), some (.ref x), some (.ref nxx_a306)] [] [[(h, .inr (23, [.null, .null, .ref n133, .null, .int (nI n), .int (nI md), .int (nI (2 * thr)), .float lfac]))], [(tl, .inl (g.2.1 6, cap, .inr (.inr (.inr (.inr (ctb tab (j + 1)))))))], [(n133, .inl (g.2.1 6, 2 * cap, .inr (.inr (.inr (.inr ntab)))))], w1, wa_4_294, w2] (12 * cap - 12 * j) (48 * cap - 48 * j) from ?_)
                    refine g_fg 13 rfl ?_
                    obtain ⟨v2, hv2⟩ : ∃ v2, vt = nxx_a306 :: v2 := by
                      have zz := hV
                      rw [c306] at zz
                      cases vt with
                      | nil => exact absurd zz (by simp [Ch])
                      | cons q t => obtain ⟨e, -⟩ := zz; cases e; exact ⟨t, rfl⟩
                    subst hv2
                    have hVz : Ch nx (nx nxx_a306) v2 := (by have zz := hV; rw [c306] at zz; exact zz.2)
                    have hznt : ∀ q ∈ us, nxx_a306 ≠ q := fun q hq e => huv q hq (by rw [← e]; simp)
                    exact ih235 _ (by rw [← hmu235]; simp) (us ++ [x]) nxx_a306 v2 los (his ++ [x]) (fup nx ct_a280 (some x)) lh lt ch (some x) wa_4_294 hwa_4_294 (by rw [hcs2]; simp) (by rw [List.filter_append, ← hlos]; simp [lob, c249]) (by rw [List.filter_append, ← hhis]; simp [lob, c249]) (by rw [fup_n (hznt _ (hhm _ htl).1)]; exact ch_congr hVz (fun b hb => fup_n (fun (e : b = ct_a280) => huv _ (hhm _ htl).1 (e ▸ List.mem_cons_of_mem _ hb)))) (cu_oth hL (fun b hb e => by have z1 := (hhm _ htl).2; have z2 := (hlm b hb).2; rw [e] at z2; rw [z1] at z2; cases z2)) (cu_sn hH hhnd hxh hct) (hlt) (gl_snoc) rfl
                  · skip
                    rw [c306]
                    refine (show Go g κ 309 [some (.ref h), some (.ref tl), some (.int (nI cap)), some (.int (nI thr)), some (.int (nI (2 * cap))), some (.int (nI (2 * thr))), some (.ref n133), some (.int (nI j)), some (.null), some (va_rf lh), some (va_rf lt), some (va_rf ch), some (.ref x), some (.null)] [] [[(h, .inr (23, [.null, .null, .ref n133, .null, .int (nI n), .int (nI md), .int (nI (2 * thr)), .float lfac]))], [(tl, .inl (g.2.1 6, cap, .inr (.inr (.inr (.inr (ctb tab (j + 1)))))))], [(n133, .inl (g.2.1 6, 2 * cap, .inr (.inr (.inr (.inr ntab)))))], w1, wa_4_294, w2] (12 * cap - 12 * j) (48 * cap - 48 * j) from ?_)
                    have hve : vt = [] := by
                      have zz := ch_head hV
                      rw [c306] at zz
                      exact List.head?_eq_none_iff.mp zz.symm
                    subst hve
                    have fL : Ch (cutl (fup nx ct_a280 (some x)) lt) lh los := cu_oth hL (fun b hb e => by have z1 := (hhm _ htl).2; have z2 := (hlm b hb).2; rw [e] at z2; rw [z1] at z2; cases z2)
                    have fH : Ch (cutl (fup nx ct_a280 (some x)) (some x)) ch (his ++ [x]) := cu_sn hH hhnd hxh hct
                    have flt : los.getLast? = lt := hlt
                    have fct : (his ++ [x]).getLast? = some x := gl_snoc
                    have flo : los = cs.filter (fun a => lob cap (hs a)) := by rw [hcs2, show us ++ [x] = us ++ [x] from rfl]; exact by rw [List.filter_append, ← hlos]; simp [lob, c249]
                    have fhi : (his ++ [x]) = cs.filter (fun a => !lob cap (hs a)) := by rw [hcs2]; exact by rw [List.filter_append, ← hhis]; simp [lob, c249]
                    rw [flo] at fL flt
                    rw [fhi] at fH fct
                    refine g_aload (q := 311) B dJ4_resize_309 rfl rfl (rv_o _) ?_
                    refine g_ifnull_o (tgt := 327) (q := 314) B dJ4_resize_311 rfl (by decide) (fun c311 => ?_) (fun lt_a311 c311 => ?_)
                    · skip
                      subst c311
                      refine g_aload (q := 329) B dJ4_resize_327 rfl rfl (rv_r _) ?_
                      refine g_ifnull_r (q := 332) B dJ4_resize_329 rfl ?_
                      refine g_aload (q := 334) B dJ4_resize_332 rfl rfl (rv_r _) ?_
                      refine g_aconst_null (q := 335) B dJ4_resize_334 rfl ?_
                      refine g_putNodG3 (q := 338) (k := 4) (x := none) B hwa_4_294 hxm dJ4_resize_335 rfl rfl q1693 (Or.inl rfl) (fun wa_5_335 hwa_5_335 => ?_)
                      refine (show Go g κ 338 [some (.ref h), some (.ref tl), some (.int (nI cap)), some (.int (nI thr)), some (.int (nI (2 * cap))), some (.int (nI (2 * thr))), some (.ref n133), some (.int (nI j)), some (.null), some (va_rf lh), some (.null), some (va_rf ch), some (.ref x), some (.null)] [] [[(h, .inr (23, [.null, .null, .ref n133, .null, .int (nI n), .int (nI md), .int (nI (2 * thr)), .float lfac]))], [(tl, .inl (g.2.1 6, cap, .inr (.inr (.inr (.inr (ctb tab (j + 1)))))))], [(n133, .inl (g.2.1 6, 2 * cap, .inr (.inr (.inr (.inr ntab)))))], w1, wa_5_335, w2] (12 * cap - 12 * j) (48 * cap - 48 * j) from ?_)
                      obtain ⟨hdH, hhdH⟩ : ∃ q, ch = some q := by
                        cases e : ch with
                        | some q => exact ⟨q, rfl⟩
                        | none =>
                          have zz := ch_head fH
                          rw [e] at zz
                          rw [List.head?_eq_none_iff.mp zz.symm] at fct
                          cases fct
                      subst hhdH
                      refine (show Go g κ 338 [some (.ref h), some (.ref tl), some (.int (nI cap)), some (.int (nI thr)), some (.int (nI (2 * cap))), some (.int (nI (2 * thr))), some (.ref n133), some (.int (nI j)), some (.null), some (va_rf lh), some (.null), some (.ref hdH), some (.ref x), some (.null)] [] [[(h, .inr (23, [.null, .null, .ref n133, .null, .int (nI n), .int (nI md), .int (nI (2 * thr)), .float lfac]))], [(tl, .inl (g.2.1 6, cap, .inr (.inr (.inr (.inr (ctb tab (j + 1)))))))], [(n133, .inl (g.2.1 6, 2 * cap, .inr (.inr (.inr (.inr ntab)))))], w1, wa_5_335, w2] (12 * cap - 12 * j) (48 * cap - 48 * j) from ?_)
                      have hzH : hdH ∈ ns := (hM _).mp (List.mem_filter.mp (List.mem_of_mem_head? (show hdH ∈ (cs.filter (fun a => !lob cap (hs a))).head? by rw [← ch_head fH]; rfl))).1
                      refine g_aload (q := 340) B dJ4_resize_338 rfl rfl (rv_r _) ?_
                      refine g_iload (q := 342) B dJ4_resize_340 rfl rfl ?_
                      refine g_iload_n (q := 343) B dJ4_resize_342 rfl rfl ?_
                      refine g_iadd (v := nI (j + cap)) (q := 344) B dJ4_resize_343 rfl (nI_add _ _) ?_
                      refine g_aload (q := 346) B dJ4_resize_344 rfl rfl (rv_r _) ?_
                      refine g_astO (q := 347) (L2 := [[(h, .inr (23, [.null, .null, .ref n133, .null, .int (nI n), .int (nI md), .int (nI (2 * thr)), .float lfac]))], [(tl, .inl (g.2.1 6, cap, .inr (.inr (.inr (.inr (ctb tab (j + 1)))))))], [(n133, .inl (g.2.1 6, 2 * cap, .inr (.inr (.inr (.inr (va_up ntab (j + cap) (some hdH)))))))], w1, wa_5_335, w2]) B (k := 2) (t := 6) (C := "java/util/HashMap$Node") (rc_in B (ci := 24) rfl (k := 4) rfl ⟨_, NodG.mem hwa_5_335 hzH⟩) as_s dJ4_resize_346 rfl rfl rfl (vp_in_nI (by omega) (by omega)) (by rw [nI_clamp (by omega)] <;> rfl) ?_
                      have hl0 : lh = none := by have zz := fL; rw [gl_none flt] at zz; exact zz
                      subst hl0
                      refine (show Go g κ 347 [some (.ref h), some (.ref tl), some (.int (nI cap)), some (.int (nI thr)), some (.int (nI (2 * cap))), some (.int (nI (2 * thr))), some (.ref n133), some (.int (nI j)), some (.null), some (.null), some (.null), some (.ref hdH), some (.ref x), some (.null)] [] [[(h, .inr (23, [.null, .null, .ref n133, .null, .int (nI n), .int (nI md), .int (nI (2 * thr)), .float lfac]))], [(tl, .inl (g.2.1 6, cap, .inr (.inr (.inr (.inr (ctb tab (j + 1)))))))], [(n133, .inl (g.2.1 6, 2 * cap, .inr (.inr (.inr (.inr (va_up ntab (j + cap) (some hdH)))))))], w1, wa_5_335, w2] (12 * cap - 12 * j) (48 * cap - 48 * j) from ?_)
                      have hdis : ∀ b ∈ cs.filter (fun a => lob cap (hs a)), b ∉ cs.filter (fun a => !lob cap (hs a)) := fun b hb hc => by have z1 := (List.mem_filter.mp hb).2; have z2 := (List.mem_filter.mp hc).2; simp [z1] at z2
                      have gL : Ch (fup (fup nx ct_a280 (some x)) x none) none (cs.filter (fun a => lob cap (hs a))) := cu_fL (nx := (fup nx ct_a280 (some x))) (lt := none) (ct := (some x)) fL (fun q e hq => hdis q hq (gl_mem (by rw [fct]; exact e)))
                      have gH : Ch (fup (fup nx ct_a280 (some x)) x none) (some hdH) (cs.filter (fun a => !lob cap (hs a))) := cu_fH (nx := (fup nx ct_a280 (some x))) (lt := none) (ct := (some x)) fH (fun q e hq => hdis q (gl_mem (by rw [flt]; exact e)) hq)
                      obtain ⟨wl, wh, hpt, hwl, hwh⟩ := NodG.part hwa_5_335 (fun a => lob cap (hs a))
                      refine g_spl 4 rfl hpt rfl ?_
                      refine (show Go g κ 347 [some (.ref h), some (.ref tl), some (.int (nI cap)), some (.int (nI thr)), some (.int (nI (2 * cap))), some (.int (nI (2 * thr))), some (.ref n133), some (.int (nI j)), some (.null), some (.null), some (.null), some (.ref hdH), some (.ref x), some (.null)] [] [[(h, .inr (23, [.null, .null, .ref n133, .null, .int (nI n), .int (nI md), .int (nI (2 * thr)), .float lfac]))], [(tl, .inl (g.2.1 6, cap, .inr (.inr (.inr (.inr (ctb tab (j + 1)))))))], [(n133, .inl (g.2.1 6, 2 * cap, .inr (.inr (.inr (.inr (va_up ntab (j + cap) (some hdH)))))))], w1, wl, w2, wh] (12 * cap - 12 * j) (48 * cap - 48 * j) from ?_)
                      have hlM : ∀ b, b ∈ cs.filter (fun a => lob cap (hs a)) ↔ b ∈ ns.filter (fun a => lob cap (hs a)) := fun b => by rw [List.mem_filter, List.mem_filter, hM b]
                      have hhM : ∀ b, b ∈ cs.filter (fun a => !lob cap (hs a)) ↔ b ∈ ns.filter (fun a => !lob cap (hs a)) := fun b => by rw [List.mem_filter, List.mem_filter, hM b]
                      obtain ⟨wc_6, ewc_6⟩ : ∃ w : va_W, w = ([wl] : List va_W).flatten := ⟨_, rfl⟩
                      have hwc_6 : BinP g bm none ((tf j).filter (fun t => lob cap t.1)) wc_6 := by
                        rw [ewc_6]
                        exact Or.inl ⟨_, cs.filter (fun a => lob cap (hs a)), hs, ky, vl, _, (by simpa using hwl), gL, hN.filter _, hlM, ft_map (p := fun h => lob cap h) hpm, Nat.le_trans (List.length_filter_le _ _) hlb0⟩
                      refine g_close (w := wc_6) [4] rfl ewc_6 rfl ?_
                      refine (show Go g κ 347 [some (.ref h), some (.ref tl), some (.int (nI cap)), some (.int (nI thr)), some (.int (nI (2 * cap))), some (.int (nI (2 * thr))), some (.ref n133), some (.int (nI j)), some (.null), some (.null), some (.null), some (.ref hdH), some (.ref x), some (.null)] [] [[(h, .inr (23, [.null, .null, .ref n133, .null, .int (nI n), .int (nI md), .int (nI (2 * thr)), .float lfac]))], [(tl, .inl (g.2.1 6, cap, .inr (.inr (.inr (.inr (ctb tab (j + 1)))))))], [(n133, .inl (g.2.1 6, 2 * cap, .inr (.inr (.inr (.inr (va_up ntab (j + cap) (some hdH)))))))], w1, w2, wh, wc_6] (12 * cap - 12 * j) (48 * cap - 48 * j) from ?_)
                      obtain ⟨wc_7, ewc_7⟩ : ∃ w : va_W, w = ([wh] : List va_W).flatten := ⟨_, rfl⟩
                      have hwc_7 : BinP g bm (some hdH) ((tf j).filter (fun t => !lob cap t.1)) wc_7 := by
                        rw [ewc_7]
                        exact Or.inl ⟨_, cs.filter (fun a => !lob cap (hs a)), hs, ky, vl, _, (by simpa using hwh), gH, hN.filter _, hhM, ft_map (p := fun h => !lob cap h) hpm, Nat.le_trans (List.length_filter_le _ _) hlb0⟩
                      refine g_close (w := wc_7) [5] rfl ewc_7 rfl ?_
                      refine (show Go g κ 347 [some (.ref h), some (.ref tl), some (.int (nI cap)), some (.int (nI thr)), some (.int (nI (2 * cap))), some (.int (nI (2 * thr))), some (.ref n133), some (.int (nI j)), some (.null), some (.null), some (.null), some (.ref hdH), some (.ref x), some (.null)] [] [[(h, .inr (23, [.null, .null, .ref n133, .null, .int (nI n), .int (nI md), .int (nI (2 * thr)), .float lfac]))], [(tl, .inl (g.2.1 6, cap, .inr (.inr (.inr (.inr (ctb tab (j + 1)))))))], [(n133, .inl (g.2.1 6, 2 * cap, .inr (.inr (.inr (.inr (va_up ntab (j + cap) (some hdH)))))))], w1, w2, wc_6, wc_7] (12 * cap - 12 * j) (48 * cap - 48 * j) from ?_)
                      rw [show va_up ntab (j + cap) (some hdH) = va_up (va_up ntab j none) (j + cap) (some hdH) from by
                        first
                        | rfl
                        | (rw [up_same (f := ntab) (b := j) (x := none) (hnn j (by omega) (by omega)).1, up_same (f := ntab) (b := j + cap) (x := none) (hnn j (by omega) (by omega)).2])
                        | (rw [up_same (f := ntab) (b := j) (x := none) (hnn j (by omega) (by omega)).1])
                        | (rw [up_same (f := va_up ntab j none) (b := j + cap) (x := none) (by show (if j + cap = j then none else ntab (j + cap)) = none; rw [if_neg (by omega)]; exact (hnn j (by omega) (by omega)).2)])]
                      refine (show Go g κ 347 [some (.ref h), some (.ref tl), some (.int (nI cap)), some (.int (nI thr)), some (.int (nI (2 * cap))), some (.int (nI (2 * thr))), some (.ref n133), some (.int (nI j)), some (.null), some (.null), some (.null), some (.ref hdH), some (.ref x), some (.null)] [] [[(h, .inr (23, [.null, .null, .ref n133, .null, .int (nI n), .int (nI md), .int (nI (2 * thr)), .float lfac]))], [(tl, .inl (g.2.1 6, cap, .inr (.inr (.inr (.inr (ctb tab (j + 1)))))))], [(n133, .inl (g.2.1 6, 2 * cap, .inr (.inr (.inr (.inr (va_up (va_up ntab j none) (j + cap) (some hdH)))))))], w1, w2, wc_6, wc_7] (12 * cap - 12 * j) (48 * cap - 48 * j) from ?_)
                      obtain ⟨wc_8, ewc_8⟩ : ∃ w : va_W, w = ([w1, wc_6, wc_7, w2] : List va_W).flatten := ⟨_, rfl⟩
                      have hwc_8 : RzP g bm cap (j + 1) tab (va_up (va_up ntab j none) (j + cap) (some hdH)) tf wc_8 := by
                        rw [ewc_8]
                        exact hcl _ _ _ _ hwc_6 hwc_7
                      refine g_close (w := wc_8) [3, 4, 4, 3] rfl ewc_8 rfl ?_
                      refine (show Go g κ 347 [some (.ref h), some (.ref tl), some (.int (nI cap)), some (.int (nI thr)), some (.int (nI (2 * cap))), some (.int (nI (2 * thr))), some (.ref n133), some (.int (nI j)), some (.null), some (.null), some (.null), some (.ref hdH), some (.ref x), some (.null)] [] [[(h, .inr (23, [.null, .null, .ref n133, .null, .int (nI n), .int (nI md), .int (nI (2 * thr)), .float lfac]))], [(tl, .inl (g.2.1 6, cap, .inr (.inr (.inr (.inr (ctb tab (j + 1)))))))], [(n133, .inl (g.2.1 6, 2 * cap, .inr (.inr (.inr (.inr (va_up (va_up ntab j none) (j + cap) (some hdH)))))))], wc_8] (12 * cap - 12 * j) (48 * cap - 48 * j) from ?_)
                      refine g_iinc (v := nI (j + 1)) (q := 350) (lv2 := [some (.ref h), some (.ref tl), some (.int (nI cap)), some (.int (nI thr)), some (.int (nI (2 * cap))), some (.int (nI (2 * thr))), some (.ref n133), some (.int (nI (j + 1))), some (.null), some (.null), some (.null), some (.ref hdH), some (.ref x), some (.null)]) B dJ4_resize_347 rfl rfl (nI_add _ 1) (Nat.le_of_ble_eq_true rfl) rfl ?_
                      refine g_goto (tgt := 151) B dJ4_resize_350 (by decide) ?_
                      refine g_fg 8 rfl ?_
                      refine g_fg 9 rfl ?_
                      refine g_fg 10 rfl ?_
                      refine g_fg 11 rfl ?_
                      refine g_fg 12 rfl ?_
                      refine g_fg 13 rfl ?_
                      refine g_room (kc2 := 12 * cap - 12 * (j + 1)) (ks2 := 48 * cap - 48 * (j + 1)) (by omega) (by omega) ?_
                      exact ih151 _ (by omega) (j + 1) (va_up (va_up ntab j none) (j + cap) (some hdH)) wc_8 hwc_8 (by omega) (fun b h1 h2 => by
                          have z := hnn b (by omega) h2
                          unfold va_up
                          rw [if_neg (by omega), if_neg (by omega), if_neg (by omega), if_neg (by omega)]
                          exact z) rfl
                    · skip
                      subst c311
                      have hqL : lt_a311 ∈ ns := (hM _).mp (List.mem_filter.mp (gl_mem flt)).1
                      refine g_aload (q := 316) B dJ4_resize_314 rfl rfl (rv_r _) ?_
                      refine g_aconst_null (q := 317) B dJ4_resize_316 rfl ?_
                      refine g_putNodG3 (q := 320) (k := 4) (x := none) B hwa_4_294 hqL dJ4_resize_317 rfl rfl q1693 (Or.inl rfl) (fun wa_9_317 hwa_9_317 => ?_)
                      refine (show Go g κ 320 [some (.ref h), some (.ref tl), some (.int (nI cap)), some (.int (nI thr)), some (.int (nI (2 * cap))), some (.int (nI (2 * thr))), some (.ref n133), some (.int (nI j)), some (.null), some (va_rf lh), some (.ref lt_a311), some (va_rf ch), some (.ref x), some (.null)] [] [[(h, .inr (23, [.null, .null, .ref n133, .null, .int (nI n), .int (nI md), .int (nI (2 * thr)), .float lfac]))], [(tl, .inl (g.2.1 6, cap, .inr (.inr (.inr (.inr (ctb tab (j + 1)))))))], [(n133, .inl (g.2.1 6, 2 * cap, .inr (.inr (.inr (.inr ntab)))))], w1, wa_9_317, w2] (12 * cap - 12 * j) (48 * cap - 48 * j) from ?_)
                      obtain ⟨hdL, hhdL⟩ : ∃ q, lh = some q := by
                        cases e : lh with
                        | some q => exact ⟨q, rfl⟩
                        | none =>
                          have zz := ch_head fL
                          rw [e] at zz
                          rw [List.head?_eq_none_iff.mp zz.symm] at flt
                          cases flt
                      subst hhdL
                      refine (show Go g κ 320 [some (.ref h), some (.ref tl), some (.int (nI cap)), some (.int (nI thr)), some (.int (nI (2 * cap))), some (.int (nI (2 * thr))), some (.ref n133), some (.int (nI j)), some (.null), some (.ref hdL), some (.ref lt_a311), some (va_rf ch), some (.ref x), some (.null)] [] [[(h, .inr (23, [.null, .null, .ref n133, .null, .int (nI n), .int (nI md), .int (nI (2 * thr)), .float lfac]))], [(tl, .inl (g.2.1 6, cap, .inr (.inr (.inr (.inr (ctb tab (j + 1)))))))], [(n133, .inl (g.2.1 6, 2 * cap, .inr (.inr (.inr (.inr ntab)))))], w1, wa_9_317, w2] (12 * cap - 12 * j) (48 * cap - 48 * j) from ?_)
                      have hzL : hdL ∈ ns := (hM _).mp (List.mem_filter.mp (List.mem_of_mem_head? (show hdL ∈ (cs.filter (fun a => lob cap (hs a))).head? by rw [← ch_head fL]; rfl))).1
                      refine g_aload (q := 322) B dJ4_resize_320 rfl rfl (rv_r _) ?_
                      refine g_iload (q := 324) B dJ4_resize_322 rfl rfl ?_
                      refine g_aload (q := 326) B dJ4_resize_324 rfl rfl (rv_r _) ?_
                      refine g_astO (q := 327) (L2 := [[(h, .inr (23, [.null, .null, .ref n133, .null, .int (nI n), .int (nI md), .int (nI (2 * thr)), .float lfac]))], [(tl, .inl (g.2.1 6, cap, .inr (.inr (.inr (.inr (ctb tab (j + 1)))))))], [(n133, .inl (g.2.1 6, 2 * cap, .inr (.inr (.inr (.inr (va_up ntab j (some hdL)))))))], w1, wa_9_317, w2]) B (k := 2) (t := 6) (C := "java/util/HashMap$Node") (rc_in B (ci := 24) rfl (k := 4) rfl ⟨_, NodG.mem hwa_9_317 hzL⟩) as_s dJ4_resize_326 rfl rfl rfl (vp_in_nI (by omega) (by omega)) (by rw [nI_clamp (by omega)] <;> rfl) ?_
                      refine g_aload (q := 329) B dJ4_resize_327 rfl rfl (rv_r _) ?_
                      refine g_ifnull_r (q := 332) B dJ4_resize_329 rfl ?_
                      refine g_aload (q := 334) B dJ4_resize_332 rfl rfl (rv_r _) ?_
                      refine g_aconst_null (q := 335) B dJ4_resize_334 rfl ?_
                      refine g_putNodG3 (q := 338) (k := 4) (x := none) B hwa_9_317 hxm dJ4_resize_335 rfl rfl q1693 (Or.inl rfl) (fun wa_10_335 hwa_10_335 => ?_)
                      refine (show Go g κ 338 [some (.ref h), some (.ref tl), some (.int (nI cap)), some (.int (nI thr)), some (.int (nI (2 * cap))), some (.int (nI (2 * thr))), some (.ref n133), some (.int (nI j)), some (.null), some (.ref hdL), some (.ref lt_a311), some (va_rf ch), some (.ref x), some (.null)] [] [[(h, .inr (23, [.null, .null, .ref n133, .null, .int (nI n), .int (nI md), .int (nI (2 * thr)), .float lfac]))], [(tl, .inl (g.2.1 6, cap, .inr (.inr (.inr (.inr (ctb tab (j + 1)))))))], [(n133, .inl (g.2.1 6, 2 * cap, .inr (.inr (.inr (.inr (va_up ntab j (some hdL)))))))], w1, wa_10_335, w2] (12 * cap - 12 * j) (48 * cap - 48 * j) from ?_)
                      obtain ⟨hdH, hhdH⟩ : ∃ q, ch = some q := by
                        cases e : ch with
                        | some q => exact ⟨q, rfl⟩
                        | none =>
                          have zz := ch_head fH
                          rw [e] at zz
                          rw [List.head?_eq_none_iff.mp zz.symm] at fct
                          cases fct
                      subst hhdH
                      refine (show Go g κ 338 [some (.ref h), some (.ref tl), some (.int (nI cap)), some (.int (nI thr)), some (.int (nI (2 * cap))), some (.int (nI (2 * thr))), some (.ref n133), some (.int (nI j)), some (.null), some (.ref hdL), some (.ref lt_a311), some (.ref hdH), some (.ref x), some (.null)] [] [[(h, .inr (23, [.null, .null, .ref n133, .null, .int (nI n), .int (nI md), .int (nI (2 * thr)), .float lfac]))], [(tl, .inl (g.2.1 6, cap, .inr (.inr (.inr (.inr (ctb tab (j + 1)))))))], [(n133, .inl (g.2.1 6, 2 * cap, .inr (.inr (.inr (.inr (va_up ntab j (some hdL)))))))], w1, wa_10_335, w2] (12 * cap - 12 * j) (48 * cap - 48 * j) from ?_)
                      have hzH : hdH ∈ ns := (hM _).mp (List.mem_filter.mp (List.mem_of_mem_head? (show hdH ∈ (cs.filter (fun a => !lob cap (hs a))).head? by rw [← ch_head fH]; rfl))).1
                      refine g_aload (q := 340) B dJ4_resize_338 rfl rfl (rv_r _) ?_
                      refine g_iload (q := 342) B dJ4_resize_340 rfl rfl ?_
                      refine g_iload_n (q := 343) B dJ4_resize_342 rfl rfl ?_
                      refine g_iadd (v := nI (j + cap)) (q := 344) B dJ4_resize_343 rfl (nI_add _ _) ?_
                      refine g_aload (q := 346) B dJ4_resize_344 rfl rfl (rv_r _) ?_
                      refine g_astO (q := 347) (L2 := [[(h, .inr (23, [.null, .null, .ref n133, .null, .int (nI n), .int (nI md), .int (nI (2 * thr)), .float lfac]))], [(tl, .inl (g.2.1 6, cap, .inr (.inr (.inr (.inr (ctb tab (j + 1)))))))], [(n133, .inl (g.2.1 6, 2 * cap, .inr (.inr (.inr (.inr (va_up (va_up ntab j (some hdL)) (j + cap) (some hdH)))))))], w1, wa_10_335, w2]) B (k := 2) (t := 6) (C := "java/util/HashMap$Node") (rc_in B (ci := 24) rfl (k := 4) rfl ⟨_, NodG.mem hwa_10_335 hzH⟩) as_s dJ4_resize_346 rfl rfl rfl (vp_in_nI (by omega) (by omega)) (by rw [nI_clamp (by omega)] <;> rfl) ?_
                      have hdis : ∀ b ∈ cs.filter (fun a => lob cap (hs a)), b ∉ cs.filter (fun a => !lob cap (hs a)) := fun b hb hc => by have z1 := (List.mem_filter.mp hb).2; have z2 := (List.mem_filter.mp hc).2; simp [z1] at z2
                      have gL : Ch (fup (fup (fup nx ct_a280 (some x)) lt_a311 none) x none) (some hdL) (cs.filter (fun a => lob cap (hs a))) := cu_fL (nx := (fup nx ct_a280 (some x))) (lt := (some lt_a311)) (ct := (some x)) fL (fun q e hq => hdis q hq (gl_mem (by rw [fct]; exact e)))
                      have gH : Ch (fup (fup (fup nx ct_a280 (some x)) lt_a311 none) x none) (some hdH) (cs.filter (fun a => !lob cap (hs a))) := cu_fH (nx := (fup nx ct_a280 (some x))) (lt := (some lt_a311)) (ct := (some x)) fH (fun q e hq => hdis q (gl_mem (by rw [flt]; exact e)) hq)
                      obtain ⟨wl, wh, hpt, hwl, hwh⟩ := NodG.part hwa_10_335 (fun a => lob cap (hs a))
                      refine g_spl 4 rfl hpt rfl ?_
                      refine (show Go g κ 347 [some (.ref h), some (.ref tl), some (.int (nI cap)), some (.int (nI thr)), some (.int (nI (2 * cap))), some (.int (nI (2 * thr))), some (.ref n133), some (.int (nI j)), some (.null), some (.ref hdL), some (.ref lt_a311), some (.ref hdH), some (.ref x), some (.null)] [] [[(h, .inr (23, [.null, .null, .ref n133, .null, .int (nI n), .int (nI md), .int (nI (2 * thr)), .float lfac]))], [(tl, .inl (g.2.1 6, cap, .inr (.inr (.inr (.inr (ctb tab (j + 1)))))))], [(n133, .inl (g.2.1 6, 2 * cap, .inr (.inr (.inr (.inr (va_up (va_up ntab j (some hdL)) (j + cap) (some hdH)))))))], w1, wl, w2, wh] (12 * cap - 12 * j) (48 * cap - 48 * j) from ?_)
                      have hlM : ∀ b, b ∈ cs.filter (fun a => lob cap (hs a)) ↔ b ∈ ns.filter (fun a => lob cap (hs a)) := fun b => by rw [List.mem_filter, List.mem_filter, hM b]
                      have hhM : ∀ b, b ∈ cs.filter (fun a => !lob cap (hs a)) ↔ b ∈ ns.filter (fun a => !lob cap (hs a)) := fun b => by rw [List.mem_filter, List.mem_filter, hM b]
                      obtain ⟨wc_11, ewc_11⟩ : ∃ w : va_W, w = ([wl] : List va_W).flatten := ⟨_, rfl⟩
                      have hwc_11 : BinP g bm (some hdL) ((tf j).filter (fun t => lob cap t.1)) wc_11 := by
                        rw [ewc_11]
                        exact Or.inl ⟨_, cs.filter (fun a => lob cap (hs a)), hs, ky, vl, _, (by simpa using hwl), gL, hN.filter _, hlM, ft_map (p := fun h => lob cap h) hpm, Nat.le_trans (List.length_filter_le _ _) hlb0⟩
                      refine g_close (w := wc_11) [4] rfl ewc_11 rfl ?_
                      refine (show Go g κ 347 [some (.ref h), some (.ref tl), some (.int (nI cap)), some (.int (nI thr)), some (.int (nI (2 * cap))), some (.int (nI (2 * thr))), some (.ref n133), some (.int (nI j)), some (.null), some (.ref hdL), some (.ref lt_a311), some (.ref hdH), some (.ref x), some (.null)] [] [[(h, .inr (23, [.null, .null, .ref n133, .null, .int (nI n), .int (nI md), .int (nI (2 * thr)), .float lfac]))], [(tl, .inl (g.2.1 6, cap, .inr (.inr (.inr (.inr (ctb tab (j + 1)))))))], [(n133, .inl (g.2.1 6, 2 * cap, .inr (.inr (.inr (.inr (va_up (va_up ntab j (some hdL)) (j + cap) (some hdH)))))))], w1, w2, wh, wc_11] (12 * cap - 12 * j) (48 * cap - 48 * j) from ?_)
                      obtain ⟨wc_12, ewc_12⟩ : ∃ w : va_W, w = ([wh] : List va_W).flatten := ⟨_, rfl⟩
                      have hwc_12 : BinP g bm (some hdH) ((tf j).filter (fun t => !lob cap t.1)) wc_12 := by
                        rw [ewc_12]
                        exact Or.inl ⟨_, cs.filter (fun a => !lob cap (hs a)), hs, ky, vl, _, (by simpa using hwh), gH, hN.filter _, hhM, ft_map (p := fun h => !lob cap h) hpm, Nat.le_trans (List.length_filter_le _ _) hlb0⟩
                      refine g_close (w := wc_12) [5] rfl ewc_12 rfl ?_
                      refine (show Go g κ 347 [some (.ref h), some (.ref tl), some (.int (nI cap)), some (.int (nI thr)), some (.int (nI (2 * cap))), some (.int (nI (2 * thr))), some (.ref n133), some (.int (nI j)), some (.null), some (.ref hdL), some (.ref lt_a311), some (.ref hdH), some (.ref x), some (.null)] [] [[(h, .inr (23, [.null, .null, .ref n133, .null, .int (nI n), .int (nI md), .int (nI (2 * thr)), .float lfac]))], [(tl, .inl (g.2.1 6, cap, .inr (.inr (.inr (.inr (ctb tab (j + 1)))))))], [(n133, .inl (g.2.1 6, 2 * cap, .inr (.inr (.inr (.inr (va_up (va_up ntab j (some hdL)) (j + cap) (some hdH)))))))], w1, w2, wc_11, wc_12] (12 * cap - 12 * j) (48 * cap - 48 * j) from ?_)
                      obtain ⟨wc_13, ewc_13⟩ : ∃ w : va_W, w = ([w1, wc_11, wc_12, w2] : List va_W).flatten := ⟨_, rfl⟩
                      have hwc_13 : RzP g bm cap (j + 1) tab (va_up (va_up ntab j (some hdL)) (j + cap) (some hdH)) tf wc_13 := by
                        rw [ewc_13]
                        exact hcl _ _ _ _ hwc_11 hwc_12
                      refine g_close (w := wc_13) [3, 4, 4, 3] rfl ewc_13 rfl ?_
                      refine (show Go g κ 347 [some (.ref h), some (.ref tl), some (.int (nI cap)), some (.int (nI thr)), some (.int (nI (2 * cap))), some (.int (nI (2 * thr))), some (.ref n133), some (.int (nI j)), some (.null), some (.ref hdL), some (.ref lt_a311), some (.ref hdH), some (.ref x), some (.null)] [] [[(h, .inr (23, [.null, .null, .ref n133, .null, .int (nI n), .int (nI md), .int (nI (2 * thr)), .float lfac]))], [(tl, .inl (g.2.1 6, cap, .inr (.inr (.inr (.inr (ctb tab (j + 1)))))))], [(n133, .inl (g.2.1 6, 2 * cap, .inr (.inr (.inr (.inr (va_up (va_up ntab j (some hdL)) (j + cap) (some hdH)))))))], wc_13] (12 * cap - 12 * j) (48 * cap - 48 * j) from ?_)
                      refine g_iinc (v := nI (j + 1)) (q := 350) (lv2 := [some (.ref h), some (.ref tl), some (.int (nI cap)), some (.int (nI thr)), some (.int (nI (2 * cap))), some (.int (nI (2 * thr))), some (.ref n133), some (.int (nI (j + 1))), some (.null), some (.ref hdL), some (.ref lt_a311), some (.ref hdH), some (.ref x), some (.null)]) B dJ4_resize_347 rfl rfl (nI_add _ 1) (Nat.le_of_ble_eq_true rfl) rfl ?_
                      refine g_goto (tgt := 151) B dJ4_resize_350 (by decide) ?_
                      refine g_fg 8 rfl ?_
                      refine g_fg 9 rfl ?_
                      refine g_fg 10 rfl ?_
                      refine g_fg 11 rfl ?_
                      refine g_fg 12 rfl ?_
                      refine g_fg 13 rfl ?_
                      refine g_room (kc2 := 12 * cap - 12 * (j + 1)) (ks2 := 48 * cap - 48 * (j + 1)) (by omega) (by omega) ?_
                      exact ih151 _ (by omega) (j + 1) (va_up (va_up ntab j (some hdL)) (j + cap) (some hdH)) wc_13 hwc_13 (by omega) (fun b h1 h2 => by
                          have z := hnn b (by omega) h2
                          unfold va_up
                          rw [if_neg (by omega), if_neg (by omega), if_neg (by omega), if_neg (by omega)]
                          exact z) rfl
                · skip
                  subst c280
                  refine g_aload (q := 285) B dJ4_resize_283 rfl rfl (rv_r _) ?_
                  refine g_astore (q := 287) (lv2 := [some (.ref h), some (.ref tl), some (.int (nI cap)), some (.int (nI thr)), some (.int (nI (2 * cap))), some (.int (nI (2 * thr))), some (.ref n133), some (.int (nI j)), some (.ref x), some (va_rf lh), some (va_rf lt), some (.ref x), some (.null), some (va_rf (nx x))]) B dJ4_resize_285 rfl (Nat.le_of_ble_eq_true rfl) (rv_r _) (by simp only [lst1, lclr_o]; try rfl) ?_
                  refine g_goto (tgt := 297) B dJ4_resize_287 (by decide) ?_
                  refine g_aload (q := 299) B dJ4_resize_297 rfl rfl (rv_r _) ?_
                  refine g_astore (q := 301) (lv2 := [some (.ref h), some (.ref tl), some (.int (nI cap)), some (.int (nI thr)), some (.int (nI (2 * cap))), some (.int (nI (2 * thr))), some (.ref n133), some (.int (nI j)), some (.ref x), some (va_rf lh), some (va_rf lt), some (.ref x), some (.ref x), some (va_rf (nx x))]) B dJ4_resize_299 rfl (Nat.le_of_ble_eq_true rfl) (rv_r _) rfl ?_
                  refine g_aload (q := 303) B dJ4_resize_301 rfl rfl (rv_o _) ?_
                  refine g_dup (q := 304) B dJ4_resize_303 rfl (rv_c (rv_o _)) ?_
                  refine g_astore (q := 306) (lv2 := [some (.ref h), some (.ref tl), some (.int (nI cap)), some (.int (nI thr)), some (.int (nI (2 * cap))), some (.int (nI (2 * thr))), some (.ref n133), some (.int (nI j)), some (va_rf (nx x)), some (va_rf lh), some (va_rf lt), some (.ref x), some (.ref x), some (va_rf (nx x))]) B dJ4_resize_304 rfl (Nat.le_of_ble_eq_true rfl) (rv_o _) rfl ?_
                  refine g_ifnonnull_o (tgt := 235) (q := 309) B dJ4_resize_306 rfl (by decide) (fun nxx_a306 c306 => ?_) (fun c306 => ?_)
                  · skip
                    rw [c306]
                    refine (show Go g κ 235 [some (.ref h), some (.ref tl), some (.int (nI cap)), some (.int (nI thr)), some (.int (nI (2 * cap))), some (.int (nI (2 * thr))), some (.ref n133), some (.int (nI j)), some (.ref nxx_a306), some (va_rf lh), some (va_rf lt), some (.ref x), some (.ref x), some (.ref nxx_a306)] [] [[(h, .inr (23, [.null, .null, .ref n133, .null, .int (nI n), .int (nI md), .int (nI (2 * thr)), .float lfac]))], [(tl, .inl (g.2.1 6, cap, .inr (.inr (.inr (.inr (ctb tab (j + 1)))))))], [(n133, .inl (g.2.1 6, 2 * cap, .inr (.inr (.inr (.inr ntab)))))], w1, l235_4, w2] (12 * cap - 12 * j) (48 * cap - 48 * j) from ?_)
                    refine g_fg 13 rfl ?_
                    obtain ⟨v2, hv2⟩ : ∃ v2, vt = nxx_a306 :: v2 := by
                      have zz := hV
                      rw [c306] at zz
                      cases vt with
                      | nil => exact absurd zz (by simp [Ch])
                      | cons q t => obtain ⟨e, -⟩ := zz; cases e; exact ⟨t, rfl⟩
                    subst hv2
                    have hVz : Ch nx (nx nxx_a306) v2 := (by have zz := hV; rw [c306] at zz; exact zz.2)
                    have hznt : ∀ q ∈ us, nxx_a306 ≠ q := fun q hq e => huv q hq (by rw [← e]; simp)
                    exact ih235 _ (by rw [← hmu235]; simp) (us ++ [x]) nxx_a306 v2 los (his ++ [x]) nx lh lt (some x) (some x) l235_4 hl235_4 (by rw [hcs2]; simp) (by rw [List.filter_append, ← hlos]; simp [lob, c249]) (by rw [List.filter_append, ← hhis]; simp [lob, c249]) (hVz) (hL) (by rw [gl_none hct]; exact ⟨rfl, fup_s _ _ _⟩) (hlt) (gl_snoc) rfl
                  · skip
                    rw [c306]
                    refine (show Go g κ 309 [some (.ref h), some (.ref tl), some (.int (nI cap)), some (.int (nI thr)), some (.int (nI (2 * cap))), some (.int (nI (2 * thr))), some (.ref n133), some (.int (nI j)), some (.null), some (va_rf lh), some (va_rf lt), some (.ref x), some (.ref x), some (.null)] [] [[(h, .inr (23, [.null, .null, .ref n133, .null, .int (nI n), .int (nI md), .int (nI (2 * thr)), .float lfac]))], [(tl, .inl (g.2.1 6, cap, .inr (.inr (.inr (.inr (ctb tab (j + 1)))))))], [(n133, .inl (g.2.1 6, 2 * cap, .inr (.inr (.inr (.inr ntab)))))], w1, l235_4, w2] (12 * cap - 12 * j) (48 * cap - 48 * j) from ?_)
                    have hve : vt = [] := by
                      have zz := ch_head hV
                      rw [c306] at zz
                      exact List.head?_eq_none_iff.mp zz.symm
                    subst hve
                    have fL : Ch (cutl nx lt) lh los := hL
                    have fH : Ch (cutl nx (some x)) (some x) (his ++ [x]) := by rw [gl_none hct]; exact ⟨rfl, fup_s _ _ _⟩
                    have flt : los.getLast? = lt := hlt
                    have fct : (his ++ [x]).getLast? = some x := gl_snoc
                    have flo : los = cs.filter (fun a => lob cap (hs a)) := by rw [hcs2, show us ++ [x] = us ++ [x] from rfl]; exact by rw [List.filter_append, ← hlos]; simp [lob, c249]
                    have fhi : (his ++ [x]) = cs.filter (fun a => !lob cap (hs a)) := by rw [hcs2]; exact by rw [List.filter_append, ← hhis]; simp [lob, c249]
                    rw [flo] at fL flt
                    rw [fhi] at fH fct
                    refine g_aload (q := 311) B dJ4_resize_309 rfl rfl (rv_o _) ?_
                    refine g_ifnull_o (tgt := 327) (q := 314) B dJ4_resize_311 rfl (by decide) (fun c311 => ?_) (fun lt_a311 c311 => ?_)
                    · skip
                      subst c311
                      refine g_aload (q := 329) B dJ4_resize_327 rfl rfl (rv_r _) ?_
                      refine g_ifnull_r (q := 332) B dJ4_resize_329 rfl ?_
                      refine g_aload (q := 334) B dJ4_resize_332 rfl rfl (rv_r _) ?_
                      refine g_aconst_null (q := 335) B dJ4_resize_334 rfl ?_
                      refine g_putNodG3 (q := 338) (k := 4) (x := none) B hl235_4 hxm dJ4_resize_335 rfl rfl q1693 (Or.inl rfl) (fun wa_14_335 hwa_14_335 => ?_)
                      refine (show Go g κ 338 [some (.ref h), some (.ref tl), some (.int (nI cap)), some (.int (nI thr)), some (.int (nI (2 * cap))), some (.int (nI (2 * thr))), some (.ref n133), some (.int (nI j)), some (.null), some (va_rf lh), some (.null), some (.ref x), some (.ref x), some (.null)] [] [[(h, .inr (23, [.null, .null, .ref n133, .null, .int (nI n), .int (nI md), .int (nI (2 * thr)), .float lfac]))], [(tl, .inl (g.2.1 6, cap, .inr (.inr (.inr (.inr (ctb tab (j + 1)))))))], [(n133, .inl (g.2.1 6, 2 * cap, .inr (.inr (.inr (.inr ntab)))))], w1, wa_14_335, w2] (12 * cap - 12 * j) (48 * cap - 48 * j) from ?_)
                      have hzH : x ∈ ns := (hM _).mp (List.mem_filter.mp (List.mem_of_mem_head? (show x ∈ (cs.filter (fun a => !lob cap (hs a))).head? by rw [← ch_head fH]; rfl))).1
                      refine g_aload (q := 340) B dJ4_resize_338 rfl rfl (rv_r _) ?_
                      refine g_iload (q := 342) B dJ4_resize_340 rfl rfl ?_
                      refine g_iload_n (q := 343) B dJ4_resize_342 rfl rfl ?_
                      refine g_iadd (v := nI (j + cap)) (q := 344) B dJ4_resize_343 rfl (nI_add _ _) ?_
                      refine g_aload (q := 346) B dJ4_resize_344 rfl rfl (rv_r _) ?_
                      refine g_astO (q := 347) (L2 := [[(h, .inr (23, [.null, .null, .ref n133, .null, .int (nI n), .int (nI md), .int (nI (2 * thr)), .float lfac]))], [(tl, .inl (g.2.1 6, cap, .inr (.inr (.inr (.inr (ctb tab (j + 1)))))))], [(n133, .inl (g.2.1 6, 2 * cap, .inr (.inr (.inr (.inr (va_up ntab (j + cap) (some x)))))))], w1, wa_14_335, w2]) B (k := 2) (t := 6) (C := "java/util/HashMap$Node") (rc_in B (ci := 24) rfl (k := 4) rfl ⟨_, NodG.mem hwa_14_335 hzH⟩) as_s dJ4_resize_346 rfl rfl rfl (vp_in_nI (by omega) (by omega)) (by rw [nI_clamp (by omega)] <;> rfl) ?_
                      have hl0 : lh = none := by have zz := fL; rw [gl_none flt] at zz; exact zz
                      subst hl0
                      refine (show Go g κ 347 [some (.ref h), some (.ref tl), some (.int (nI cap)), some (.int (nI thr)), some (.int (nI (2 * cap))), some (.int (nI (2 * thr))), some (.ref n133), some (.int (nI j)), some (.null), some (.null), some (.null), some (.ref x), some (.ref x), some (.null)] [] [[(h, .inr (23, [.null, .null, .ref n133, .null, .int (nI n), .int (nI md), .int (nI (2 * thr)), .float lfac]))], [(tl, .inl (g.2.1 6, cap, .inr (.inr (.inr (.inr (ctb tab (j + 1)))))))], [(n133, .inl (g.2.1 6, 2 * cap, .inr (.inr (.inr (.inr (va_up ntab (j + cap) (some x)))))))], w1, wa_14_335, w2] (12 * cap - 12 * j) (48 * cap - 48 * j) from ?_)
                      have hdis : ∀ b ∈ cs.filter (fun a => lob cap (hs a)), b ∉ cs.filter (fun a => !lob cap (hs a)) := fun b hb hc => by have z1 := (List.mem_filter.mp hb).2; have z2 := (List.mem_filter.mp hc).2; simp [z1] at z2
                      have gL : Ch (fup nx x none) none (cs.filter (fun a => lob cap (hs a))) := cu_fL (nx := nx) (lt := none) (ct := (some x)) fL (fun q e hq => hdis q hq (gl_mem (by rw [fct]; exact e)))
                      have gH : Ch (fup nx x none) (some x) (cs.filter (fun a => !lob cap (hs a))) := cu_fH (nx := nx) (lt := none) (ct := (some x)) fH (fun q e hq => hdis q (gl_mem (by rw [flt]; exact e)) hq)
                      obtain ⟨wl, wh, hpt, hwl, hwh⟩ := NodG.part hwa_14_335 (fun a => lob cap (hs a))
                      refine g_spl 4 rfl hpt rfl ?_
                      refine (show Go g κ 347 [some (.ref h), some (.ref tl), some (.int (nI cap)), some (.int (nI thr)), some (.int (nI (2 * cap))), some (.int (nI (2 * thr))), some (.ref n133), some (.int (nI j)), some (.null), some (.null), some (.null), some (.ref x), some (.ref x), some (.null)] [] [[(h, .inr (23, [.null, .null, .ref n133, .null, .int (nI n), .int (nI md), .int (nI (2 * thr)), .float lfac]))], [(tl, .inl (g.2.1 6, cap, .inr (.inr (.inr (.inr (ctb tab (j + 1)))))))], [(n133, .inl (g.2.1 6, 2 * cap, .inr (.inr (.inr (.inr (va_up ntab (j + cap) (some x)))))))], w1, wl, w2, wh] (12 * cap - 12 * j) (48 * cap - 48 * j) from ?_)
                      have hlM : ∀ b, b ∈ cs.filter (fun a => lob cap (hs a)) ↔ b ∈ ns.filter (fun a => lob cap (hs a)) := fun b => by rw [List.mem_filter, List.mem_filter, hM b]
                      have hhM : ∀ b, b ∈ cs.filter (fun a => !lob cap (hs a)) ↔ b ∈ ns.filter (fun a => !lob cap (hs a)) := fun b => by rw [List.mem_filter, List.mem_filter, hM b]
                      obtain ⟨wc_15, ewc_15⟩ : ∃ w : va_W, w = ([wl] : List va_W).flatten := ⟨_, rfl⟩
                      have hwc_15 : BinP g bm none ((tf j).filter (fun t => lob cap t.1)) wc_15 := by
                        rw [ewc_15]
                        exact Or.inl ⟨_, cs.filter (fun a => lob cap (hs a)), hs, ky, vl, _, (by simpa using hwl), gL, hN.filter _, hlM, ft_map (p := fun h => lob cap h) hpm, Nat.le_trans (List.length_filter_le _ _) hlb0⟩
                      refine g_close (w := wc_15) [4] rfl ewc_15 rfl ?_
                      refine (show Go g κ 347 [some (.ref h), some (.ref tl), some (.int (nI cap)), some (.int (nI thr)), some (.int (nI (2 * cap))), some (.int (nI (2 * thr))), some (.ref n133), some (.int (nI j)), some (.null), some (.null), some (.null), some (.ref x), some (.ref x), some (.null)] [] [[(h, .inr (23, [.null, .null, .ref n133, .null, .int (nI n), .int (nI md), .int (nI (2 * thr)), .float lfac]))], [(tl, .inl (g.2.1 6, cap, .inr (.inr (.inr (.inr (ctb tab (j + 1)))))))], [(n133, .inl (g.2.1 6, 2 * cap, .inr (.inr (.inr (.inr (va_up ntab (j + cap) (some x)))))))], w1, w2, wh, wc_15] (12 * cap - 12 * j) (48 * cap - 48 * j) from ?_)
                      obtain ⟨wc_16, ewc_16⟩ : ∃ w : va_W, w = ([wh] : List va_W).flatten := ⟨_, rfl⟩
                      have hwc_16 : BinP g bm (some x) ((tf j).filter (fun t => !lob cap t.1)) wc_16 := by
                        rw [ewc_16]
                        exact Or.inl ⟨_, cs.filter (fun a => !lob cap (hs a)), hs, ky, vl, _, (by simpa using hwh), gH, hN.filter _, hhM, ft_map (p := fun h => !lob cap h) hpm, Nat.le_trans (List.length_filter_le _ _) hlb0⟩
                      refine g_close (w := wc_16) [5] rfl ewc_16 rfl ?_
                      refine (show Go g κ 347 [some (.ref h), some (.ref tl), some (.int (nI cap)), some (.int (nI thr)), some (.int (nI (2 * cap))), some (.int (nI (2 * thr))), some (.ref n133), some (.int (nI j)), some (.null), some (.null), some (.null), some (.ref x), some (.ref x), some (.null)] [] [[(h, .inr (23, [.null, .null, .ref n133, .null, .int (nI n), .int (nI md), .int (nI (2 * thr)), .float lfac]))], [(tl, .inl (g.2.1 6, cap, .inr (.inr (.inr (.inr (ctb tab (j + 1)))))))], [(n133, .inl (g.2.1 6, 2 * cap, .inr (.inr (.inr (.inr (va_up ntab (j + cap) (some x)))))))], w1, w2, wc_15, wc_16] (12 * cap - 12 * j) (48 * cap - 48 * j) from ?_)
                      rw [show va_up ntab (j + cap) (some x) = va_up (va_up ntab j none) (j + cap) (some x) from by
                        first
                        | rfl
                        | (rw [up_same (f := ntab) (b := j) (x := none) (hnn j (by omega) (by omega)).1, up_same (f := ntab) (b := j + cap) (x := none) (hnn j (by omega) (by omega)).2])
                        | (rw [up_same (f := ntab) (b := j) (x := none) (hnn j (by omega) (by omega)).1])
                        | (rw [up_same (f := va_up ntab j none) (b := j + cap) (x := none) (by show (if j + cap = j then none else ntab (j + cap)) = none; rw [if_neg (by omega)]; exact (hnn j (by omega) (by omega)).2)])]
                      refine (show Go g κ 347 [some (.ref h), some (.ref tl), some (.int (nI cap)), some (.int (nI thr)), some (.int (nI (2 * cap))), some (.int (nI (2 * thr))), some (.ref n133), some (.int (nI j)), some (.null), some (.null), some (.null), some (.ref x), some (.ref x), some (.null)] [] [[(h, .inr (23, [.null, .null, .ref n133, .null, .int (nI n), .int (nI md), .int (nI (2 * thr)), .float lfac]))], [(tl, .inl (g.2.1 6, cap, .inr (.inr (.inr (.inr (ctb tab (j + 1)))))))], [(n133, .inl (g.2.1 6, 2 * cap, .inr (.inr (.inr (.inr (va_up (va_up ntab j none) (j + cap) (some x)))))))], w1, w2, wc_15, wc_16] (12 * cap - 12 * j) (48 * cap - 48 * j) from ?_)
                      obtain ⟨wc_17, ewc_17⟩ : ∃ w : va_W, w = ([w1, wc_15, wc_16, w2] : List va_W).flatten := ⟨_, rfl⟩
                      have hwc_17 : RzP g bm cap (j + 1) tab (va_up (va_up ntab j none) (j + cap) (some x)) tf wc_17 := by
                        rw [ewc_17]
                        exact hcl _ _ _ _ hwc_15 hwc_16
                      refine g_close (w := wc_17) [3, 4, 4, 3] rfl ewc_17 rfl ?_
                      refine (show Go g κ 347 [some (.ref h), some (.ref tl), some (.int (nI cap)), some (.int (nI thr)), some (.int (nI (2 * cap))), some (.int (nI (2 * thr))), some (.ref n133), some (.int (nI j)), some (.null), some (.null), some (.null), some (.ref x), some (.ref x), some (.null)] [] [[(h, .inr (23, [.null, .null, .ref n133, .null, .int (nI n), .int (nI md), .int (nI (2 * thr)), .float lfac]))], [(tl, .inl (g.2.1 6, cap, .inr (.inr (.inr (.inr (ctb tab (j + 1)))))))], [(n133, .inl (g.2.1 6, 2 * cap, .inr (.inr (.inr (.inr (va_up (va_up ntab j none) (j + cap) (some x)))))))], wc_17] (12 * cap - 12 * j) (48 * cap - 48 * j) from ?_)
                      refine g_iinc (v := nI (j + 1)) (q := 350) (lv2 := [some (.ref h), some (.ref tl), some (.int (nI cap)), some (.int (nI thr)), some (.int (nI (2 * cap))), some (.int (nI (2 * thr))), some (.ref n133), some (.int (nI (j + 1))), some (.null), some (.null), some (.null), some (.ref x), some (.ref x), some (.null)]) B dJ4_resize_347 rfl rfl (nI_add _ 1) (Nat.le_of_ble_eq_true rfl) rfl ?_
                      refine g_goto (tgt := 151) B dJ4_resize_350 (by decide) ?_
                      refine g_fg 8 rfl ?_
                      refine g_fg 9 rfl ?_
                      refine g_fg 10 rfl ?_
                      refine g_fg 11 rfl ?_
                      refine g_fg 12 rfl ?_
                      refine g_fg 13 rfl ?_
                      refine g_room (kc2 := 12 * cap - 12 * (j + 1)) (ks2 := 48 * cap - 48 * (j + 1)) (by omega) (by omega) ?_
                      exact ih151 _ (by omega) (j + 1) (va_up (va_up ntab j none) (j + cap) (some x)) wc_17 hwc_17 (by omega) (fun b h1 h2 => by
                          have z := hnn b (by omega) h2
                          unfold va_up
                          rw [if_neg (by omega), if_neg (by omega), if_neg (by omega), if_neg (by omega)]
                          exact z) rfl
                    · skip
                      subst c311
                      have hqL : lt_a311 ∈ ns := (hM _).mp (List.mem_filter.mp (gl_mem flt)).1
                      refine g_aload (q := 316) B dJ4_resize_314 rfl rfl (rv_r _) ?_
                      refine g_aconst_null (q := 317) B dJ4_resize_316 rfl ?_
                      refine g_putNodG3 (q := 320) (k := 4) (x := none) B hl235_4 hqL dJ4_resize_317 rfl rfl q1693 (Or.inl rfl) (fun wa_18_317 hwa_18_317 => ?_)
                      refine (show Go g κ 320 [some (.ref h), some (.ref tl), some (.int (nI cap)), some (.int (nI thr)), some (.int (nI (2 * cap))), some (.int (nI (2 * thr))), some (.ref n133), some (.int (nI j)), some (.null), some (va_rf lh), some (.ref lt_a311), some (.ref x), some (.ref x), some (.null)] [] [[(h, .inr (23, [.null, .null, .ref n133, .null, .int (nI n), .int (nI md), .int (nI (2 * thr)), .float lfac]))], [(tl, .inl (g.2.1 6, cap, .inr (.inr (.inr (.inr (ctb tab (j + 1)))))))], [(n133, .inl (g.2.1 6, 2 * cap, .inr (.inr (.inr (.inr ntab)))))], w1, wa_18_317, w2] (12 * cap - 12 * j) (48 * cap - 48 * j) from ?_)
                      obtain ⟨hdL, hhdL⟩ : ∃ q, lh = some q := by
                        cases e : lh with
                        | some q => exact ⟨q, rfl⟩
                        | none =>
                          have zz := ch_head fL
                          rw [e] at zz
                          rw [List.head?_eq_none_iff.mp zz.symm] at flt
                          cases flt
                      subst hhdL
                      refine (show Go g κ 320 [some (.ref h), some (.ref tl), some (.int (nI cap)), some (.int (nI thr)), some (.int (nI (2 * cap))), some (.int (nI (2 * thr))), some (.ref n133), some (.int (nI j)), some (.null), some (.ref hdL), some (.ref lt_a311), some (.ref x), some (.ref x), some (.null)] [] [[(h, .inr (23, [.null, .null, .ref n133, .null, .int (nI n), .int (nI md), .int (nI (2 * thr)), .float lfac]))], [(tl, .inl (g.2.1 6, cap, .inr (.inr (.inr (.inr (ctb tab (j + 1)))))))], [(n133, .inl (g.2.1 6, 2 * cap, .inr (.inr (.inr (.inr ntab)))))], w1, wa_18_317, w2] (12 * cap - 12 * j) (48 * cap - 48 * j) from ?_)
                      have hzL : hdL ∈ ns := (hM _).mp (List.mem_filter.mp (List.mem_of_mem_head? (show hdL ∈ (cs.filter (fun a => lob cap (hs a))).head? by rw [← ch_head fL]; rfl))).1
                      refine g_aload (q := 322) B dJ4_resize_320 rfl rfl (rv_r _) ?_
                      refine g_iload (q := 324) B dJ4_resize_322 rfl rfl ?_
                      refine g_aload (q := 326) B dJ4_resize_324 rfl rfl (rv_r _) ?_
                      refine g_astO (q := 327) (L2 := [[(h, .inr (23, [.null, .null, .ref n133, .null, .int (nI n), .int (nI md), .int (nI (2 * thr)), .float lfac]))], [(tl, .inl (g.2.1 6, cap, .inr (.inr (.inr (.inr (ctb tab (j + 1)))))))], [(n133, .inl (g.2.1 6, 2 * cap, .inr (.inr (.inr (.inr (va_up ntab j (some hdL)))))))], w1, wa_18_317, w2]) B (k := 2) (t := 6) (C := "java/util/HashMap$Node") (rc_in B (ci := 24) rfl (k := 4) rfl ⟨_, NodG.mem hwa_18_317 hzL⟩) as_s dJ4_resize_326 rfl rfl rfl (vp_in_nI (by omega) (by omega)) (by rw [nI_clamp (by omega)] <;> rfl) ?_
                      refine g_aload (q := 329) B dJ4_resize_327 rfl rfl (rv_r _) ?_
                      refine g_ifnull_r (q := 332) B dJ4_resize_329 rfl ?_
                      refine g_aload (q := 334) B dJ4_resize_332 rfl rfl (rv_r _) ?_
                      refine g_aconst_null (q := 335) B dJ4_resize_334 rfl ?_
                      refine g_putNodG3 (q := 338) (k := 4) (x := none) B hwa_18_317 hxm dJ4_resize_335 rfl rfl q1693 (Or.inl rfl) (fun wa_19_335 hwa_19_335 => ?_)
                      refine (show Go g κ 338 [some (.ref h), some (.ref tl), some (.int (nI cap)), some (.int (nI thr)), some (.int (nI (2 * cap))), some (.int (nI (2 * thr))), some (.ref n133), some (.int (nI j)), some (.null), some (.ref hdL), some (.ref lt_a311), some (.ref x), some (.ref x), some (.null)] [] [[(h, .inr (23, [.null, .null, .ref n133, .null, .int (nI n), .int (nI md), .int (nI (2 * thr)), .float lfac]))], [(tl, .inl (g.2.1 6, cap, .inr (.inr (.inr (.inr (ctb tab (j + 1)))))))], [(n133, .inl (g.2.1 6, 2 * cap, .inr (.inr (.inr (.inr (va_up ntab j (some hdL)))))))], w1, wa_19_335, w2] (12 * cap - 12 * j) (48 * cap - 48 * j) from ?_)
                      have hzH : x ∈ ns := (hM _).mp (List.mem_filter.mp (List.mem_of_mem_head? (show x ∈ (cs.filter (fun a => !lob cap (hs a))).head? by rw [← ch_head fH]; rfl))).1
                      refine g_aload (q := 340) B dJ4_resize_338 rfl rfl (rv_r _) ?_
                      refine g_iload (q := 342) B dJ4_resize_340 rfl rfl ?_
                      refine g_iload_n (q := 343) B dJ4_resize_342 rfl rfl ?_
                      refine g_iadd (v := nI (j + cap)) (q := 344) B dJ4_resize_343 rfl (nI_add _ _) ?_
                      refine g_aload (q := 346) B dJ4_resize_344 rfl rfl (rv_r _) ?_
                      refine g_astO (q := 347) (L2 := [[(h, .inr (23, [.null, .null, .ref n133, .null, .int (nI n), .int (nI md), .int (nI (2 * thr)), .float lfac]))], [(tl, .inl (g.2.1 6, cap, .inr (.inr (.inr (.inr (ctb tab (j + 1)))))))], [(n133, .inl (g.2.1 6, 2 * cap, .inr (.inr (.inr (.inr (va_up (va_up ntab j (some hdL)) (j + cap) (some x)))))))], w1, wa_19_335, w2]) B (k := 2) (t := 6) (C := "java/util/HashMap$Node") (rc_in B (ci := 24) rfl (k := 4) rfl ⟨_, NodG.mem hwa_19_335 hzH⟩) as_s dJ4_resize_346 rfl rfl rfl (vp_in_nI (by omega) (by omega)) (by rw [nI_clamp (by omega)] <;> rfl) ?_
                      have hdis : ∀ b ∈ cs.filter (fun a => lob cap (hs a)), b ∉ cs.filter (fun a => !lob cap (hs a)) := fun b hb hc => by have z1 := (List.mem_filter.mp hb).2; have z2 := (List.mem_filter.mp hc).2; simp [z1] at z2
                      have gL : Ch (fup (fup nx lt_a311 none) x none) (some hdL) (cs.filter (fun a => lob cap (hs a))) := cu_fL (nx := nx) (lt := (some lt_a311)) (ct := (some x)) fL (fun q e hq => hdis q hq (gl_mem (by rw [fct]; exact e)))
                      have gH : Ch (fup (fup nx lt_a311 none) x none) (some x) (cs.filter (fun a => !lob cap (hs a))) := cu_fH (nx := nx) (lt := (some lt_a311)) (ct := (some x)) fH (fun q e hq => hdis q (gl_mem (by rw [flt]; exact e)) hq)
                      obtain ⟨wl, wh, hpt, hwl, hwh⟩ := NodG.part hwa_19_335 (fun a => lob cap (hs a))
                      refine g_spl 4 rfl hpt rfl ?_
                      refine (show Go g κ 347 [some (.ref h), some (.ref tl), some (.int (nI cap)), some (.int (nI thr)), some (.int (nI (2 * cap))), some (.int (nI (2 * thr))), some (.ref n133), some (.int (nI j)), some (.null), some (.ref hdL), some (.ref lt_a311), some (.ref x), some (.ref x), some (.null)] [] [[(h, .inr (23, [.null, .null, .ref n133, .null, .int (nI n), .int (nI md), .int (nI (2 * thr)), .float lfac]))], [(tl, .inl (g.2.1 6, cap, .inr (.inr (.inr (.inr (ctb tab (j + 1)))))))], [(n133, .inl (g.2.1 6, 2 * cap, .inr (.inr (.inr (.inr (va_up (va_up ntab j (some hdL)) (j + cap) (some x)))))))], w1, wl, w2, wh] (12 * cap - 12 * j) (48 * cap - 48 * j) from ?_)
                      have hlM : ∀ b, b ∈ cs.filter (fun a => lob cap (hs a)) ↔ b ∈ ns.filter (fun a => lob cap (hs a)) := fun b => by rw [List.mem_filter, List.mem_filter, hM b]
                      have hhM : ∀ b, b ∈ cs.filter (fun a => !lob cap (hs a)) ↔ b ∈ ns.filter (fun a => !lob cap (hs a)) := fun b => by rw [List.mem_filter, List.mem_filter, hM b]
                      obtain ⟨wc_20, ewc_20⟩ : ∃ w : va_W, w = ([wl] : List va_W).flatten := ⟨_, rfl⟩
                      have hwc_20 : BinP g bm (some hdL) ((tf j).filter (fun t => lob cap t.1)) wc_20 := by
                        rw [ewc_20]
                        exact Or.inl ⟨_, cs.filter (fun a => lob cap (hs a)), hs, ky, vl, _, (by simpa using hwl), gL, hN.filter _, hlM, ft_map (p := fun h => lob cap h) hpm, Nat.le_trans (List.length_filter_le _ _) hlb0⟩
                      refine g_close (w := wc_20) [4] rfl ewc_20 rfl ?_
                      refine (show Go g κ 347 [some (.ref h), some (.ref tl), some (.int (nI cap)), some (.int (nI thr)), some (.int (nI (2 * cap))), some (.int (nI (2 * thr))), some (.ref n133), some (.int (nI j)), some (.null), some (.ref hdL), some (.ref lt_a311), some (.ref x), some (.ref x), some (.null)] [] [[(h, .inr (23, [.null, .null, .ref n133, .null, .int (nI n), .int (nI md), .int (nI (2 * thr)), .float lfac]))], [(tl, .inl (g.2.1 6, cap, .inr (.inr (.inr (.inr (ctb tab (j + 1)))))))], [(n133, .inl (g.2.1 6, 2 * cap, .inr (.inr (.inr (.inr (va_up (va_up ntab j (some hdL)) (j + cap) (some x)))))))], w1, w2, wh, wc_20] (12 * cap - 12 * j) (48 * cap - 48 * j) from ?_)
                      obtain ⟨wc_21, ewc_21⟩ : ∃ w : va_W, w = ([wh] : List va_W).flatten := ⟨_, rfl⟩
                      have hwc_21 : BinP g bm (some x) ((tf j).filter (fun t => !lob cap t.1)) wc_21 := by
                        rw [ewc_21]
                        exact Or.inl ⟨_, cs.filter (fun a => !lob cap (hs a)), hs, ky, vl, _, (by simpa using hwh), gH, hN.filter _, hhM, ft_map (p := fun h => !lob cap h) hpm, Nat.le_trans (List.length_filter_le _ _) hlb0⟩
                      refine g_close (w := wc_21) [5] rfl ewc_21 rfl ?_
                      refine (show Go g κ 347 [some (.ref h), some (.ref tl), some (.int (nI cap)), some (.int (nI thr)), some (.int (nI (2 * cap))), some (.int (nI (2 * thr))), some (.ref n133), some (.int (nI j)), some (.null), some (.ref hdL), some (.ref lt_a311), some (.ref x), some (.ref x), some (.null)] [] [[(h, .inr (23, [.null, .null, .ref n133, .null, .int (nI n), .int (nI md), .int (nI (2 * thr)), .float lfac]))], [(tl, .inl (g.2.1 6, cap, .inr (.inr (.inr (.inr (ctb tab (j + 1)))))))], [(n133, .inl (g.2.1 6, 2 * cap, .inr (.inr (.inr (.inr (va_up (va_up ntab j (some hdL)) (j + cap) (some x)))))))], w1, w2, wc_20, wc_21] (12 * cap - 12 * j) (48 * cap - 48 * j) from ?_)
                      obtain ⟨wc_22, ewc_22⟩ : ∃ w : va_W, w = ([w1, wc_20, wc_21, w2] : List va_W).flatten := ⟨_, rfl⟩
                      have hwc_22 : RzP g bm cap (j + 1) tab (va_up (va_up ntab j (some hdL)) (j + cap) (some x)) tf wc_22 := by
                        rw [ewc_22]
                        exact hcl _ _ _ _ hwc_20 hwc_21
                      refine g_close (w := wc_22) [3, 4, 4, 3] rfl ewc_22 rfl ?_
                      refine (show Go g κ 347 [some (.ref h), some (.ref tl), some (.int (nI cap)), some (.int (nI thr)), some (.int (nI (2 * cap))), some (.int (nI (2 * thr))), some (.ref n133), some (.int (nI j)), some (.null), some (.ref hdL), some (.ref lt_a311), some (.ref x), some (.ref x), some (.null)] [] [[(h, .inr (23, [.null, .null, .ref n133, .null, .int (nI n), .int (nI md), .int (nI (2 * thr)), .float lfac]))], [(tl, .inl (g.2.1 6, cap, .inr (.inr (.inr (.inr (ctb tab (j + 1)))))))], [(n133, .inl (g.2.1 6, 2 * cap, .inr (.inr (.inr (.inr (va_up (va_up ntab j (some hdL)) (j + cap) (some x)))))))], wc_22] (12 * cap - 12 * j) (48 * cap - 48 * j) from ?_)
                      refine g_iinc (v := nI (j + 1)) (q := 350) (lv2 := [some (.ref h), some (.ref tl), some (.int (nI cap)), some (.int (nI thr)), some (.int (nI (2 * cap))), some (.int (nI (2 * thr))), some (.ref n133), some (.int (nI (j + 1))), some (.null), some (.ref hdL), some (.ref lt_a311), some (.ref x), some (.ref x), some (.null)]) B dJ4_resize_347 rfl rfl (nI_add _ 1) (Nat.le_of_ble_eq_true rfl) rfl ?_
                      refine g_goto (tgt := 151) B dJ4_resize_350 (by decide) ?_
                      refine g_fg 8 rfl ?_
                      refine g_fg 9 rfl ?_
                      refine g_fg 10 rfl ?_
                      refine g_fg 11 rfl ?_
                      refine g_fg 12 rfl ?_
                      refine g_fg 13 rfl ?_
                      refine g_room (kc2 := 12 * cap - 12 * (j + 1)) (ks2 := 48 * cap - 48 * (j + 1)) (by omega) (by omega) ?_
                      exact ih151 _ (by omega) (j + 1) (va_up (va_up ntab j (some hdL)) (j + cap) (some x)) wc_22 hwc_22 (by omega) (fun b h1 h2 => by
                          have z := hnn b (by omega) h2
                          unfold va_up
                          rw [if_neg (by omega), if_neg (by omega), if_neg (by omega), if_neg (by omega)]
                          exact z) rfl
              · skip
                have c249 := Classical.not_not.mp c249
                refine g_aload (q := 254) B dJ4_resize_252 rfl rfl (rv_o _) ?_
                refine g_ifnonnull_o (tgt := 264) (q := 257) B dJ4_resize_254 rfl (by decide) (fun lt_a254 c254 => ?_) (fun c254 => ?_)
                · skip
                  subst c254
                  have htl : lt_a254 ∈ los := gl_mem hlt
                  have htn2 : lt_a254 ∈ ns := hum _ (hlm _ htl).1
                  have hte : lt_a254 ≠ x := fun e => hxu (e ▸ (hlm _ htl).1)
                  refine g_aload (q := 266) B dJ4_resize_264 rfl rfl (rv_r _) ?_
                  refine g_aload (q := 268) B dJ4_resize_266 rfl rfl (rv_r _) ?_
                  refine g_putNodG3 (q := 271) (k := 4) (x := some x) B hl235_4 htn2 dJ4_resize_268 rfl rfl q1693 (Or.inl rfl) (fun wa_23_268 hwa_23_268 => ?_)
                  refine (show Go g κ 271 [some (.ref h), some (.ref tl), some (.int (nI cap)), some (.int (nI thr)), some (.int (nI (2 * cap))), some (.int (nI (2 * thr))), some (.ref n133), some (.int (nI j)), some (.ref x), some (va_rf lh), some (.ref lt_a254), some (va_rf ch), some (va_rf ct), some (va_rf (nx x))] [] [[(h, .inr (23, [.null, .null, .ref n133, .null, .int (nI n), .int (nI md), .int (nI (2 * thr)), .float lfac]))], [(tl, .inl (g.2.1 6, cap, .inr (.inr (.inr (.inr (ctb tab (j + 1)))))))], [(n133, .inl (g.2.1 6, 2 * cap, .inr (.inr (.inr (.inr ntab)))))], w1, wa_23_268, w2] (12 * cap - 12 * j) (48 * cap - 48 * j) from ?_)
                  refine g_aload (q := 273) B dJ4_resize_271 rfl rfl (rv_r _) ?_
                  refine g_astore (q := 275) (lv2 := [some (.ref h), some (.ref tl), some (.int (nI cap)), some (.int (nI thr)), some (.int (nI (2 * cap))), some (.int (nI (2 * thr))), some (.ref n133), some (.int (nI j)), some (.ref x), some (va_rf lh), some (.ref x), some (va_rf ch), some (va_rf ct), some (va_rf (nx x))]) B dJ4_resize_273 rfl (Nat.le_of_ble_eq_true rfl) (rv_r _) (by simp only [lst1, lclr_o]; try rfl) ?_
                  refine g_goto (tgt := 301) B dJ4_resize_275 (by decide) ?_
                  refine g_aload (q := 303) B dJ4_resize_301 rfl rfl (rv_o _) ?_
                  refine g_dup (q := 304) B dJ4_resize_303 rfl (rv_c (rv_o _)) ?_
                  refine g_astore (q := 306) (lv2 := [some (.ref h), some (.ref tl), some (.int (nI cap)), some (.int (nI thr)), some (.int (nI (2 * cap))), some (.int (nI (2 * thr))), some (.ref n133), some (.int (nI j)), some (va_rf (nx x)), some (va_rf lh), some (.ref x), some (va_rf ch), some (va_rf ct), some (va_rf (nx x))]) B dJ4_resize_304 rfl (Nat.le_of_ble_eq_true rfl) (rv_o _) rfl ?_
                  refine g_ifnonnull_o (tgt := 235) (q := 309) B dJ4_resize_306 rfl (by decide) (fun nxx_a306 c306 => ?_) (fun c306 => ?_)
                  · skip
                    rw [c306]
                    refine (show Go g κ 235 [some (.ref h), some (.ref tl), some (.int (nI cap)), some (.int (nI thr)), some (.int (nI (2 * cap))), some (.int (nI (2 * thr))), some (.ref n133), some (.int (nI j)), some (.ref nxx_a306), some (va_rf lh), some (.ref x), some (va_rf ch), some (va_rf ct), some (.ref nxx_a306)] [] [[(h, .inr (23, [.null, .null, .ref n133, .null, .int (nI n), .int (nI md), .int (nI (2 * thr)), .float lfac]))], [(tl, .inl (g.2.1 6, cap, .inr (.inr (.inr (.inr (ctb tab (j + 1)))))))], [(n133, .inl (g.2.1 6, 2 * cap, .inr (.inr (.inr (.inr ntab)))))], w1, wa_23_268, w2] (12 * cap - 12 * j) (48 * cap - 48 * j) from ?_)
                    refine g_fg 13 rfl ?_
                    obtain ⟨v2, hv2⟩ : ∃ v2, vt = nxx_a306 :: v2 := by
                      have zz := hV
                      rw [c306] at zz
                      cases vt with
                      | nil => exact absurd zz (by simp [Ch])
                      | cons q t => obtain ⟨e, -⟩ := zz; cases e; exact ⟨t, rfl⟩
                    subst hv2
                    have hVz : Ch nx (nx nxx_a306) v2 := (by have zz := hV; rw [c306] at zz; exact zz.2)
                    have hznt : ∀ q ∈ us, nxx_a306 ≠ q := fun q hq e => huv q hq (by rw [← e]; simp)
                    exact ih235 _ (by rw [← hmu235]; simp) (us ++ [x]) nxx_a306 v2 (los ++ [x]) his (fup nx lt_a254 (some x)) lh (some x) ch ct wa_23_268 hwa_23_268 (by rw [hcs2]; simp) (by rw [List.filter_append, ← hlos]; simp [lob, c249]) (by rw [List.filter_append, ← hhis]; simp [lob, c249]) (by rw [fup_n (hznt _ (hlm _ htl).1)]; exact ch_congr hVz (fun b hb => fup_n (fun (e : b = lt_a254) => huv _ (hlm _ htl).1 (e ▸ List.mem_cons_of_mem _ hb)))) (cu_sn hL hlnd hxl hlt) (cu_oth hH (fun b hb e => by have z1 := (hlm _ htl).2; have z2 := (hhm b hb).2; rw [e] at z2; rw [z1] at z2; cases z2)) (gl_snoc) (hct) rfl
                  · skip
                    rw [c306]
                    refine (show Go g κ 309 [some (.ref h), some (.ref tl), some (.int (nI cap)), some (.int (nI thr)), some (.int (nI (2 * cap))), some (.int (nI (2 * thr))), some (.ref n133), some (.int (nI j)), some (.null), some (va_rf lh), some (.ref x), some (va_rf ch), some (va_rf ct), some (.null)] [] [[(h, .inr (23, [.null, .null, .ref n133, .null, .int (nI n), .int (nI md), .int (nI (2 * thr)), .float lfac]))], [(tl, .inl (g.2.1 6, cap, .inr (.inr (.inr (.inr (ctb tab (j + 1)))))))], [(n133, .inl (g.2.1 6, 2 * cap, .inr (.inr (.inr (.inr ntab)))))], w1, wa_23_268, w2] (12 * cap - 12 * j) (48 * cap - 48 * j) from ?_)
                    have hve : vt = [] := by
                      have zz := ch_head hV
                      rw [c306] at zz
                      exact List.head?_eq_none_iff.mp zz.symm
                    subst hve
                    have fL : Ch (cutl (fup nx lt_a254 (some x)) (some x)) lh (los ++ [x]) := cu_sn hL hlnd hxl hlt
                    have fH : Ch (cutl (fup nx lt_a254 (some x)) ct) ch his := cu_oth hH (fun b hb e => by have z1 := (hlm _ htl).2; have z2 := (hhm b hb).2; rw [e] at z2; rw [z1] at z2; cases z2)
                    have flt : (los ++ [x]).getLast? = some x := gl_snoc
                    have fct : his.getLast? = ct := hct
                    have flo : (los ++ [x]) = cs.filter (fun a => lob cap (hs a)) := by rw [hcs2, show us ++ [x] = us ++ [x] from rfl]; exact by rw [List.filter_append, ← hlos]; simp [lob, c249]
                    have fhi : his = cs.filter (fun a => !lob cap (hs a)) := by rw [hcs2]; exact by rw [List.filter_append, ← hhis]; simp [lob, c249]
                    rw [flo] at fL flt
                    rw [fhi] at fH fct
                    refine g_aload (q := 311) B dJ4_resize_309 rfl rfl (rv_r _) ?_
                    refine g_ifnull_r (q := 314) B dJ4_resize_311 rfl ?_
                    refine g_aload (q := 316) B dJ4_resize_314 rfl rfl (rv_r _) ?_
                    refine g_aconst_null (q := 317) B dJ4_resize_316 rfl ?_
                    refine g_putNodG3 (q := 320) (k := 4) (x := none) B hwa_23_268 hxm dJ4_resize_317 rfl rfl q1693 (Or.inl rfl) (fun wa_24_317 hwa_24_317 => ?_)
                    refine (show Go g κ 320 [some (.ref h), some (.ref tl), some (.int (nI cap)), some (.int (nI thr)), some (.int (nI (2 * cap))), some (.int (nI (2 * thr))), some (.ref n133), some (.int (nI j)), some (.null), some (va_rf lh), some (.ref x), some (va_rf ch), some (va_rf ct), some (.null)] [] [[(h, .inr (23, [.null, .null, .ref n133, .null, .int (nI n), .int (nI md), .int (nI (2 * thr)), .float lfac]))], [(tl, .inl (g.2.1 6, cap, .inr (.inr (.inr (.inr (ctb tab (j + 1)))))))], [(n133, .inl (g.2.1 6, 2 * cap, .inr (.inr (.inr (.inr ntab)))))], w1, wa_24_317, w2] (12 * cap - 12 * j) (48 * cap - 48 * j) from ?_)
                    obtain ⟨hdL, hhdL⟩ : ∃ q, lh = some q := by
                      cases e : lh with
                      | some q => exact ⟨q, rfl⟩
                      | none =>
                        have zz := ch_head fL
                        rw [e] at zz
                        rw [List.head?_eq_none_iff.mp zz.symm] at flt
                        cases flt
                    subst hhdL
                    refine (show Go g κ 320 [some (.ref h), some (.ref tl), some (.int (nI cap)), some (.int (nI thr)), some (.int (nI (2 * cap))), some (.int (nI (2 * thr))), some (.ref n133), some (.int (nI j)), some (.null), some (.ref hdL), some (.ref x), some (va_rf ch), some (va_rf ct), some (.null)] [] [[(h, .inr (23, [.null, .null, .ref n133, .null, .int (nI n), .int (nI md), .int (nI (2 * thr)), .float lfac]))], [(tl, .inl (g.2.1 6, cap, .inr (.inr (.inr (.inr (ctb tab (j + 1)))))))], [(n133, .inl (g.2.1 6, 2 * cap, .inr (.inr (.inr (.inr ntab)))))], w1, wa_24_317, w2] (12 * cap - 12 * j) (48 * cap - 48 * j) from ?_)
                    have hzL : hdL ∈ ns := (hM _).mp (List.mem_filter.mp (List.mem_of_mem_head? (show hdL ∈ (cs.filter (fun a => lob cap (hs a))).head? by rw [← ch_head fL]; rfl))).1
                    refine g_aload (q := 322) B dJ4_resize_320 rfl rfl (rv_r _) ?_
                    refine g_iload (q := 324) B dJ4_resize_322 rfl rfl ?_
                    refine g_aload (q := 326) B dJ4_resize_324 rfl rfl (rv_r _) ?_
                    refine g_astO (q := 327) (L2 := [[(h, .inr (23, [.null, .null, .ref n133, .null, .int (nI n), .int (nI md), .int (nI (2 * thr)), .float lfac]))], [(tl, .inl (g.2.1 6, cap, .inr (.inr (.inr (.inr (ctb tab (j + 1)))))))], [(n133, .inl (g.2.1 6, 2 * cap, .inr (.inr (.inr (.inr (va_up ntab j (some hdL)))))))], w1, wa_24_317, w2]) B (k := 2) (t := 6) (C := "java/util/HashMap$Node") (rc_in B (ci := 24) rfl (k := 4) rfl ⟨_, NodG.mem hwa_24_317 hzL⟩) as_s dJ4_resize_326 rfl rfl rfl (vp_in_nI (by omega) (by omega)) (by rw [nI_clamp (by omega)] <;> rfl) ?_
                    refine g_aload (q := 329) B dJ4_resize_327 rfl rfl (rv_o _) ?_
                    refine g_ifnull_o (tgt := 347) (q := 332) B dJ4_resize_329 rfl (by decide) (fun c329 => ?_) (fun ct_a329 c329 => ?_)
                    · skip
                      subst c329
                      have hh0 : ch = none := by have zz := fH; rw [gl_none fct] at zz; exact zz
                      subst hh0
                      refine (show Go g κ 347 [some (.ref h), some (.ref tl), some (.int (nI cap)), some (.int (nI thr)), some (.int (nI (2 * cap))), some (.int (nI (2 * thr))), some (.ref n133), some (.int (nI j)), some (.null), some (.ref hdL), some (.ref x), some (.null), some (.null), some (.null)] [] [[(h, .inr (23, [.null, .null, .ref n133, .null, .int (nI n), .int (nI md), .int (nI (2 * thr)), .float lfac]))], [(tl, .inl (g.2.1 6, cap, .inr (.inr (.inr (.inr (ctb tab (j + 1)))))))], [(n133, .inl (g.2.1 6, 2 * cap, .inr (.inr (.inr (.inr (va_up ntab j (some hdL)))))))], w1, wa_24_317, w2] (12 * cap - 12 * j) (48 * cap - 48 * j) from ?_)
                      have hdis : ∀ b ∈ cs.filter (fun a => lob cap (hs a)), b ∉ cs.filter (fun a => !lob cap (hs a)) := fun b hb hc => by have z1 := (List.mem_filter.mp hb).2; have z2 := (List.mem_filter.mp hc).2; simp [z1] at z2
                      have gL : Ch (fup (fup nx lt_a254 (some x)) x none) (some hdL) (cs.filter (fun a => lob cap (hs a))) := cu_fL (nx := (fup nx lt_a254 (some x))) (lt := (some x)) (ct := none) fL (fun q e hq => hdis q hq (gl_mem (by rw [fct]; exact e)))
                      have gH : Ch (fup (fup nx lt_a254 (some x)) x none) none (cs.filter (fun a => !lob cap (hs a))) := cu_fH (nx := (fup nx lt_a254 (some x))) (lt := (some x)) (ct := none) fH (fun q e hq => hdis q (gl_mem (by rw [flt]; exact e)) hq)
                      obtain ⟨wl, wh, hpt, hwl, hwh⟩ := NodG.part hwa_24_317 (fun a => lob cap (hs a))
                      refine g_spl 4 rfl hpt rfl ?_
                      refine (show Go g κ 347 [some (.ref h), some (.ref tl), some (.int (nI cap)), some (.int (nI thr)), some (.int (nI (2 * cap))), some (.int (nI (2 * thr))), some (.ref n133), some (.int (nI j)), some (.null), some (.ref hdL), some (.ref x), some (.null), some (.null), some (.null)] [] [[(h, .inr (23, [.null, .null, .ref n133, .null, .int (nI n), .int (nI md), .int (nI (2 * thr)), .float lfac]))], [(tl, .inl (g.2.1 6, cap, .inr (.inr (.inr (.inr (ctb tab (j + 1)))))))], [(n133, .inl (g.2.1 6, 2 * cap, .inr (.inr (.inr (.inr (va_up ntab j (some hdL)))))))], w1, wl, w2, wh] (12 * cap - 12 * j) (48 * cap - 48 * j) from ?_)
                      have hlM : ∀ b, b ∈ cs.filter (fun a => lob cap (hs a)) ↔ b ∈ ns.filter (fun a => lob cap (hs a)) := fun b => by rw [List.mem_filter, List.mem_filter, hM b]
                      have hhM : ∀ b, b ∈ cs.filter (fun a => !lob cap (hs a)) ↔ b ∈ ns.filter (fun a => !lob cap (hs a)) := fun b => by rw [List.mem_filter, List.mem_filter, hM b]
                      obtain ⟨wc_25, ewc_25⟩ : ∃ w : va_W, w = ([wl] : List va_W).flatten := ⟨_, rfl⟩
                      have hwc_25 : BinP g bm (some hdL) ((tf j).filter (fun t => lob cap t.1)) wc_25 := by
                        rw [ewc_25]
                        exact Or.inl ⟨_, cs.filter (fun a => lob cap (hs a)), hs, ky, vl, _, (by simpa using hwl), gL, hN.filter _, hlM, ft_map (p := fun h => lob cap h) hpm, Nat.le_trans (List.length_filter_le _ _) hlb0⟩
                      refine g_close (w := wc_25) [4] rfl ewc_25 rfl ?_
                      refine (show Go g κ 347 [some (.ref h), some (.ref tl), some (.int (nI cap)), some (.int (nI thr)), some (.int (nI (2 * cap))), some (.int (nI (2 * thr))), some (.ref n133), some (.int (nI j)), some (.null), some (.ref hdL), some (.ref x), some (.null), some (.null), some (.null)] [] [[(h, .inr (23, [.null, .null, .ref n133, .null, .int (nI n), .int (nI md), .int (nI (2 * thr)), .float lfac]))], [(tl, .inl (g.2.1 6, cap, .inr (.inr (.inr (.inr (ctb tab (j + 1)))))))], [(n133, .inl (g.2.1 6, 2 * cap, .inr (.inr (.inr (.inr (va_up ntab j (some hdL)))))))], w1, w2, wh, wc_25] (12 * cap - 12 * j) (48 * cap - 48 * j) from ?_)
                      obtain ⟨wc_26, ewc_26⟩ : ∃ w : va_W, w = ([wh] : List va_W).flatten := ⟨_, rfl⟩
                      have hwc_26 : BinP g bm none ((tf j).filter (fun t => !lob cap t.1)) wc_26 := by
                        rw [ewc_26]
                        exact Or.inl ⟨_, cs.filter (fun a => !lob cap (hs a)), hs, ky, vl, _, (by simpa using hwh), gH, hN.filter _, hhM, ft_map (p := fun h => !lob cap h) hpm, Nat.le_trans (List.length_filter_le _ _) hlb0⟩
                      refine g_close (w := wc_26) [5] rfl ewc_26 rfl ?_
                      refine (show Go g κ 347 [some (.ref h), some (.ref tl), some (.int (nI cap)), some (.int (nI thr)), some (.int (nI (2 * cap))), some (.int (nI (2 * thr))), some (.ref n133), some (.int (nI j)), some (.null), some (.ref hdL), some (.ref x), some (.null), some (.null), some (.null)] [] [[(h, .inr (23, [.null, .null, .ref n133, .null, .int (nI n), .int (nI md), .int (nI (2 * thr)), .float lfac]))], [(tl, .inl (g.2.1 6, cap, .inr (.inr (.inr (.inr (ctb tab (j + 1)))))))], [(n133, .inl (g.2.1 6, 2 * cap, .inr (.inr (.inr (.inr (va_up ntab j (some hdL)))))))], w1, w2, wc_25, wc_26] (12 * cap - 12 * j) (48 * cap - 48 * j) from ?_)
                      rw [show va_up ntab j (some hdL) = va_up (va_up ntab j (some hdL)) (j + cap) none from by
                        first
                        | rfl
                        | (rw [up_same (f := ntab) (b := j) (x := none) (hnn j (by omega) (by omega)).1, up_same (f := ntab) (b := j + cap) (x := none) (hnn j (by omega) (by omega)).2])
                        | (rw [up_same (f := ntab) (b := j) (x := none) (hnn j (by omega) (by omega)).1])
                        | (rw [up_same (f := va_up ntab j (some hdL)) (b := j + cap) (x := none) (by show (if j + cap = j then (some hdL) else ntab (j + cap)) = none; rw [if_neg (by omega)]; exact (hnn j (by omega) (by omega)).2)])]
                      refine (show Go g κ 347 [some (.ref h), some (.ref tl), some (.int (nI cap)), some (.int (nI thr)), some (.int (nI (2 * cap))), some (.int (nI (2 * thr))), some (.ref n133), some (.int (nI j)), some (.null), some (.ref hdL), some (.ref x), some (.null), some (.null), some (.null)] [] [[(h, .inr (23, [.null, .null, .ref n133, .null, .int (nI n), .int (nI md), .int (nI (2 * thr)), .float lfac]))], [(tl, .inl (g.2.1 6, cap, .inr (.inr (.inr (.inr (ctb tab (j + 1)))))))], [(n133, .inl (g.2.1 6, 2 * cap, .inr (.inr (.inr (.inr (va_up (va_up ntab j (some hdL)) (j + cap) none))))))], w1, w2, wc_25, wc_26] (12 * cap - 12 * j) (48 * cap - 48 * j) from ?_)
                      obtain ⟨wc_27, ewc_27⟩ : ∃ w : va_W, w = ([w1, wc_25, wc_26, w2] : List va_W).flatten := ⟨_, rfl⟩
                      have hwc_27 : RzP g bm cap (j + 1) tab (va_up (va_up ntab j (some hdL)) (j + cap) none) tf wc_27 := by
                        rw [ewc_27]
                        exact hcl _ _ _ _ hwc_25 hwc_26
                      refine g_close (w := wc_27) [3, 4, 4, 3] rfl ewc_27 rfl ?_
                      refine (show Go g κ 347 [some (.ref h), some (.ref tl), some (.int (nI cap)), some (.int (nI thr)), some (.int (nI (2 * cap))), some (.int (nI (2 * thr))), some (.ref n133), some (.int (nI j)), some (.null), some (.ref hdL), some (.ref x), some (.null), some (.null), some (.null)] [] [[(h, .inr (23, [.null, .null, .ref n133, .null, .int (nI n), .int (nI md), .int (nI (2 * thr)), .float lfac]))], [(tl, .inl (g.2.1 6, cap, .inr (.inr (.inr (.inr (ctb tab (j + 1)))))))], [(n133, .inl (g.2.1 6, 2 * cap, .inr (.inr (.inr (.inr (va_up (va_up ntab j (some hdL)) (j + cap) none))))))], wc_27] (12 * cap - 12 * j) (48 * cap - 48 * j) from ?_)
                      refine g_iinc (v := nI (j + 1)) (q := 350) (lv2 := [some (.ref h), some (.ref tl), some (.int (nI cap)), some (.int (nI thr)), some (.int (nI (2 * cap))), some (.int (nI (2 * thr))), some (.ref n133), some (.int (nI (j + 1))), some (.null), some (.ref hdL), some (.ref x), some (.null), some (.null), some (.null)]) B dJ4_resize_347 rfl rfl (nI_add _ 1) (Nat.le_of_ble_eq_true rfl) rfl ?_
                      refine g_goto (tgt := 151) B dJ4_resize_350 (by decide) ?_
                      refine g_fg 8 rfl ?_
                      refine g_fg 9 rfl ?_
                      refine g_fg 10 rfl ?_
                      refine g_fg 11 rfl ?_
                      refine g_fg 12 rfl ?_
                      refine g_fg 13 rfl ?_
                      refine g_room (kc2 := 12 * cap - 12 * (j + 1)) (ks2 := 48 * cap - 48 * (j + 1)) (by omega) (by omega) ?_
                      exact ih151 _ (by omega) (j + 1) (va_up (va_up ntab j (some hdL)) (j + cap) none) wc_27 hwc_27 (by omega) (fun b h1 h2 => by
                          have z := hnn b (by omega) h2
                          unfold va_up
                          rw [if_neg (by omega), if_neg (by omega), if_neg (by omega), if_neg (by omega)]
                          exact z) rfl
                    · skip
                      subst c329
                      have hqH : ct_a329 ∈ ns := (hM _).mp (List.mem_filter.mp (gl_mem fct)).1
                      refine g_aload (q := 334) B dJ4_resize_332 rfl rfl (rv_r _) ?_
                      refine g_aconst_null (q := 335) B dJ4_resize_334 rfl ?_
                      refine g_putNodG3 (q := 338) (k := 4) (x := none) B hwa_24_317 hqH dJ4_resize_335 rfl rfl q1693 (Or.inl rfl) (fun wa_28_335 hwa_28_335 => ?_)
                      refine (show Go g κ 338 [some (.ref h), some (.ref tl), some (.int (nI cap)), some (.int (nI thr)), some (.int (nI (2 * cap))), some (.int (nI (2 * thr))), some (.ref n133), some (.int (nI j)), some (.null), some (.ref hdL), some (.ref x), some (va_rf ch), some (.ref ct_a329), some (.null)] [] [[(h, .inr (23, [.null, .null, .ref n133, .null, .int (nI n), .int (nI md), .int (nI (2 * thr)), .float lfac]))], [(tl, .inl (g.2.1 6, cap, .inr (.inr (.inr (.inr (ctb tab (j + 1)))))))], [(n133, .inl (g.2.1 6, 2 * cap, .inr (.inr (.inr (.inr (va_up ntab j (some hdL)))))))], w1, wa_28_335, w2] (12 * cap - 12 * j) (48 * cap - 48 * j) from ?_)
                      obtain ⟨hdH, hhdH⟩ : ∃ q, ch = some q := by
                        cases e : ch with
                        | some q => exact ⟨q, rfl⟩
                        | none =>
                          have zz := ch_head fH
                          rw [e] at zz
                          rw [List.head?_eq_none_iff.mp zz.symm] at fct
                          cases fct
                      subst hhdH
                      refine (show Go g κ 338 [some (.ref h), some (.ref tl), some (.int (nI cap)), some (.int (nI thr)), some (.int (nI (2 * cap))), some (.int (nI (2 * thr))), some (.ref n133), some (.int (nI j)), some (.null), some (.ref hdL), some (.ref x), some (.ref hdH), some (.ref ct_a329), some (.null)] [] [[(h, .inr (23, [.null, .null, .ref n133, .null, .int (nI n), .int (nI md), .int (nI (2 * thr)), .float lfac]))], [(tl, .inl (g.2.1 6, cap, .inr (.inr (.inr (.inr (ctb tab (j + 1)))))))], [(n133, .inl (g.2.1 6, 2 * cap, .inr (.inr (.inr (.inr (va_up ntab j (some hdL)))))))], w1, wa_28_335, w2] (12 * cap - 12 * j) (48 * cap - 48 * j) from ?_)
                      have hzH : hdH ∈ ns := (hM _).mp (List.mem_filter.mp (List.mem_of_mem_head? (show hdH ∈ (cs.filter (fun a => !lob cap (hs a))).head? by rw [← ch_head fH]; rfl))).1
                      refine g_aload (q := 340) B dJ4_resize_338 rfl rfl (rv_r _) ?_
                      refine g_iload (q := 342) B dJ4_resize_340 rfl rfl ?_
                      refine g_iload_n (q := 343) B dJ4_resize_342 rfl rfl ?_
                      refine g_iadd (v := nI (j + cap)) (q := 344) B dJ4_resize_343 rfl (nI_add _ _) ?_
                      refine g_aload (q := 346) B dJ4_resize_344 rfl rfl (rv_r _) ?_
                      refine g_astO (q := 347) (L2 := [[(h, .inr (23, [.null, .null, .ref n133, .null, .int (nI n), .int (nI md), .int (nI (2 * thr)), .float lfac]))], [(tl, .inl (g.2.1 6, cap, .inr (.inr (.inr (.inr (ctb tab (j + 1)))))))], [(n133, .inl (g.2.1 6, 2 * cap, .inr (.inr (.inr (.inr (va_up (va_up ntab j (some hdL)) (j + cap) (some hdH)))))))], w1, wa_28_335, w2]) B (k := 2) (t := 6) (C := "java/util/HashMap$Node") (rc_in B (ci := 24) rfl (k := 4) rfl ⟨_, NodG.mem hwa_28_335 hzH⟩) as_s dJ4_resize_346 rfl rfl rfl (vp_in_nI (by omega) (by omega)) (by rw [nI_clamp (by omega)] <;> rfl) ?_
                      have hdis : ∀ b ∈ cs.filter (fun a => lob cap (hs a)), b ∉ cs.filter (fun a => !lob cap (hs a)) := fun b hb hc => by have z1 := (List.mem_filter.mp hb).2; have z2 := (List.mem_filter.mp hc).2; simp [z1] at z2
                      have gL : Ch (fup (fup (fup nx lt_a254 (some x)) x none) ct_a329 none) (some hdL) (cs.filter (fun a => lob cap (hs a))) := cu_fL (nx := (fup nx lt_a254 (some x))) (lt := (some x)) (ct := (some ct_a329)) fL (fun q e hq => hdis q hq (gl_mem (by rw [fct]; exact e)))
                      have gH : Ch (fup (fup (fup nx lt_a254 (some x)) x none) ct_a329 none) (some hdH) (cs.filter (fun a => !lob cap (hs a))) := cu_fH (nx := (fup nx lt_a254 (some x))) (lt := (some x)) (ct := (some ct_a329)) fH (fun q e hq => hdis q (gl_mem (by rw [flt]; exact e)) hq)
                      obtain ⟨wl, wh, hpt, hwl, hwh⟩ := NodG.part hwa_28_335 (fun a => lob cap (hs a))
                      refine g_spl 4 rfl hpt rfl ?_
                      refine (show Go g κ 347 [some (.ref h), some (.ref tl), some (.int (nI cap)), some (.int (nI thr)), some (.int (nI (2 * cap))), some (.int (nI (2 * thr))), some (.ref n133), some (.int (nI j)), some (.null), some (.ref hdL), some (.ref x), some (.ref hdH), some (.ref ct_a329), some (.null)] [] [[(h, .inr (23, [.null, .null, .ref n133, .null, .int (nI n), .int (nI md), .int (nI (2 * thr)), .float lfac]))], [(tl, .inl (g.2.1 6, cap, .inr (.inr (.inr (.inr (ctb tab (j + 1)))))))], [(n133, .inl (g.2.1 6, 2 * cap, .inr (.inr (.inr (.inr (va_up (va_up ntab j (some hdL)) (j + cap) (some hdH)))))))], w1, wl, w2, wh] (12 * cap - 12 * j) (48 * cap - 48 * j) from ?_)
                      have hlM : ∀ b, b ∈ cs.filter (fun a => lob cap (hs a)) ↔ b ∈ ns.filter (fun a => lob cap (hs a)) := fun b => by rw [List.mem_filter, List.mem_filter, hM b]
                      have hhM : ∀ b, b ∈ cs.filter (fun a => !lob cap (hs a)) ↔ b ∈ ns.filter (fun a => !lob cap (hs a)) := fun b => by rw [List.mem_filter, List.mem_filter, hM b]
                      obtain ⟨wc_29, ewc_29⟩ : ∃ w : va_W, w = ([wl] : List va_W).flatten := ⟨_, rfl⟩
                      have hwc_29 : BinP g bm (some hdL) ((tf j).filter (fun t => lob cap t.1)) wc_29 := by
                        rw [ewc_29]
                        exact Or.inl ⟨_, cs.filter (fun a => lob cap (hs a)), hs, ky, vl, _, (by simpa using hwl), gL, hN.filter _, hlM, ft_map (p := fun h => lob cap h) hpm, Nat.le_trans (List.length_filter_le _ _) hlb0⟩
                      refine g_close (w := wc_29) [4] rfl ewc_29 rfl ?_
                      refine (show Go g κ 347 [some (.ref h), some (.ref tl), some (.int (nI cap)), some (.int (nI thr)), some (.int (nI (2 * cap))), some (.int (nI (2 * thr))), some (.ref n133), some (.int (nI j)), some (.null), some (.ref hdL), some (.ref x), some (.ref hdH), some (.ref ct_a329), some (.null)] [] [[(h, .inr (23, [.null, .null, .ref n133, .null, .int (nI n), .int (nI md), .int (nI (2 * thr)), .float lfac]))], [(tl, .inl (g.2.1 6, cap, .inr (.inr (.inr (.inr (ctb tab (j + 1)))))))], [(n133, .inl (g.2.1 6, 2 * cap, .inr (.inr (.inr (.inr (va_up (va_up ntab j (some hdL)) (j + cap) (some hdH)))))))], w1, w2, wh, wc_29] (12 * cap - 12 * j) (48 * cap - 48 * j) from ?_)
                      obtain ⟨wc_30, ewc_30⟩ : ∃ w : va_W, w = ([wh] : List va_W).flatten := ⟨_, rfl⟩
                      have hwc_30 : BinP g bm (some hdH) ((tf j).filter (fun t => !lob cap t.1)) wc_30 := by
                        rw [ewc_30]
                        exact Or.inl ⟨_, cs.filter (fun a => !lob cap (hs a)), hs, ky, vl, _, (by simpa using hwh), gH, hN.filter _, hhM, ft_map (p := fun h => !lob cap h) hpm, Nat.le_trans (List.length_filter_le _ _) hlb0⟩
                      refine g_close (w := wc_30) [5] rfl ewc_30 rfl ?_
                      refine (show Go g κ 347 [some (.ref h), some (.ref tl), some (.int (nI cap)), some (.int (nI thr)), some (.int (nI (2 * cap))), some (.int (nI (2 * thr))), some (.ref n133), some (.int (nI j)), some (.null), some (.ref hdL), some (.ref x), some (.ref hdH), some (.ref ct_a329), some (.null)] [] [[(h, .inr (23, [.null, .null, .ref n133, .null, .int (nI n), .int (nI md), .int (nI (2 * thr)), .float lfac]))], [(tl, .inl (g.2.1 6, cap, .inr (.inr (.inr (.inr (ctb tab (j + 1)))))))], [(n133, .inl (g.2.1 6, 2 * cap, .inr (.inr (.inr (.inr (va_up (va_up ntab j (some hdL)) (j + cap) (some hdH)))))))], w1, w2, wc_29, wc_30] (12 * cap - 12 * j) (48 * cap - 48 * j) from ?_)
                      obtain ⟨wc_31, ewc_31⟩ : ∃ w : va_W, w = ([w1, wc_29, wc_30, w2] : List va_W).flatten := ⟨_, rfl⟩
                      have hwc_31 : RzP g bm cap (j + 1) tab (va_up (va_up ntab j (some hdL)) (j + cap) (some hdH)) tf wc_31 := by
                        rw [ewc_31]
                        exact hcl _ _ _ _ hwc_29 hwc_30
                      refine g_close (w := wc_31) [3, 4, 4, 3] rfl ewc_31 rfl ?_
                      refine (show Go g κ 347 [some (.ref h), some (.ref tl), some (.int (nI cap)), some (.int (nI thr)), some (.int (nI (2 * cap))), some (.int (nI (2 * thr))), some (.ref n133), some (.int (nI j)), some (.null), some (.ref hdL), some (.ref x), some (.ref hdH), some (.ref ct_a329), some (.null)] [] [[(h, .inr (23, [.null, .null, .ref n133, .null, .int (nI n), .int (nI md), .int (nI (2 * thr)), .float lfac]))], [(tl, .inl (g.2.1 6, cap, .inr (.inr (.inr (.inr (ctb tab (j + 1)))))))], [(n133, .inl (g.2.1 6, 2 * cap, .inr (.inr (.inr (.inr (va_up (va_up ntab j (some hdL)) (j + cap) (some hdH)))))))], wc_31] (12 * cap - 12 * j) (48 * cap - 48 * j) from ?_)
                      refine g_iinc (v := nI (j + 1)) (q := 350) (lv2 := [some (.ref h), some (.ref tl), some (.int (nI cap)), some (.int (nI thr)), some (.int (nI (2 * cap))), some (.int (nI (2 * thr))), some (.ref n133), some (.int (nI (j + 1))), some (.null), some (.ref hdL), some (.ref x), some (.ref hdH), some (.ref ct_a329), some (.null)]) B dJ4_resize_347 rfl rfl (nI_add _ 1) (Nat.le_of_ble_eq_true rfl) rfl ?_
                      refine g_goto (tgt := 151) B dJ4_resize_350 (by decide) ?_
                      refine g_fg 8 rfl ?_
                      refine g_fg 9 rfl ?_
                      refine g_fg 10 rfl ?_
                      refine g_fg 11 rfl ?_
                      refine g_fg 12 rfl ?_
                      refine g_fg 13 rfl ?_
                      refine g_room (kc2 := 12 * cap - 12 * (j + 1)) (ks2 := 48 * cap - 48 * (j + 1)) (by omega) (by omega) ?_
                      exact ih151 _ (by omega) (j + 1) (va_up (va_up ntab j (some hdL)) (j + cap) (some hdH)) wc_31 hwc_31 (by omega) (fun b h1 h2 => by
                          have z := hnn b (by omega) h2
                          unfold va_up
                          rw [if_neg (by omega), if_neg (by omega), if_neg (by omega), if_neg (by omega)]
                          exact z) rfl
                · skip
                  subst c254
                  refine g_aload (q := 259) B dJ4_resize_257 rfl rfl (rv_r _) ?_
                  refine g_astore (q := 261) (lv2 := [some (.ref h), some (.ref tl), some (.int (nI cap)), some (.int (nI thr)), some (.int (nI (2 * cap))), some (.int (nI (2 * thr))), some (.ref n133), some (.int (nI j)), some (.ref x), some (.ref x), some (.null), some (va_rf ch), some (va_rf ct), some (va_rf (nx x))]) B dJ4_resize_259 rfl (Nat.le_of_ble_eq_true rfl) (rv_r _) rfl ?_
                  refine g_goto (tgt := 271) B dJ4_resize_261 (by decide) ?_
                  refine g_aload (q := 273) B dJ4_resize_271 rfl rfl (rv_r _) ?_
                  refine g_astore (q := 275) (lv2 := [some (.ref h), some (.ref tl), some (.int (nI cap)), some (.int (nI thr)), some (.int (nI (2 * cap))), some (.int (nI (2 * thr))), some (.ref n133), some (.int (nI j)), some (.ref x), some (.ref x), some (.ref x), some (va_rf ch), some (va_rf ct), some (va_rf (nx x))]) B dJ4_resize_273 rfl (Nat.le_of_ble_eq_true rfl) (rv_r _) rfl ?_
                  refine g_goto (tgt := 301) B dJ4_resize_275 (by decide) ?_
                  refine g_aload (q := 303) B dJ4_resize_301 rfl rfl (rv_o _) ?_
                  refine g_dup (q := 304) B dJ4_resize_303 rfl (rv_c (rv_o _)) ?_
                  refine g_astore (q := 306) (lv2 := [some (.ref h), some (.ref tl), some (.int (nI cap)), some (.int (nI thr)), some (.int (nI (2 * cap))), some (.int (nI (2 * thr))), some (.ref n133), some (.int (nI j)), some (va_rf (nx x)), some (.ref x), some (.ref x), some (va_rf ch), some (va_rf ct), some (va_rf (nx x))]) B dJ4_resize_304 rfl (Nat.le_of_ble_eq_true rfl) (rv_o _) rfl ?_
                  refine g_ifnonnull_o (tgt := 235) (q := 309) B dJ4_resize_306 rfl (by decide) (fun nxx_a306 c306 => ?_) (fun c306 => ?_)
                  · skip
                    rw [c306]
                    refine (show Go g κ 235 [some (.ref h), some (.ref tl), some (.int (nI cap)), some (.int (nI thr)), some (.int (nI (2 * cap))), some (.int (nI (2 * thr))), some (.ref n133), some (.int (nI j)), some (.ref nxx_a306), some (.ref x), some (.ref x), some (va_rf ch), some (va_rf ct), some (.ref nxx_a306)] [] [[(h, .inr (23, [.null, .null, .ref n133, .null, .int (nI n), .int (nI md), .int (nI (2 * thr)), .float lfac]))], [(tl, .inl (g.2.1 6, cap, .inr (.inr (.inr (.inr (ctb tab (j + 1)))))))], [(n133, .inl (g.2.1 6, 2 * cap, .inr (.inr (.inr (.inr ntab)))))], w1, l235_4, w2] (12 * cap - 12 * j) (48 * cap - 48 * j) from ?_)
                    refine g_fg 13 rfl ?_
                    obtain ⟨v2, hv2⟩ : ∃ v2, vt = nxx_a306 :: v2 := by
                      have zz := hV
                      rw [c306] at zz
                      cases vt with
                      | nil => exact absurd zz (by simp [Ch])
                      | cons q t => obtain ⟨e, -⟩ := zz; cases e; exact ⟨t, rfl⟩
                    subst hv2
                    have hVz : Ch nx (nx nxx_a306) v2 := (by have zz := hV; rw [c306] at zz; exact zz.2)
                    have hznt : ∀ q ∈ us, nxx_a306 ≠ q := fun q hq e => huv q hq (by rw [← e]; simp)
                    exact ih235 _ (by rw [← hmu235]; simp) (us ++ [x]) nxx_a306 v2 (los ++ [x]) his nx (some x) (some x) ch ct l235_4 hl235_4 (by rw [hcs2]; simp) (by rw [List.filter_append, ← hlos]; simp [lob, c249]) (by rw [List.filter_append, ← hhis]; simp [lob, c249]) (hVz) (by rw [gl_none hlt]; exact ⟨rfl, fup_s _ _ _⟩) (hH) (gl_snoc) (hct) rfl
                  · skip
                    rw [c306]
                    refine (show Go g κ 309 [some (.ref h), some (.ref tl), some (.int (nI cap)), some (.int (nI thr)), some (.int (nI (2 * cap))), some (.int (nI (2 * thr))), some (.ref n133), some (.int (nI j)), some (.null), some (.ref x), some (.ref x), some (va_rf ch), some (va_rf ct), some (.null)] [] [[(h, .inr (23, [.null, .null, .ref n133, .null, .int (nI n), .int (nI md), .int (nI (2 * thr)), .float lfac]))], [(tl, .inl (g.2.1 6, cap, .inr (.inr (.inr (.inr (ctb tab (j + 1)))))))], [(n133, .inl (g.2.1 6, 2 * cap, .inr (.inr (.inr (.inr ntab)))))], w1, l235_4, w2] (12 * cap - 12 * j) (48 * cap - 48 * j) from ?_)
                    have hve : vt = [] := by
                      have zz := ch_head hV
                      rw [c306] at zz
                      exact List.head?_eq_none_iff.mp zz.symm
                    subst hve
                    have fL : Ch (cutl nx (some x)) (some x) (los ++ [x]) := by rw [gl_none hlt]; exact ⟨rfl, fup_s _ _ _⟩
                    have fH : Ch (cutl nx ct) ch his := hH
                    have flt : (los ++ [x]).getLast? = some x := gl_snoc
                    have fct : his.getLast? = ct := hct
                    have flo : (los ++ [x]) = cs.filter (fun a => lob cap (hs a)) := by rw [hcs2, show us ++ [x] = us ++ [x] from rfl]; exact by rw [List.filter_append, ← hlos]; simp [lob, c249]
                    have fhi : his = cs.filter (fun a => !lob cap (hs a)) := by rw [hcs2]; exact by rw [List.filter_append, ← hhis]; simp [lob, c249]
                    rw [flo] at fL flt
                    rw [fhi] at fH fct
                    refine g_aload (q := 311) B dJ4_resize_309 rfl rfl (rv_r _) ?_
                    refine g_ifnull_r (q := 314) B dJ4_resize_311 rfl ?_
                    refine g_aload (q := 316) B dJ4_resize_314 rfl rfl (rv_r _) ?_
                    refine g_aconst_null (q := 317) B dJ4_resize_316 rfl ?_
                    refine g_putNodG3 (q := 320) (k := 4) (x := none) B hl235_4 hxm dJ4_resize_317 rfl rfl q1693 (Or.inl rfl) (fun wa_32_317 hwa_32_317 => ?_)
                    refine (show Go g κ 320 [some (.ref h), some (.ref tl), some (.int (nI cap)), some (.int (nI thr)), some (.int (nI (2 * cap))), some (.int (nI (2 * thr))), some (.ref n133), some (.int (nI j)), some (.null), some (.ref x), some (.ref x), some (va_rf ch), some (va_rf ct), some (.null)] [] [[(h, .inr (23, [.null, .null, .ref n133, .null, .int (nI n), .int (nI md), .int (nI (2 * thr)), .float lfac]))], [(tl, .inl (g.2.1 6, cap, .inr (.inr (.inr (.inr (ctb tab (j + 1)))))))], [(n133, .inl (g.2.1 6, 2 * cap, .inr (.inr (.inr (.inr ntab)))))], w1, wa_32_317, w2] (12 * cap - 12 * j) (48 * cap - 48 * j) from ?_)
                    have hzL : x ∈ ns := (hM _).mp (List.mem_filter.mp (List.mem_of_mem_head? (show x ∈ (cs.filter (fun a => lob cap (hs a))).head? by rw [← ch_head fL]; rfl))).1
                    refine g_aload (q := 322) B dJ4_resize_320 rfl rfl (rv_r _) ?_
                    refine g_iload (q := 324) B dJ4_resize_322 rfl rfl ?_
                    refine g_aload (q := 326) B dJ4_resize_324 rfl rfl (rv_r _) ?_
                    refine g_astO (q := 327) (L2 := [[(h, .inr (23, [.null, .null, .ref n133, .null, .int (nI n), .int (nI md), .int (nI (2 * thr)), .float lfac]))], [(tl, .inl (g.2.1 6, cap, .inr (.inr (.inr (.inr (ctb tab (j + 1)))))))], [(n133, .inl (g.2.1 6, 2 * cap, .inr (.inr (.inr (.inr (va_up ntab j (some x)))))))], w1, wa_32_317, w2]) B (k := 2) (t := 6) (C := "java/util/HashMap$Node") (rc_in B (ci := 24) rfl (k := 4) rfl ⟨_, NodG.mem hwa_32_317 hzL⟩) as_s dJ4_resize_326 rfl rfl rfl (vp_in_nI (by omega) (by omega)) (by rw [nI_clamp (by omega)] <;> rfl) ?_
                    refine g_aload (q := 329) B dJ4_resize_327 rfl rfl (rv_o _) ?_
                    refine g_ifnull_o (tgt := 347) (q := 332) B dJ4_resize_329 rfl (by decide) (fun c329 => ?_) (fun ct_a329 c329 => ?_)
                    · skip
                      subst c329
                      have hh0 : ch = none := by have zz := fH; rw [gl_none fct] at zz; exact zz
                      subst hh0
                      refine (show Go g κ 347 [some (.ref h), some (.ref tl), some (.int (nI cap)), some (.int (nI thr)), some (.int (nI (2 * cap))), some (.int (nI (2 * thr))), some (.ref n133), some (.int (nI j)), some (.null), some (.ref x), some (.ref x), some (.null), some (.null), some (.null)] [] [[(h, .inr (23, [.null, .null, .ref n133, .null, .int (nI n), .int (nI md), .int (nI (2 * thr)), .float lfac]))], [(tl, .inl (g.2.1 6, cap, .inr (.inr (.inr (.inr (ctb tab (j + 1)))))))], [(n133, .inl (g.2.1 6, 2 * cap, .inr (.inr (.inr (.inr (va_up ntab j (some x)))))))], w1, wa_32_317, w2] (12 * cap - 12 * j) (48 * cap - 48 * j) from ?_)
                      have hdis : ∀ b ∈ cs.filter (fun a => lob cap (hs a)), b ∉ cs.filter (fun a => !lob cap (hs a)) := fun b hb hc => by have z1 := (List.mem_filter.mp hb).2; have z2 := (List.mem_filter.mp hc).2; simp [z1] at z2
                      have gL : Ch (fup nx x none) (some x) (cs.filter (fun a => lob cap (hs a))) := cu_fL (nx := nx) (lt := (some x)) (ct := none) fL (fun q e hq => hdis q hq (gl_mem (by rw [fct]; exact e)))
                      have gH : Ch (fup nx x none) none (cs.filter (fun a => !lob cap (hs a))) := cu_fH (nx := nx) (lt := (some x)) (ct := none) fH (fun q e hq => hdis q (gl_mem (by rw [flt]; exact e)) hq)
                      obtain ⟨wl, wh, hpt, hwl, hwh⟩ := NodG.part hwa_32_317 (fun a => lob cap (hs a))
                      refine g_spl 4 rfl hpt rfl ?_
                      refine (show Go g κ 347 [some (.ref h), some (.ref tl), some (.int (nI cap)), some (.int (nI thr)), some (.int (nI (2 * cap))), some (.int (nI (2 * thr))), some (.ref n133), some (.int (nI j)), some (.null), some (.ref x), some (.ref x), some (.null), some (.null), some (.null)] [] [[(h, .inr (23, [.null, .null, .ref n133, .null, .int (nI n), .int (nI md), .int (nI (2 * thr)), .float lfac]))], [(tl, .inl (g.2.1 6, cap, .inr (.inr (.inr (.inr (ctb tab (j + 1)))))))], [(n133, .inl (g.2.1 6, 2 * cap, .inr (.inr (.inr (.inr (va_up ntab j (some x)))))))], w1, wl, w2, wh] (12 * cap - 12 * j) (48 * cap - 48 * j) from ?_)
                      have hlM : ∀ b, b ∈ cs.filter (fun a => lob cap (hs a)) ↔ b ∈ ns.filter (fun a => lob cap (hs a)) := fun b => by rw [List.mem_filter, List.mem_filter, hM b]
                      have hhM : ∀ b, b ∈ cs.filter (fun a => !lob cap (hs a)) ↔ b ∈ ns.filter (fun a => !lob cap (hs a)) := fun b => by rw [List.mem_filter, List.mem_filter, hM b]
                      obtain ⟨wc_33, ewc_33⟩ : ∃ w : va_W, w = ([wl] : List va_W).flatten := ⟨_, rfl⟩
                      have hwc_33 : BinP g bm (some x) ((tf j).filter (fun t => lob cap t.1)) wc_33 := by
                        rw [ewc_33]
                        exact Or.inl ⟨_, cs.filter (fun a => lob cap (hs a)), hs, ky, vl, _, (by simpa using hwl), gL, hN.filter _, hlM, ft_map (p := fun h => lob cap h) hpm, Nat.le_trans (List.length_filter_le _ _) hlb0⟩
                      refine g_close (w := wc_33) [4] rfl ewc_33 rfl ?_
                      refine (show Go g κ 347 [some (.ref h), some (.ref tl), some (.int (nI cap)), some (.int (nI thr)), some (.int (nI (2 * cap))), some (.int (nI (2 * thr))), some (.ref n133), some (.int (nI j)), some (.null), some (.ref x), some (.ref x), some (.null), some (.null), some (.null)] [] [[(h, .inr (23, [.null, .null, .ref n133, .null, .int (nI n), .int (nI md), .int (nI (2 * thr)), .float lfac]))], [(tl, .inl (g.2.1 6, cap, .inr (.inr (.inr (.inr (ctb tab (j + 1)))))))], [(n133, .inl (g.2.1 6, 2 * cap, .inr (.inr (.inr (.inr (va_up ntab j (some x)))))))], w1, w2, wh, wc_33] (12 * cap - 12 * j) (48 * cap - 48 * j) from ?_)
                      obtain ⟨wc_34, ewc_34⟩ : ∃ w : va_W, w = ([wh] : List va_W).flatten := ⟨_, rfl⟩
                      have hwc_34 : BinP g bm none ((tf j).filter (fun t => !lob cap t.1)) wc_34 := by
                        rw [ewc_34]
                        exact Or.inl ⟨_, cs.filter (fun a => !lob cap (hs a)), hs, ky, vl, _, (by simpa using hwh), gH, hN.filter _, hhM, ft_map (p := fun h => !lob cap h) hpm, Nat.le_trans (List.length_filter_le _ _) hlb0⟩
                      refine g_close (w := wc_34) [5] rfl ewc_34 rfl ?_
                      refine (show Go g κ 347 [some (.ref h), some (.ref tl), some (.int (nI cap)), some (.int (nI thr)), some (.int (nI (2 * cap))), some (.int (nI (2 * thr))), some (.ref n133), some (.int (nI j)), some (.null), some (.ref x), some (.ref x), some (.null), some (.null), some (.null)] [] [[(h, .inr (23, [.null, .null, .ref n133, .null, .int (nI n), .int (nI md), .int (nI (2 * thr)), .float lfac]))], [(tl, .inl (g.2.1 6, cap, .inr (.inr (.inr (.inr (ctb tab (j + 1)))))))], [(n133, .inl (g.2.1 6, 2 * cap, .inr (.inr (.inr (.inr (va_up ntab j (some x)))))))], w1, w2, wc_33, wc_34] (12 * cap - 12 * j) (48 * cap - 48 * j) from ?_)
                      rw [show va_up ntab j (some x) = va_up (va_up ntab j (some x)) (j + cap) none from by
                        first
                        | rfl
                        | (rw [up_same (f := ntab) (b := j) (x := none) (hnn j (by omega) (by omega)).1, up_same (f := ntab) (b := j + cap) (x := none) (hnn j (by omega) (by omega)).2])
                        | (rw [up_same (f := ntab) (b := j) (x := none) (hnn j (by omega) (by omega)).1])
                        | (rw [up_same (f := va_up ntab j (some x)) (b := j + cap) (x := none) (by show (if j + cap = j then (some x) else ntab (j + cap)) = none; rw [if_neg (by omega)]; exact (hnn j (by omega) (by omega)).2)])]
                      refine (show Go g κ 347 [some (.ref h), some (.ref tl), some (.int (nI cap)), some (.int (nI thr)), some (.int (nI (2 * cap))), some (.int (nI (2 * thr))), some (.ref n133), some (.int (nI j)), some (.null), some (.ref x), some (.ref x), some (.null), some (.null), some (.null)] [] [[(h, .inr (23, [.null, .null, .ref n133, .null, .int (nI n), .int (nI md), .int (nI (2 * thr)), .float lfac]))], [(tl, .inl (g.2.1 6, cap, .inr (.inr (.inr (.inr (ctb tab (j + 1)))))))], [(n133, .inl (g.2.1 6, 2 * cap, .inr (.inr (.inr (.inr (va_up (va_up ntab j (some x)) (j + cap) none))))))], w1, w2, wc_33, wc_34] (12 * cap - 12 * j) (48 * cap - 48 * j) from ?_)
                      obtain ⟨wc_35, ewc_35⟩ : ∃ w : va_W, w = ([w1, wc_33, wc_34, w2] : List va_W).flatten := ⟨_, rfl⟩
                      have hwc_35 : RzP g bm cap (j + 1) tab (va_up (va_up ntab j (some x)) (j + cap) none) tf wc_35 := by
                        rw [ewc_35]
                        exact hcl _ _ _ _ hwc_33 hwc_34
                      refine g_close (w := wc_35) [3, 4, 4, 3] rfl ewc_35 rfl ?_
                      refine (show Go g κ 347 [some (.ref h), some (.ref tl), some (.int (nI cap)), some (.int (nI thr)), some (.int (nI (2 * cap))), some (.int (nI (2 * thr))), some (.ref n133), some (.int (nI j)), some (.null), some (.ref x), some (.ref x), some (.null), some (.null), some (.null)] [] [[(h, .inr (23, [.null, .null, .ref n133, .null, .int (nI n), .int (nI md), .int (nI (2 * thr)), .float lfac]))], [(tl, .inl (g.2.1 6, cap, .inr (.inr (.inr (.inr (ctb tab (j + 1)))))))], [(n133, .inl (g.2.1 6, 2 * cap, .inr (.inr (.inr (.inr (va_up (va_up ntab j (some x)) (j + cap) none))))))], wc_35] (12 * cap - 12 * j) (48 * cap - 48 * j) from ?_)
                      refine g_iinc (v := nI (j + 1)) (q := 350) (lv2 := [some (.ref h), some (.ref tl), some (.int (nI cap)), some (.int (nI thr)), some (.int (nI (2 * cap))), some (.int (nI (2 * thr))), some (.ref n133), some (.int (nI (j + 1))), some (.null), some (.ref x), some (.ref x), some (.null), some (.null), some (.null)]) B dJ4_resize_347 rfl rfl (nI_add _ 1) (Nat.le_of_ble_eq_true rfl) rfl ?_
                      refine g_goto (tgt := 151) B dJ4_resize_350 (by decide) ?_
                      refine g_fg 8 rfl ?_
                      refine g_fg 9 rfl ?_
                      refine g_fg 10 rfl ?_
                      refine g_fg 11 rfl ?_
                      refine g_fg 12 rfl ?_
                      refine g_fg 13 rfl ?_
                      refine g_room (kc2 := 12 * cap - 12 * (j + 1)) (ks2 := 48 * cap - 48 * (j + 1)) (by omega) (by omega) ?_
                      exact ih151 _ (by omega) (j + 1) (va_up (va_up ntab j (some x)) (j + cap) none) wc_35 hwc_35 (by omega) (fun b h1 h2 => by
                          have z := hnn b (by omega) h2
                          unfold va_up
                          rw [if_neg (by omega), if_neg (by omega), if_neg (by omega), if_neg (by omega)]
                          exact z) rfl
                    · skip
                      subst c329
                      have hqH : ct_a329 ∈ ns := (hM _).mp (List.mem_filter.mp (gl_mem fct)).1
                      refine g_aload (q := 334) B dJ4_resize_332 rfl rfl (rv_r _) ?_
                      refine g_aconst_null (q := 335) B dJ4_resize_334 rfl ?_
                      refine g_putNodG3 (q := 338) (k := 4) (x := none) B hwa_32_317 hqH dJ4_resize_335 rfl rfl q1693 (Or.inl rfl) (fun wa_36_335 hwa_36_335 => ?_)
                      refine (show Go g κ 338 [some (.ref h), some (.ref tl), some (.int (nI cap)), some (.int (nI thr)), some (.int (nI (2 * cap))), some (.int (nI (2 * thr))), some (.ref n133), some (.int (nI j)), some (.null), some (.ref x), some (.ref x), some (va_rf ch), some (.ref ct_a329), some (.null)] [] [[(h, .inr (23, [.null, .null, .ref n133, .null, .int (nI n), .int (nI md), .int (nI (2 * thr)), .float lfac]))], [(tl, .inl (g.2.1 6, cap, .inr (.inr (.inr (.inr (ctb tab (j + 1)))))))], [(n133, .inl (g.2.1 6, 2 * cap, .inr (.inr (.inr (.inr (va_up ntab j (some x)))))))], w1, wa_36_335, w2] (12 * cap - 12 * j) (48 * cap - 48 * j) from ?_)
                      obtain ⟨hdH, hhdH⟩ : ∃ q, ch = some q := by
                        cases e : ch with
                        | some q => exact ⟨q, rfl⟩
                        | none =>
                          have zz := ch_head fH
                          rw [e] at zz
                          rw [List.head?_eq_none_iff.mp zz.symm] at fct
                          cases fct
                      subst hhdH
                      refine (show Go g κ 338 [some (.ref h), some (.ref tl), some (.int (nI cap)), some (.int (nI thr)), some (.int (nI (2 * cap))), some (.int (nI (2 * thr))), some (.ref n133), some (.int (nI j)), some (.null), some (.ref x), some (.ref x), some (.ref hdH), some (.ref ct_a329), some (.null)] [] [[(h, .inr (23, [.null, .null, .ref n133, .null, .int (nI n), .int (nI md), .int (nI (2 * thr)), .float lfac]))], [(tl, .inl (g.2.1 6, cap, .inr (.inr (.inr (.inr (ctb tab (j + 1)))))))], [(n133, .inl (g.2.1 6, 2 * cap, .inr (.inr (.inr (.inr (va_up ntab j (some x)))))))], w1, wa_36_335, w2] (12 * cap - 12 * j) (48 * cap - 48 * j) from ?_)
                      have hzH : hdH ∈ ns := (hM _).mp (List.mem_filter.mp (List.mem_of_mem_head? (show hdH ∈ (cs.filter (fun a => !lob cap (hs a))).head? by rw [← ch_head fH]; rfl))).1
                      refine g_aload (q := 340) B dJ4_resize_338 rfl rfl (rv_r _) ?_
                      refine g_iload (q := 342) B dJ4_resize_340 rfl rfl ?_
                      refine g_iload_n (q := 343) B dJ4_resize_342 rfl rfl ?_
                      refine g_iadd (v := nI (j + cap)) (q := 344) B dJ4_resize_343 rfl (nI_add _ _) ?_
                      refine g_aload (q := 346) B dJ4_resize_344 rfl rfl (rv_r _) ?_
                      refine g_astO (q := 347) (L2 := [[(h, .inr (23, [.null, .null, .ref n133, .null, .int (nI n), .int (nI md), .int (nI (2 * thr)), .float lfac]))], [(tl, .inl (g.2.1 6, cap, .inr (.inr (.inr (.inr (ctb tab (j + 1)))))))], [(n133, .inl (g.2.1 6, 2 * cap, .inr (.inr (.inr (.inr (va_up (va_up ntab j (some x)) (j + cap) (some hdH)))))))], w1, wa_36_335, w2]) B (k := 2) (t := 6) (C := "java/util/HashMap$Node") (rc_in B (ci := 24) rfl (k := 4) rfl ⟨_, NodG.mem hwa_36_335 hzH⟩) as_s dJ4_resize_346 rfl rfl rfl (vp_in_nI (by omega) (by omega)) (by rw [nI_clamp (by omega)] <;> rfl) ?_
                      have hdis : ∀ b ∈ cs.filter (fun a => lob cap (hs a)), b ∉ cs.filter (fun a => !lob cap (hs a)) := fun b hb hc => by have z1 := (List.mem_filter.mp hb).2; have z2 := (List.mem_filter.mp hc).2; simp [z1] at z2
                      have gL : Ch (fup (fup nx x none) ct_a329 none) (some x) (cs.filter (fun a => lob cap (hs a))) := cu_fL (nx := nx) (lt := (some x)) (ct := (some ct_a329)) fL (fun q e hq => hdis q hq (gl_mem (by rw [fct]; exact e)))
                      have gH : Ch (fup (fup nx x none) ct_a329 none) (some hdH) (cs.filter (fun a => !lob cap (hs a))) := cu_fH (nx := nx) (lt := (some x)) (ct := (some ct_a329)) fH (fun q e hq => hdis q (gl_mem (by rw [flt]; exact e)) hq)
                      obtain ⟨wl, wh, hpt, hwl, hwh⟩ := NodG.part hwa_36_335 (fun a => lob cap (hs a))
                      refine g_spl 4 rfl hpt rfl ?_
                      refine (show Go g κ 347 [some (.ref h), some (.ref tl), some (.int (nI cap)), some (.int (nI thr)), some (.int (nI (2 * cap))), some (.int (nI (2 * thr))), some (.ref n133), some (.int (nI j)), some (.null), some (.ref x), some (.ref x), some (.ref hdH), some (.ref ct_a329), some (.null)] [] [[(h, .inr (23, [.null, .null, .ref n133, .null, .int (nI n), .int (nI md), .int (nI (2 * thr)), .float lfac]))], [(tl, .inl (g.2.1 6, cap, .inr (.inr (.inr (.inr (ctb tab (j + 1)))))))], [(n133, .inl (g.2.1 6, 2 * cap, .inr (.inr (.inr (.inr (va_up (va_up ntab j (some x)) (j + cap) (some hdH)))))))], w1, wl, w2, wh] (12 * cap - 12 * j) (48 * cap - 48 * j) from ?_)
                      have hlM : ∀ b, b ∈ cs.filter (fun a => lob cap (hs a)) ↔ b ∈ ns.filter (fun a => lob cap (hs a)) := fun b => by rw [List.mem_filter, List.mem_filter, hM b]
                      have hhM : ∀ b, b ∈ cs.filter (fun a => !lob cap (hs a)) ↔ b ∈ ns.filter (fun a => !lob cap (hs a)) := fun b => by rw [List.mem_filter, List.mem_filter, hM b]
                      obtain ⟨wc_37, ewc_37⟩ : ∃ w : va_W, w = ([wl] : List va_W).flatten := ⟨_, rfl⟩
                      have hwc_37 : BinP g bm (some x) ((tf j).filter (fun t => lob cap t.1)) wc_37 := by
                        rw [ewc_37]
                        exact Or.inl ⟨_, cs.filter (fun a => lob cap (hs a)), hs, ky, vl, _, (by simpa using hwl), gL, hN.filter _, hlM, ft_map (p := fun h => lob cap h) hpm, Nat.le_trans (List.length_filter_le _ _) hlb0⟩
                      refine g_close (w := wc_37) [4] rfl ewc_37 rfl ?_
                      refine (show Go g κ 347 [some (.ref h), some (.ref tl), some (.int (nI cap)), some (.int (nI thr)), some (.int (nI (2 * cap))), some (.int (nI (2 * thr))), some (.ref n133), some (.int (nI j)), some (.null), some (.ref x), some (.ref x), some (.ref hdH), some (.ref ct_a329), some (.null)] [] [[(h, .inr (23, [.null, .null, .ref n133, .null, .int (nI n), .int (nI md), .int (nI (2 * thr)), .float lfac]))], [(tl, .inl (g.2.1 6, cap, .inr (.inr (.inr (.inr (ctb tab (j + 1)))))))], [(n133, .inl (g.2.1 6, 2 * cap, .inr (.inr (.inr (.inr (va_up (va_up ntab j (some x)) (j + cap) (some hdH)))))))], w1, w2, wh, wc_37] (12 * cap - 12 * j) (48 * cap - 48 * j) from ?_)
                      obtain ⟨wc_38, ewc_38⟩ : ∃ w : va_W, w = ([wh] : List va_W).flatten := ⟨_, rfl⟩
                      have hwc_38 : BinP g bm (some hdH) ((tf j).filter (fun t => !lob cap t.1)) wc_38 := by
                        rw [ewc_38]
                        exact Or.inl ⟨_, cs.filter (fun a => !lob cap (hs a)), hs, ky, vl, _, (by simpa using hwh), gH, hN.filter _, hhM, ft_map (p := fun h => !lob cap h) hpm, Nat.le_trans (List.length_filter_le _ _) hlb0⟩
                      refine g_close (w := wc_38) [5] rfl ewc_38 rfl ?_
                      refine (show Go g κ 347 [some (.ref h), some (.ref tl), some (.int (nI cap)), some (.int (nI thr)), some (.int (nI (2 * cap))), some (.int (nI (2 * thr))), some (.ref n133), some (.int (nI j)), some (.null), some (.ref x), some (.ref x), some (.ref hdH), some (.ref ct_a329), some (.null)] [] [[(h, .inr (23, [.null, .null, .ref n133, .null, .int (nI n), .int (nI md), .int (nI (2 * thr)), .float lfac]))], [(tl, .inl (g.2.1 6, cap, .inr (.inr (.inr (.inr (ctb tab (j + 1)))))))], [(n133, .inl (g.2.1 6, 2 * cap, .inr (.inr (.inr (.inr (va_up (va_up ntab j (some x)) (j + cap) (some hdH)))))))], w1, w2, wc_37, wc_38] (12 * cap - 12 * j) (48 * cap - 48 * j) from ?_)
                      obtain ⟨wc_39, ewc_39⟩ : ∃ w : va_W, w = ([w1, wc_37, wc_38, w2] : List va_W).flatten := ⟨_, rfl⟩
                      have hwc_39 : RzP g bm cap (j + 1) tab (va_up (va_up ntab j (some x)) (j + cap) (some hdH)) tf wc_39 := by
                        rw [ewc_39]
                        exact hcl _ _ _ _ hwc_37 hwc_38
                      refine g_close (w := wc_39) [3, 4, 4, 3] rfl ewc_39 rfl ?_
                      refine (show Go g κ 347 [some (.ref h), some (.ref tl), some (.int (nI cap)), some (.int (nI thr)), some (.int (nI (2 * cap))), some (.int (nI (2 * thr))), some (.ref n133), some (.int (nI j)), some (.null), some (.ref x), some (.ref x), some (.ref hdH), some (.ref ct_a329), some (.null)] [] [[(h, .inr (23, [.null, .null, .ref n133, .null, .int (nI n), .int (nI md), .int (nI (2 * thr)), .float lfac]))], [(tl, .inl (g.2.1 6, cap, .inr (.inr (.inr (.inr (ctb tab (j + 1)))))))], [(n133, .inl (g.2.1 6, 2 * cap, .inr (.inr (.inr (.inr (va_up (va_up ntab j (some x)) (j + cap) (some hdH)))))))], wc_39] (12 * cap - 12 * j) (48 * cap - 48 * j) from ?_)
                      refine g_iinc (v := nI (j + 1)) (q := 350) (lv2 := [some (.ref h), some (.ref tl), some (.int (nI cap)), some (.int (nI thr)), some (.int (nI (2 * cap))), some (.int (nI (2 * thr))), some (.ref n133), some (.int (nI (j + 1))), some (.null), some (.ref x), some (.ref x), some (.ref hdH), some (.ref ct_a329), some (.null)]) B dJ4_resize_347 rfl rfl (nI_add _ 1) (Nat.le_of_ble_eq_true rfl) rfl ?_
                      refine g_goto (tgt := 151) B dJ4_resize_350 (by decide) ?_
                      refine g_fg 8 rfl ?_
                      refine g_fg 9 rfl ?_
                      refine g_fg 10 rfl ?_
                      refine g_fg 11 rfl ?_
                      refine g_fg 12 rfl ?_
                      refine g_fg 13 rfl ?_
                      refine g_room (kc2 := 12 * cap - 12 * (j + 1)) (ks2 := 48 * cap - 48 * (j + 1)) (by omega) (by omega) ?_
                      exact ih151 _ (by omega) (j + 1) (va_up (va_up ntab j (some x)) (j + cap) (some hdH)) wc_39 hwc_39 (by omega) (fun b h1 h2 => by
                          have z := hnn b (by omega) h2
                          unfold va_up
                          rw [if_neg (by omega), if_neg (by omega), if_neg (by omega), if_neg (by omega)]
                          exact z) rfl
            exact lp235 _ ([] : List Nat) tabj_a164 ct ([] : List Nat) ([] : List Nat) nx none none none none wj hwj (hcs) (rfl) (rfl) (by rw [hcs] at hC; exact hC.2) (rfl) (rfl) (rfl) (rfl) rfl
          · skip
            have hct : ct = [] := by rw [hcs] at hC; have := ch_head hC.2; rw [c177] at this; exact List.head?_eq_none_iff.mp this.symm
            have hts : ∀ t ∈ tf j, t.1 = hs tabj_a164 := fun t ht => by
              have := hpm.mem_iff.mp ht
              rw [hcs, hct] at this
              simp at this
              rw [this]
            have hix2 : hs tabj_a164 &&& nI (2 * cap - 1) = nI (hU (hs tabj_a164) % (2 * cap)) := by
              rw [Int32.and_comm, hcap, show 2 * 2 ^ kk = 2 ^ (kk + 1) by rw [Nat.pow_succ]; omega]; exact ix_and (by omega) _
            have hxe := hixs _ hem
            rcases hlb : lob cap (hs tabj_a164) with _ | _
            · skip
              have hiy : hU (hs tabj_a164) % (2 * cap) = j + cap := by
                have z := lob_f (k := kk) (h := hs tabj_a164) (by omega) (by rw [← hcap]; exact hlb)
                rw [← hcap] at z
                rw [show 2 * cap = 2 ^ (kk + 1) by rw [Nat.pow_succ, hcap]; omega, z, hxe]
              rw [hiy] at hix2
              refine g_aload (q := 182) B dJ4_resize_180 rfl rfl (rv_r _) ?_
              refine g_aload (q := 184) B dJ4_resize_182 rfl rfl (rv_r _) ?_
              refine g_getM (v := .int (hs tabj_a164)) (q := 187) B (ci := 24) (k := 4) (j := 0) in_J38 rfl dJ4_resize_184 rfl rfl (NodG.mem hwj hem) (Nat.le_of_ble_eq_true rfl) q1680 rfl rfl ?_
              refine g_iload (q := 189) B dJ4_resize_187 rfl rfl ?_
              refine g_iconst (v := nI 1) (q := 190) B dJ4_resize_189 rfl (by decide) ?_
              refine g_isub (v := nI (2 * cap - 1)) (q := 191) B dJ4_resize_190 rfl (pk_sub (by omega)) ?_
              refine g_iand (v := nI (j + cap)) (q := 192) B dJ4_resize_191 rfl hix2 ?_
              refine g_aload (q := 194) B dJ4_resize_192 rfl rfl (rv_r _) ?_
              refine g_astO (q := 195) (L2 := [[(h, .inr (23, [.null, .null, .ref n133, .null, .int (nI n), .int (nI md), .int (nI (2 * thr)), .float lfac]))], [(tl, .inl (g.2.1 6, cap, .inr (.inr (.inr (.inr (ctb tab (j + 1)))))))], [(n133, .inl (g.2.1 6, 2 * cap, .inr (.inr (.inr (.inr (va_up ntab (j + cap) (some tabj_a164)))))))], w1, wj, w2]) B (k := 2) (t := 6) (C := "java/util/HashMap$Node") (rc_in B (ci := 24) rfl (k := 4) rfl ⟨_, NodG.mem hwj hem⟩) as_s dJ4_resize_194 rfl rfl rfl (vp_in_nI (by omega) (by omega)) (by rw [nI_clamp (by omega)] <;> rfl) ?_
              have hft := ts_hi (cap := cap) (ts := tf j) (fun t ht => by rw [hts t ht]; exact hlb)
              obtain ⟨wc_40, ewc_40⟩ : ∃ w : va_W, w = ([wj] : List va_W).flatten := ⟨_, rfl⟩
              have hwc_40 : BinP g bm (some tabj_a164) ((tf j).filter (fun t => !lob cap t.1)) wc_40 := by
                rw [ewc_40]
                exact by rw [hft.2]; simpa using hbj0
              refine g_close (w := wc_40) [4] rfl ewc_40 rfl ?_
              refine (show Go g κ 195 [some (.ref h), some (.ref tl), some (.int (nI cap)), some (.int (nI thr)), some (.int (nI (2 * cap))), some (.int (nI (2 * thr))), some (.ref n133), some (.int (nI j)), some (.ref tabj_a164), none, none, none, none, none] [] [[(h, .inr (23, [.null, .null, .ref n133, .null, .int (nI n), .int (nI md), .int (nI (2 * thr)), .float lfac]))], [(tl, .inl (g.2.1 6, cap, .inr (.inr (.inr (.inr (ctb tab (j + 1)))))))], [(n133, .inl (g.2.1 6, 2 * cap, .inr (.inr (.inr (.inr (va_up ntab (j + cap) (some tabj_a164)))))))], w1, w2, wc_40] (12 * cap - 12 * j) (48 * cap - 48 * j) from ?_)
              obtain ⟨wc_41, ewc_41⟩ : ∃ w : va_W, w = ([] : List va_W).flatten := ⟨_, rfl⟩
              have hwc_41 : BinP g bm none ((tf j).filter (fun t => lob cap t.1)) wc_41 := by
                rw [ewc_41]
                exact by rw [hft.1]; exact BinP.nil
              refine g_close (w := wc_41) [] rfl ewc_41 rfl ?_
              refine (show Go g κ 195 [some (.ref h), some (.ref tl), some (.int (nI cap)), some (.int (nI thr)), some (.int (nI (2 * cap))), some (.int (nI (2 * thr))), some (.ref n133), some (.int (nI j)), some (.ref tabj_a164), none, none, none, none, none] [] [[(h, .inr (23, [.null, .null, .ref n133, .null, .int (nI n), .int (nI md), .int (nI (2 * thr)), .float lfac]))], [(tl, .inl (g.2.1 6, cap, .inr (.inr (.inr (.inr (ctb tab (j + 1)))))))], [(n133, .inl (g.2.1 6, 2 * cap, .inr (.inr (.inr (.inr (va_up ntab (j + cap) (some tabj_a164)))))))], w1, w2, wc_40, wc_41] (12 * cap - 12 * j) (48 * cap - 48 * j) from ?_)
              refine g_goto (tgt := 347) B dJ4_resize_195 (by decide) ?_
              rw [show va_up ntab (j + cap) (some tabj_a164) = va_up (va_up ntab j none) (j + cap) (some tabj_a164) from by
                first
                | rfl
                | (rw [up_same (f := ntab) (b := j) (x := none) (hnn j (by omega) (by omega)).1, up_same (f := ntab) (b := j + cap) (x := none) (hnn j (by omega) (by omega)).2])
                | (rw [up_same (f := ntab) (b := j) (x := none) (hnn j (by omega) (by omega)).1])
                | (rw [up_same (f := va_up ntab j none) (b := j + cap) (x := none) (by show (if j + cap = j then none else ntab (j + cap)) = none; rw [if_neg (by omega)]; exact (hnn j (by omega) (by omega)).2)])]
              refine (show Go g κ 347 [some (.ref h), some (.ref tl), some (.int (nI cap)), some (.int (nI thr)), some (.int (nI (2 * cap))), some (.int (nI (2 * thr))), some (.ref n133), some (.int (nI j)), some (.ref tabj_a164), none, none, none, none, none] [] [[(h, .inr (23, [.null, .null, .ref n133, .null, .int (nI n), .int (nI md), .int (nI (2 * thr)), .float lfac]))], [(tl, .inl (g.2.1 6, cap, .inr (.inr (.inr (.inr (ctb tab (j + 1)))))))], [(n133, .inl (g.2.1 6, 2 * cap, .inr (.inr (.inr (.inr (va_up (va_up ntab j none) (j + cap) (some tabj_a164)))))))], w1, w2, wc_40, wc_41] (12 * cap - 12 * j) (48 * cap - 48 * j) from ?_)
              obtain ⟨wc_42, ewc_42⟩ : ∃ w : va_W, w = ([w1, wc_41, wc_40, w2] : List va_W).flatten := ⟨_, rfl⟩
              have hwc_42 : RzP g bm cap (j + 1) tab (va_up (va_up ntab j none) (j + cap) (some tabj_a164)) tf wc_42 := by
                rw [ewc_42]
                exact hcl _ _ _ _ hwc_41 hwc_40
              refine g_close (w := wc_42) [3, 5, 4, 3] rfl ewc_42 rfl ?_
              refine (show Go g κ 347 [some (.ref h), some (.ref tl), some (.int (nI cap)), some (.int (nI thr)), some (.int (nI (2 * cap))), some (.int (nI (2 * thr))), some (.ref n133), some (.int (nI j)), some (.ref tabj_a164), none, none, none, none, none] [] [[(h, .inr (23, [.null, .null, .ref n133, .null, .int (nI n), .int (nI md), .int (nI (2 * thr)), .float lfac]))], [(tl, .inl (g.2.1 6, cap, .inr (.inr (.inr (.inr (ctb tab (j + 1)))))))], [(n133, .inl (g.2.1 6, 2 * cap, .inr (.inr (.inr (.inr (va_up (va_up ntab j none) (j + cap) (some tabj_a164)))))))], wc_42] (12 * cap - 12 * j) (48 * cap - 48 * j) from ?_)
              refine g_iinc (v := nI (j + 1)) (q := 350) (lv2 := [some (.ref h), some (.ref tl), some (.int (nI cap)), some (.int (nI thr)), some (.int (nI (2 * cap))), some (.int (nI (2 * thr))), some (.ref n133), some (.int (nI (j + 1))), some (.ref tabj_a164), none, none, none, none, none]) B dJ4_resize_347 rfl rfl (nI_add _ 1) (Nat.le_of_ble_eq_true rfl) rfl ?_
              refine g_goto (tgt := 151) B dJ4_resize_350 (by decide) ?_
              refine g_fg 8 rfl ?_
              refine g_room (kc2 := 12 * cap - 12 * (j + 1)) (ks2 := 48 * cap - 48 * (j + 1)) (by omega) (by omega) ?_
              exact ih151 _ (by omega) (j + 1) (va_up (va_up ntab j none) (j + cap) (some tabj_a164)) wc_42 hwc_42 (by omega) (fun b h1 h2 => by
                  have z := hnn b (by omega) h2
                  unfold va_up
                  rw [if_neg (by omega), if_neg (by omega), if_neg (by omega), if_neg (by omega)]
                  exact z) rfl
            · skip
              have hiy : hU (hs tabj_a164) % (2 * cap) = j := by
                have z := lob_t (k := kk) (h := hs tabj_a164) (by omega) (by rw [← hcap]; exact hlb)
                rw [← hcap] at z
                rw [show 2 * cap = 2 ^ (kk + 1) by rw [Nat.pow_succ, hcap]; omega, z, hxe]
              rw [hiy] at hix2
              refine g_aload (q := 182) B dJ4_resize_180 rfl rfl (rv_r _) ?_
              refine g_aload (q := 184) B dJ4_resize_182 rfl rfl (rv_r _) ?_
              refine g_getM (v := .int (hs tabj_a164)) (q := 187) B (ci := 24) (k := 4) (j := 0) in_J38 rfl dJ4_resize_184 rfl rfl (NodG.mem hwj hem) (Nat.le_of_ble_eq_true rfl) q1680 rfl rfl ?_
              refine g_iload (q := 189) B dJ4_resize_187 rfl rfl ?_
              refine g_iconst (v := nI 1) (q := 190) B dJ4_resize_189 rfl (by decide) ?_
              refine g_isub (v := nI (2 * cap - 1)) (q := 191) B dJ4_resize_190 rfl (pk_sub (by omega)) ?_
              refine g_iand (v := nI j) (q := 192) B dJ4_resize_191 rfl hix2 ?_
              refine g_aload (q := 194) B dJ4_resize_192 rfl rfl (rv_r _) ?_
              refine g_astO (q := 195) (L2 := [[(h, .inr (23, [.null, .null, .ref n133, .null, .int (nI n), .int (nI md), .int (nI (2 * thr)), .float lfac]))], [(tl, .inl (g.2.1 6, cap, .inr (.inr (.inr (.inr (ctb tab (j + 1)))))))], [(n133, .inl (g.2.1 6, 2 * cap, .inr (.inr (.inr (.inr (va_up ntab j (some tabj_a164)))))))], w1, wj, w2]) B (k := 2) (t := 6) (C := "java/util/HashMap$Node") (rc_in B (ci := 24) rfl (k := 4) rfl ⟨_, NodG.mem hwj hem⟩) as_s dJ4_resize_194 rfl rfl rfl (vp_in_nI (by omega) (by omega)) (by rw [nI_clamp (by omega)] <;> rfl) ?_
              have hft := ts_lo (cap := cap) (ts := tf j) (fun t ht => by rw [hts t ht]; exact hlb)
              obtain ⟨wc_43, ewc_43⟩ : ∃ w : va_W, w = ([wj] : List va_W).flatten := ⟨_, rfl⟩
              have hwc_43 : BinP g bm (some tabj_a164) ((tf j).filter (fun t => lob cap t.1)) wc_43 := by
                rw [ewc_43]
                exact by rw [hft.1]; simpa using hbj0
              refine g_close (w := wc_43) [4] rfl ewc_43 rfl ?_
              refine (show Go g κ 195 [some (.ref h), some (.ref tl), some (.int (nI cap)), some (.int (nI thr)), some (.int (nI (2 * cap))), some (.int (nI (2 * thr))), some (.ref n133), some (.int (nI j)), some (.ref tabj_a164), none, none, none, none, none] [] [[(h, .inr (23, [.null, .null, .ref n133, .null, .int (nI n), .int (nI md), .int (nI (2 * thr)), .float lfac]))], [(tl, .inl (g.2.1 6, cap, .inr (.inr (.inr (.inr (ctb tab (j + 1)))))))], [(n133, .inl (g.2.1 6, 2 * cap, .inr (.inr (.inr (.inr (va_up ntab j (some tabj_a164)))))))], w1, w2, wc_43] (12 * cap - 12 * j) (48 * cap - 48 * j) from ?_)
              obtain ⟨wc_44, ewc_44⟩ : ∃ w : va_W, w = ([] : List va_W).flatten := ⟨_, rfl⟩
              have hwc_44 : BinP g bm none ((tf j).filter (fun t => !lob cap t.1)) wc_44 := by
                rw [ewc_44]
                exact by rw [hft.2]; exact BinP.nil
              refine g_close (w := wc_44) [] rfl ewc_44 rfl ?_
              refine (show Go g κ 195 [some (.ref h), some (.ref tl), some (.int (nI cap)), some (.int (nI thr)), some (.int (nI (2 * cap))), some (.int (nI (2 * thr))), some (.ref n133), some (.int (nI j)), some (.ref tabj_a164), none, none, none, none, none] [] [[(h, .inr (23, [.null, .null, .ref n133, .null, .int (nI n), .int (nI md), .int (nI (2 * thr)), .float lfac]))], [(tl, .inl (g.2.1 6, cap, .inr (.inr (.inr (.inr (ctb tab (j + 1)))))))], [(n133, .inl (g.2.1 6, 2 * cap, .inr (.inr (.inr (.inr (va_up ntab j (some tabj_a164)))))))], w1, w2, wc_43, wc_44] (12 * cap - 12 * j) (48 * cap - 48 * j) from ?_)
              refine g_goto (tgt := 347) B dJ4_resize_195 (by decide) ?_
              rw [show va_up ntab j (some tabj_a164) = va_up (va_up ntab j (some tabj_a164)) (j + cap) none from by
                first
                | rfl
                | (rw [up_same (f := ntab) (b := j) (x := none) (hnn j (by omega) (by omega)).1, up_same (f := ntab) (b := j + cap) (x := none) (hnn j (by omega) (by omega)).2])
                | (rw [up_same (f := ntab) (b := j) (x := none) (hnn j (by omega) (by omega)).1])
                | (rw [up_same (f := va_up ntab j (some tabj_a164)) (b := j + cap) (x := none) (by show (if j + cap = j then (some tabj_a164) else ntab (j + cap)) = none; rw [if_neg (by omega)]; exact (hnn j (by omega) (by omega)).2)])]
              refine (show Go g κ 347 [some (.ref h), some (.ref tl), some (.int (nI cap)), some (.int (nI thr)), some (.int (nI (2 * cap))), some (.int (nI (2 * thr))), some (.ref n133), some (.int (nI j)), some (.ref tabj_a164), none, none, none, none, none] [] [[(h, .inr (23, [.null, .null, .ref n133, .null, .int (nI n), .int (nI md), .int (nI (2 * thr)), .float lfac]))], [(tl, .inl (g.2.1 6, cap, .inr (.inr (.inr (.inr (ctb tab (j + 1)))))))], [(n133, .inl (g.2.1 6, 2 * cap, .inr (.inr (.inr (.inr (va_up (va_up ntab j (some tabj_a164)) (j + cap) none))))))], w1, w2, wc_43, wc_44] (12 * cap - 12 * j) (48 * cap - 48 * j) from ?_)
              obtain ⟨wc_45, ewc_45⟩ : ∃ w : va_W, w = ([w1, wc_43, wc_44, w2] : List va_W).flatten := ⟨_, rfl⟩
              have hwc_45 : RzP g bm cap (j + 1) tab (va_up (va_up ntab j (some tabj_a164)) (j + cap) none) tf wc_45 := by
                rw [ewc_45]
                exact hcl _ _ _ _ hwc_43 hwc_44
              refine g_close (w := wc_45) [3, 4, 4, 3] rfl ewc_45 rfl ?_
              refine (show Go g κ 347 [some (.ref h), some (.ref tl), some (.int (nI cap)), some (.int (nI thr)), some (.int (nI (2 * cap))), some (.int (nI (2 * thr))), some (.ref n133), some (.int (nI j)), some (.ref tabj_a164), none, none, none, none, none] [] [[(h, .inr (23, [.null, .null, .ref n133, .null, .int (nI n), .int (nI md), .int (nI (2 * thr)), .float lfac]))], [(tl, .inl (g.2.1 6, cap, .inr (.inr (.inr (.inr (ctb tab (j + 1)))))))], [(n133, .inl (g.2.1 6, 2 * cap, .inr (.inr (.inr (.inr (va_up (va_up ntab j (some tabj_a164)) (j + cap) none))))))], wc_45] (12 * cap - 12 * j) (48 * cap - 48 * j) from ?_)
              refine g_iinc (v := nI (j + 1)) (q := 350) (lv2 := [some (.ref h), some (.ref tl), some (.int (nI cap)), some (.int (nI thr)), some (.int (nI (2 * cap))), some (.int (nI (2 * thr))), some (.ref n133), some (.int (nI (j + 1))), some (.ref tabj_a164), none, none, none, none, none]) B dJ4_resize_347 rfl rfl (nI_add _ 1) (Nat.le_of_ble_eq_true rfl) rfl ?_
              refine g_goto (tgt := 151) B dJ4_resize_350 (by decide) ?_
              refine g_fg 8 rfl ?_
              refine g_room (kc2 := 12 * cap - 12 * (j + 1)) (ks2 := 48 * cap - 48 * (j + 1)) (by omega) (by omega) ?_
              exact ih151 _ (by omega) (j + 1) (va_up (va_up ntab j (some tabj_a164)) (j + cap) none) wc_45 hwc_45 (by omega) (fun b h1 h2 => by
                  have z := hnn b (by omega) h2
                  unfold va_up
                  rw [if_neg (by omega), if_neg (by omega), if_neg (by omega), if_neg (by omega)]
                  exact z) rfl
        · skip
          obtain ⟨ct, hcs⟩ : ∃ ct, cs = tabj_a164 :: ct := by
            cases cs with
            | nil => exact absurd hC (by simp [Ch])
            | cons z t => obtain ⟨q, -⟩ := hC; cases q; exact ⟨t, rfl⟩
          have hem : tabj_a164 ∈ ns := (hM _).mp (by rw [hcs]; simp)
          have hmem : ∀ a ∈ ns, (hs a, ky a, vl a) ∈ tf j := fun a ha => hpm.mem_iff.mpr (List.mem_map.mpr ⟨a, (hM a).mpr ha, rfl⟩)
          have hij : ∀ a ∈ ns, ∀ b ∈ ns, hs a = hs b → a = b := fun a ha b hb he => by
            have z : ((cs.map fun a => (hs a, ky a, vl a)).map (·.1)).Nodup := ((hpm.map (·.1)).nodup_iff).mp hdjj
            rw [List.map_map] at z
            exact nd_inj z ((hM a).mpr ha) ((hM b).mpr hb) he
          have hixs : ∀ a ∈ ns, hU (hs a) % cap = j := fun a ha => hplj _ (hmem a ha)
          have hcl2 : cs.length < 100000 := by have := hpm.length_eq; rw [List.length_map] at this; omega
          refine (show Go g κ 172 [some (.ref h), some (.ref tl), some (.int (nI cap)), some (.int (nI thr)), some (.int (nI (2 * cap))), some (.int (nI (2 * thr))), some (.ref n133), some (.int (nI j)), some (.ref tabj_a164), none, none, none, none, none] [] [[(h, .inr (23, [.null, .null, .ref n133, .null, .int (nI n), .int (nI md), .int (nI (2 * thr)), .float lfac]))], [(tl, .inl (g.2.1 6, cap, .inr (.inr (.inr (.inr (ctb tab (j + 1)))))))], [(n133, .inl (g.2.1 6, 2 * cap, .inr (.inr (.inr (.inr ntab)))))], w1, wj, w2] (12 * cap - 12 * j) (48 * cap - 48 * j) from ?_)
          refine g_aload (q := 174) B dJ4_resize_172 rfl rfl (rv_r _) ?_
          refine g_getM (v := va_rf (nx tabj_a164)) (q := 177) B (ci := 25) (k := 4) (j := 5) in_J40 rfl dJ4_resize_174 rfl rfl (TNG.mem hwj hem) (Nat.le_of_ble_eq_true rfl) q1693 rfl rfl ?_
          refine g_ifnonnull_o (tgt := 198) (q := 180) B dJ4_resize_177 rfl (by decide) (fun nxtabj_a177 c177 => ?_) (fun c177 => ?_)
          · skip
            refine g_aload (q := 200) B dJ4_resize_198 rfl rfl (rv_r _) ?_
            refine g_instRS (ci := 25) (q := 203) B rfl (rc_in B (ci := 25) rfl (k := 4) rfl ⟨_, TNG.mem hwj hem⟩) dJ4_resize_200 rfl q1408 ?_
            refine g_if_eq (tgt := 223) (q := 206) B dJ4_resize_203 rfl (by decide) (iff_false_intro (by decide)) (fun z => z.elim) (fun _ => ?_)
            refine g_aload (q := 208) B dJ4_resize_206 rfl rfl (rv_r _) ?_
            refine g_castRS (ci := 25) (q := 211) B rfl (rc_in B (ci := 25) rfl (k := 4) rfl ⟨_, TNG.mem hwj hem⟩) dJ4_resize_208 rfl q1408 ?_
            refine g_aload_n (q := 212) B dJ4_resize_211 rfl rfl (rv_r _) ?_
            refine g_aload (q := 214) B dJ4_resize_212 rfl rfl (rv_r _) ?_
            refine g_iload (q := 216) B dJ4_resize_214 rfl rfl ?_
            refine g_iload_n (q := 217) B dJ4_resize_216 rfl rfl ?_
            refine g_callV (q := 220) (is := [0, 1, 2]) (kc2 := 12 * cap - 12 * (j + 1)) (ks2 := 48 * cap - 48 * (j + 1)) B [.ref h, .ref n133, .int (nI j), .int (nI cap)] (ct_J40_split g J (h := h) (otl := some n133) (n := n) (md := md) (thr := 2 * thr) (lfac := lfac) (tl := n133) (tab := ntab) (ix := j) (bit := cap) (kk := kk) (cs := cs) (a := tabj_a164) (bm := bm) (ns := ns) (hs := hs) (ky := ky) (vl := vl) (nx := nx) (pp := pp) (lf := lf) (rg := rg) (pv := pv) (rd := rd) (lo := lo) (hi := hi) (root := root) hwj (by first | assumption | omega | rfl) (hcap) (by omega) (by omega) ((hnn j (by omega) (by omega)).1) ((hnn j (by omega) (by omega)).2) (by first | assumption | omega | rfl) (by first | assumption | omega | rfl) (by first | assumption | omega | rfl) (by first | assumption | omega | rfl) (hcl2) (by first | assumption | omega | rfl) (by first | assumption | omega | rfl) (by first | assumption | omega | rfl)) dJ4_resize_217 rfl (rc_in B (ci := 25) rfl (k := 4) rfl ⟨_, TNG.mem hwj hem⟩) rfl q1658 q1659 q1660 q131 q1661 rfl rfl moJ40_split rfl rfl (by decide) (by decide) (Nat.le_of_ble_eq_true rfl) (by omega) (by omega) (fun _ _ hx => noX_x hx) (fun v217 L1 hp217 => ?_)
            obtain ⟨o1217, o2217, u2_217, u3_217, rfl, rfl, hu2_217, hu3_217⟩ := hp217
            refine (show Go g κ 220 [some (.ref h), some (.ref tl), some (.int (nI cap)), some (.int (nI thr)), some (.int (nI (2 * cap))), some (.int (nI (2 * thr))), some (.ref n133), some (.int (nI j)), some (.ref tabj_a164), none, none, none, none, none] [] [[(tl, .inl (g.2.1 6, cap, .inr (.inr (.inr (.inr (ctb tab (j + 1)))))))], w1, w2, [(h, .inr (23, [.null, .null, .ref n133, .null, .int (nI n), .int (nI md), .int (nI (2 * thr)), .float lfac]))], [(n133, .inl (g.2.1 6, 2 * cap, .inr (.inr (.inr (.inr (va_up (va_up ntab j o1217) (j + cap) o2217))))))], u2_217, u3_217] (12 * cap - 12 * (j + 1)) (48 * cap - 48 * (j + 1)) from ?_)
            have hbs_46 : BinP g bm o1217 ((tf j).filter (fun t => lob cap t.1)) u2_217 := BinP.perm hu2_217 (ft_map (p := fun h => lob cap h) hpm)
            have hbs_47 : BinP g bm o2217 ((tf j).filter (fun t => !lob cap t.1)) u3_217 := BinP.perm hu3_217 (ft_map (p := fun h => !lob cap h) hpm)
            refine g_goto (tgt := 347) B dJ4_resize_220 (by decide) ?_
            obtain ⟨wc_48, ewc_48⟩ : ∃ w : va_W, w = ([w1, u2_217, u3_217, w2] : List va_W).flatten := ⟨_, rfl⟩
            have hwc_48 : RzP g bm cap (j + 1) tab (va_up (va_up ntab j o1217) (j + cap) o2217) tf wc_48 := by
              rw [ewc_48]
              exact hcl _ _ _ _ hbs_46 hbs_47
            refine g_close (w := wc_48) [1, 4, 4, 1] rfl ewc_48 rfl ?_
            refine (show Go g κ 347 [some (.ref h), some (.ref tl), some (.int (nI cap)), some (.int (nI thr)), some (.int (nI (2 * cap))), some (.int (nI (2 * thr))), some (.ref n133), some (.int (nI j)), some (.ref tabj_a164), none, none, none, none, none] [] [[(tl, .inl (g.2.1 6, cap, .inr (.inr (.inr (.inr (ctb tab (j + 1)))))))], [(h, .inr (23, [.null, .null, .ref n133, .null, .int (nI n), .int (nI md), .int (nI (2 * thr)), .float lfac]))], [(n133, .inl (g.2.1 6, 2 * cap, .inr (.inr (.inr (.inr (va_up (va_up ntab j o1217) (j + cap) o2217))))))], wc_48] (12 * cap - 12 * (j + 1)) (48 * cap - 48 * (j + 1)) from ?_)
            refine g_iinc (v := nI (j + 1)) (q := 350) (lv2 := [some (.ref h), some (.ref tl), some (.int (nI cap)), some (.int (nI thr)), some (.int (nI (2 * cap))), some (.int (nI (2 * thr))), some (.ref n133), some (.int (nI (j + 1))), some (.ref tabj_a164), none, none, none, none, none]) B dJ4_resize_347 rfl rfl (nI_add _ 1) (Nat.le_of_ble_eq_true rfl) rfl ?_
            refine g_goto (tgt := 151) B dJ4_resize_350 (by decide) ?_
            refine g_fg 8 rfl ?_
            refine g_pk [1, 0, 0, 0] rfl rfl ?_
            refine (show Go g κ 151 [some (.ref h), some (.ref tl), some (.int (nI cap)), some (.int (nI thr)), some (.int (nI (2 * cap))), some (.int (nI (2 * thr))), some (.ref n133), some (.int (nI (j + 1))), none, none, none, none, none, none] [] [[(h, .inr (23, [.null, .null, .ref n133, .null, .int (nI n), .int (nI md), .int (nI (2 * thr)), .float lfac]))], [(tl, .inl (g.2.1 6, cap, .inr (.inr (.inr (.inr (ctb tab (j + 1)))))))], [(n133, .inl (g.2.1 6, 2 * cap, .inr (.inr (.inr (.inr (va_up (va_up ntab j o1217) (j + cap) o2217))))))], wc_48] (12 * cap - 12 * (j + 1)) (48 * cap - 48 * (j + 1)) from ?_)
            refine g_room (kc2 := 12 * cap - 12 * (j + 1)) (ks2 := 48 * cap - 48 * (j + 1)) (by omega) (by omega) ?_
            exact ih151 _ (by omega) (j + 1) (va_up (va_up ntab j o1217) (j + cap) o2217) wc_48 hwc_48 (by omega) (fun b h1 h2 => by
                have z := hnn b (by omega) h2
                unfold va_up
                rw [if_neg (by omega), if_neg (by omega), if_neg (by omega), if_neg (by omega)]
                exact z) rfl
          · skip
            have hct : ct = [] := by rw [hcs] at hC; have := ch_head hC.2; rw [c177] at this; exact List.head?_eq_none_iff.mp this.symm
            have hts : ∀ t ∈ tf j, t.1 = hs tabj_a164 := fun t ht => by
              have := hpm.mem_iff.mp ht
              rw [hcs, hct] at this
              simp at this
              rw [this]
            have hix2 : hs tabj_a164 &&& nI (2 * cap - 1) = nI (hU (hs tabj_a164) % (2 * cap)) := by
              rw [Int32.and_comm, hcap, show 2 * 2 ^ kk = 2 ^ (kk + 1) by rw [Nat.pow_succ]; omega]; exact ix_and (by omega) _
            have hxe := hixs _ hem
            rcases hlb : lob cap (hs tabj_a164) with _ | _
            · skip
              have hiy : hU (hs tabj_a164) % (2 * cap) = j + cap := by
                have z := lob_f (k := kk) (h := hs tabj_a164) (by omega) (by rw [← hcap]; exact hlb)
                rw [← hcap] at z
                rw [show 2 * cap = 2 ^ (kk + 1) by rw [Nat.pow_succ, hcap]; omega, z, hxe]
              rw [hiy] at hix2
              refine g_aload (q := 182) B dJ4_resize_180 rfl rfl (rv_r _) ?_
              refine g_aload (q := 184) B dJ4_resize_182 rfl rfl (rv_r _) ?_
              refine g_getM (v := .int (hs tabj_a164)) (q := 187) B (ci := 25) (k := 4) (j := 2) in_J40 rfl dJ4_resize_184 rfl rfl (TNG.mem hwj hem) (Nat.le_of_ble_eq_true rfl) q1680 rfl rfl ?_
              refine g_iload (q := 189) B dJ4_resize_187 rfl rfl ?_
              refine g_iconst (v := nI 1) (q := 190) B dJ4_resize_189 rfl (by decide) ?_
              refine g_isub (v := nI (2 * cap - 1)) (q := 191) B dJ4_resize_190 rfl (pk_sub (by omega)) ?_
              refine g_iand (v := nI (j + cap)) (q := 192) B dJ4_resize_191 rfl hix2 ?_
              refine g_aload (q := 194) B dJ4_resize_192 rfl rfl (rv_r _) ?_
              refine g_astO (q := 195) (L2 := [[(h, .inr (23, [.null, .null, .ref n133, .null, .int (nI n), .int (nI md), .int (nI (2 * thr)), .float lfac]))], [(tl, .inl (g.2.1 6, cap, .inr (.inr (.inr (.inr (ctb tab (j + 1)))))))], [(n133, .inl (g.2.1 6, 2 * cap, .inr (.inr (.inr (.inr (va_up ntab (j + cap) (some tabj_a164)))))))], w1, wj, w2]) B (k := 2) (t := 6) (C := "java/util/HashMap$TreeNode") (rc_in B (ci := 25) rfl (k := 4) rfl ⟨_, TNG.mem hwj hem⟩) (as_c q3727) dJ4_resize_194 rfl rfl rfl (vp_in_nI (by omega) (by omega)) (by rw [nI_clamp (by omega)] <;> rfl) ?_
              have hft := ts_hi (cap := cap) (ts := tf j) (fun t ht => by rw [hts t ht]; exact hlb)
              obtain ⟨wc_49, ewc_49⟩ : ∃ w : va_W, w = ([wj] : List va_W).flatten := ⟨_, rfl⟩
              have hwc_49 : BinP g bm (some tabj_a164) ((tf j).filter (fun t => !lob cap t.1)) wc_49 := by
                rw [ewc_49]
                exact by rw [hft.2]; simpa using hbj0
              refine g_close (w := wc_49) [4] rfl ewc_49 rfl ?_
              refine (show Go g κ 195 [some (.ref h), some (.ref tl), some (.int (nI cap)), some (.int (nI thr)), some (.int (nI (2 * cap))), some (.int (nI (2 * thr))), some (.ref n133), some (.int (nI j)), some (.ref tabj_a164), none, none, none, none, none] [] [[(h, .inr (23, [.null, .null, .ref n133, .null, .int (nI n), .int (nI md), .int (nI (2 * thr)), .float lfac]))], [(tl, .inl (g.2.1 6, cap, .inr (.inr (.inr (.inr (ctb tab (j + 1)))))))], [(n133, .inl (g.2.1 6, 2 * cap, .inr (.inr (.inr (.inr (va_up ntab (j + cap) (some tabj_a164)))))))], w1, w2, wc_49] (12 * cap - 12 * j) (48 * cap - 48 * j) from ?_)
              obtain ⟨wc_50, ewc_50⟩ : ∃ w : va_W, w = ([] : List va_W).flatten := ⟨_, rfl⟩
              have hwc_50 : BinP g bm none ((tf j).filter (fun t => lob cap t.1)) wc_50 := by
                rw [ewc_50]
                exact by rw [hft.1]; exact BinP.nil
              refine g_close (w := wc_50) [] rfl ewc_50 rfl ?_
              refine (show Go g κ 195 [some (.ref h), some (.ref tl), some (.int (nI cap)), some (.int (nI thr)), some (.int (nI (2 * cap))), some (.int (nI (2 * thr))), some (.ref n133), some (.int (nI j)), some (.ref tabj_a164), none, none, none, none, none] [] [[(h, .inr (23, [.null, .null, .ref n133, .null, .int (nI n), .int (nI md), .int (nI (2 * thr)), .float lfac]))], [(tl, .inl (g.2.1 6, cap, .inr (.inr (.inr (.inr (ctb tab (j + 1)))))))], [(n133, .inl (g.2.1 6, 2 * cap, .inr (.inr (.inr (.inr (va_up ntab (j + cap) (some tabj_a164)))))))], w1, w2, wc_49, wc_50] (12 * cap - 12 * j) (48 * cap - 48 * j) from ?_)
              refine g_goto (tgt := 347) B dJ4_resize_195 (by decide) ?_
              rw [show va_up ntab (j + cap) (some tabj_a164) = va_up (va_up ntab j none) (j + cap) (some tabj_a164) from by
                first
                | rfl
                | (rw [up_same (f := ntab) (b := j) (x := none) (hnn j (by omega) (by omega)).1, up_same (f := ntab) (b := j + cap) (x := none) (hnn j (by omega) (by omega)).2])
                | (rw [up_same (f := ntab) (b := j) (x := none) (hnn j (by omega) (by omega)).1])
                | (rw [up_same (f := va_up ntab j none) (b := j + cap) (x := none) (by show (if j + cap = j then none else ntab (j + cap)) = none; rw [if_neg (by omega)]; exact (hnn j (by omega) (by omega)).2)])]
              refine (show Go g κ 347 [some (.ref h), some (.ref tl), some (.int (nI cap)), some (.int (nI thr)), some (.int (nI (2 * cap))), some (.int (nI (2 * thr))), some (.ref n133), some (.int (nI j)), some (.ref tabj_a164), none, none, none, none, none] [] [[(h, .inr (23, [.null, .null, .ref n133, .null, .int (nI n), .int (nI md), .int (nI (2 * thr)), .float lfac]))], [(tl, .inl (g.2.1 6, cap, .inr (.inr (.inr (.inr (ctb tab (j + 1)))))))], [(n133, .inl (g.2.1 6, 2 * cap, .inr (.inr (.inr (.inr (va_up (va_up ntab j none) (j + cap) (some tabj_a164)))))))], w1, w2, wc_49, wc_50] (12 * cap - 12 * j) (48 * cap - 48 * j) from ?_)
              obtain ⟨wc_51, ewc_51⟩ : ∃ w : va_W, w = ([w1, wc_50, wc_49, w2] : List va_W).flatten := ⟨_, rfl⟩
              have hwc_51 : RzP g bm cap (j + 1) tab (va_up (va_up ntab j none) (j + cap) (some tabj_a164)) tf wc_51 := by
                rw [ewc_51]
                exact hcl _ _ _ _ hwc_50 hwc_49
              refine g_close (w := wc_51) [3, 5, 4, 3] rfl ewc_51 rfl ?_
              refine (show Go g κ 347 [some (.ref h), some (.ref tl), some (.int (nI cap)), some (.int (nI thr)), some (.int (nI (2 * cap))), some (.int (nI (2 * thr))), some (.ref n133), some (.int (nI j)), some (.ref tabj_a164), none, none, none, none, none] [] [[(h, .inr (23, [.null, .null, .ref n133, .null, .int (nI n), .int (nI md), .int (nI (2 * thr)), .float lfac]))], [(tl, .inl (g.2.1 6, cap, .inr (.inr (.inr (.inr (ctb tab (j + 1)))))))], [(n133, .inl (g.2.1 6, 2 * cap, .inr (.inr (.inr (.inr (va_up (va_up ntab j none) (j + cap) (some tabj_a164)))))))], wc_51] (12 * cap - 12 * j) (48 * cap - 48 * j) from ?_)
              refine g_iinc (v := nI (j + 1)) (q := 350) (lv2 := [some (.ref h), some (.ref tl), some (.int (nI cap)), some (.int (nI thr)), some (.int (nI (2 * cap))), some (.int (nI (2 * thr))), some (.ref n133), some (.int (nI (j + 1))), some (.ref tabj_a164), none, none, none, none, none]) B dJ4_resize_347 rfl rfl (nI_add _ 1) (Nat.le_of_ble_eq_true rfl) rfl ?_
              refine g_goto (tgt := 151) B dJ4_resize_350 (by decide) ?_
              refine g_fg 8 rfl ?_
              refine g_room (kc2 := 12 * cap - 12 * (j + 1)) (ks2 := 48 * cap - 48 * (j + 1)) (by omega) (by omega) ?_
              exact ih151 _ (by omega) (j + 1) (va_up (va_up ntab j none) (j + cap) (some tabj_a164)) wc_51 hwc_51 (by omega) (fun b h1 h2 => by
                  have z := hnn b (by omega) h2
                  unfold va_up
                  rw [if_neg (by omega), if_neg (by omega), if_neg (by omega), if_neg (by omega)]
                  exact z) rfl
            · skip
              have hiy : hU (hs tabj_a164) % (2 * cap) = j := by
                have z := lob_t (k := kk) (h := hs tabj_a164) (by omega) (by rw [← hcap]; exact hlb)
                rw [← hcap] at z
                rw [show 2 * cap = 2 ^ (kk + 1) by rw [Nat.pow_succ, hcap]; omega, z, hxe]
              rw [hiy] at hix2
              refine g_aload (q := 182) B dJ4_resize_180 rfl rfl (rv_r _) ?_
              refine g_aload (q := 184) B dJ4_resize_182 rfl rfl (rv_r _) ?_
              refine g_getM (v := .int (hs tabj_a164)) (q := 187) B (ci := 25) (k := 4) (j := 2) in_J40 rfl dJ4_resize_184 rfl rfl (TNG.mem hwj hem) (Nat.le_of_ble_eq_true rfl) q1680 rfl rfl ?_
              refine g_iload (q := 189) B dJ4_resize_187 rfl rfl ?_
              refine g_iconst (v := nI 1) (q := 190) B dJ4_resize_189 rfl (by decide) ?_
              refine g_isub (v := nI (2 * cap - 1)) (q := 191) B dJ4_resize_190 rfl (pk_sub (by omega)) ?_
              refine g_iand (v := nI j) (q := 192) B dJ4_resize_191 rfl hix2 ?_
              refine g_aload (q := 194) B dJ4_resize_192 rfl rfl (rv_r _) ?_
              refine g_astO (q := 195) (L2 := [[(h, .inr (23, [.null, .null, .ref n133, .null, .int (nI n), .int (nI md), .int (nI (2 * thr)), .float lfac]))], [(tl, .inl (g.2.1 6, cap, .inr (.inr (.inr (.inr (ctb tab (j + 1)))))))], [(n133, .inl (g.2.1 6, 2 * cap, .inr (.inr (.inr (.inr (va_up ntab j (some tabj_a164)))))))], w1, wj, w2]) B (k := 2) (t := 6) (C := "java/util/HashMap$TreeNode") (rc_in B (ci := 25) rfl (k := 4) rfl ⟨_, TNG.mem hwj hem⟩) (as_c q3727) dJ4_resize_194 rfl rfl rfl (vp_in_nI (by omega) (by omega)) (by rw [nI_clamp (by omega)] <;> rfl) ?_
              have hft := ts_lo (cap := cap) (ts := tf j) (fun t ht => by rw [hts t ht]; exact hlb)
              obtain ⟨wc_52, ewc_52⟩ : ∃ w : va_W, w = ([wj] : List va_W).flatten := ⟨_, rfl⟩
              have hwc_52 : BinP g bm (some tabj_a164) ((tf j).filter (fun t => lob cap t.1)) wc_52 := by
                rw [ewc_52]
                exact by rw [hft.1]; simpa using hbj0
              refine g_close (w := wc_52) [4] rfl ewc_52 rfl ?_
              refine (show Go g κ 195 [some (.ref h), some (.ref tl), some (.int (nI cap)), some (.int (nI thr)), some (.int (nI (2 * cap))), some (.int (nI (2 * thr))), some (.ref n133), some (.int (nI j)), some (.ref tabj_a164), none, none, none, none, none] [] [[(h, .inr (23, [.null, .null, .ref n133, .null, .int (nI n), .int (nI md), .int (nI (2 * thr)), .float lfac]))], [(tl, .inl (g.2.1 6, cap, .inr (.inr (.inr (.inr (ctb tab (j + 1)))))))], [(n133, .inl (g.2.1 6, 2 * cap, .inr (.inr (.inr (.inr (va_up ntab j (some tabj_a164)))))))], w1, w2, wc_52] (12 * cap - 12 * j) (48 * cap - 48 * j) from ?_)
              obtain ⟨wc_53, ewc_53⟩ : ∃ w : va_W, w = ([] : List va_W).flatten := ⟨_, rfl⟩
              have hwc_53 : BinP g bm none ((tf j).filter (fun t => !lob cap t.1)) wc_53 := by
                rw [ewc_53]
                exact by rw [hft.2]; exact BinP.nil
              refine g_close (w := wc_53) [] rfl ewc_53 rfl ?_
              refine (show Go g κ 195 [some (.ref h), some (.ref tl), some (.int (nI cap)), some (.int (nI thr)), some (.int (nI (2 * cap))), some (.int (nI (2 * thr))), some (.ref n133), some (.int (nI j)), some (.ref tabj_a164), none, none, none, none, none] [] [[(h, .inr (23, [.null, .null, .ref n133, .null, .int (nI n), .int (nI md), .int (nI (2 * thr)), .float lfac]))], [(tl, .inl (g.2.1 6, cap, .inr (.inr (.inr (.inr (ctb tab (j + 1)))))))], [(n133, .inl (g.2.1 6, 2 * cap, .inr (.inr (.inr (.inr (va_up ntab j (some tabj_a164)))))))], w1, w2, wc_52, wc_53] (12 * cap - 12 * j) (48 * cap - 48 * j) from ?_)
              refine g_goto (tgt := 347) B dJ4_resize_195 (by decide) ?_
              rw [show va_up ntab j (some tabj_a164) = va_up (va_up ntab j (some tabj_a164)) (j + cap) none from by
                first
                | rfl
                | (rw [up_same (f := ntab) (b := j) (x := none) (hnn j (by omega) (by omega)).1, up_same (f := ntab) (b := j + cap) (x := none) (hnn j (by omega) (by omega)).2])
                | (rw [up_same (f := ntab) (b := j) (x := none) (hnn j (by omega) (by omega)).1])
                | (rw [up_same (f := va_up ntab j (some tabj_a164)) (b := j + cap) (x := none) (by show (if j + cap = j then (some tabj_a164) else ntab (j + cap)) = none; rw [if_neg (by omega)]; exact (hnn j (by omega) (by omega)).2)])]
              refine (show Go g κ 347 [some (.ref h), some (.ref tl), some (.int (nI cap)), some (.int (nI thr)), some (.int (nI (2 * cap))), some (.int (nI (2 * thr))), some (.ref n133), some (.int (nI j)), some (.ref tabj_a164), none, none, none, none, none] [] [[(h, .inr (23, [.null, .null, .ref n133, .null, .int (nI n), .int (nI md), .int (nI (2 * thr)), .float lfac]))], [(tl, .inl (g.2.1 6, cap, .inr (.inr (.inr (.inr (ctb tab (j + 1)))))))], [(n133, .inl (g.2.1 6, 2 * cap, .inr (.inr (.inr (.inr (va_up (va_up ntab j (some tabj_a164)) (j + cap) none))))))], w1, w2, wc_52, wc_53] (12 * cap - 12 * j) (48 * cap - 48 * j) from ?_)
              obtain ⟨wc_54, ewc_54⟩ : ∃ w : va_W, w = ([w1, wc_52, wc_53, w2] : List va_W).flatten := ⟨_, rfl⟩
              have hwc_54 : RzP g bm cap (j + 1) tab (va_up (va_up ntab j (some tabj_a164)) (j + cap) none) tf wc_54 := by
                rw [ewc_54]
                exact hcl _ _ _ _ hwc_52 hwc_53
              refine g_close (w := wc_54) [3, 4, 4, 3] rfl ewc_54 rfl ?_
              refine (show Go g κ 347 [some (.ref h), some (.ref tl), some (.int (nI cap)), some (.int (nI thr)), some (.int (nI (2 * cap))), some (.int (nI (2 * thr))), some (.ref n133), some (.int (nI j)), some (.ref tabj_a164), none, none, none, none, none] [] [[(h, .inr (23, [.null, .null, .ref n133, .null, .int (nI n), .int (nI md), .int (nI (2 * thr)), .float lfac]))], [(tl, .inl (g.2.1 6, cap, .inr (.inr (.inr (.inr (ctb tab (j + 1)))))))], [(n133, .inl (g.2.1 6, 2 * cap, .inr (.inr (.inr (.inr (va_up (va_up ntab j (some tabj_a164)) (j + cap) none))))))], wc_54] (12 * cap - 12 * j) (48 * cap - 48 * j) from ?_)
              refine g_iinc (v := nI (j + 1)) (q := 350) (lv2 := [some (.ref h), some (.ref tl), some (.int (nI cap)), some (.int (nI thr)), some (.int (nI (2 * cap))), some (.int (nI (2 * thr))), some (.ref n133), some (.int (nI (j + 1))), some (.ref tabj_a164), none, none, none, none, none]) B dJ4_resize_347 rfl rfl (nI_add _ 1) (Nat.le_of_ble_eq_true rfl) rfl ?_
              refine g_goto (tgt := 151) B dJ4_resize_350 (by decide) ?_
              refine g_fg 8 rfl ?_
              refine g_room (kc2 := 12 * cap - 12 * (j + 1)) (ks2 := 48 * cap - 48 * (j + 1)) (by omega) (by omega) ?_
              exact ih151 _ (by omega) (j + 1) (va_up (va_up ntab j (some tabj_a164)) (j + cap) none) wc_54 hwc_54 (by omega) (fun b h1 h2 => by
                  have z := hnn b (by omega) h2
                  unfold va_up
                  rw [if_neg (by omega), if_neg (by omega), if_neg (by omega), if_neg (by omega)]
                  exact z) rfl
  have hct0 := ctb_0 tab
  rw [show (.inr (.inr (.inr (.inr tab))) : (Nat → Int32) ⊕ (Nat → Int64) ⊕ (Nat → UInt32) ⊕ (Nat → UInt64) ⊕ (Nat → Option Nat)) = .inr (.inr (.inr (.inr (ctb tab 0)))) from by rw [← ctb_0]]
  refine (show Go g κ 151 [some (.ref h), some (.ref tl), some (.int (nI cap)), some (.int (nI thr)), some (.int (nI (2 * cap))), some (.int (nI (2 * thr))), some (.ref n133), some (.int (nI 0)), none, none, none, none, none, none] [] [[(h, .inr (23, [.null, .null, .ref n133, .null, .int (nI n), .int (nI md), .int (nI (2 * thr)), .float lfac]))], [(tl, .inl (g.2.1 6, cap, .inr (.inr (.inr (.inr (ctb tab 0))))))], w2, [(n133, .inl (g.2.1 6, 2 * cap, .inr (.inr (.inr (.inr (fun _ => none))))))]] ((12 * cap + 1) - 1) ((50 * cap) - (2 * cap)) from ?_)
  refine g_pk [0, 0, 1, 0] rfl rfl ?_
  refine (show Go g κ 151 [some (.ref h), some (.ref tl), some (.int (nI cap)), some (.int (nI thr)), some (.int (nI (2 * cap))), some (.int (nI (2 * thr))), some (.ref n133), some (.int (nI 0)), none, none, none, none, none, none] [] [[(h, .inr (23, [.null, .null, .ref n133, .null, .int (nI n), .int (nI md), .int (nI (2 * thr)), .float lfac]))], [(tl, .inl (g.2.1 6, cap, .inr (.inr (.inr (.inr (ctb tab 0))))))], [(n133, .inl (g.2.1 6, 2 * cap, .inr (.inr (.inr (.inr (fun _ => none))))))], w2] ((12 * cap + 1) - 1) ((50 * cap) - (2 * cap)) from ?_)
  refine g_room (kc2 := 12 * cap - 12 * 0) (ks2 := 48 * cap - 48 * 0) (by omega) (by omega) ?_
  exact lp151 _ 0 (fun _ => none) w2 (rz_0 (ntab := fun _ => none) hw2) (Nat.zero_le _) (fun _ _ _ => ⟨rfl, rfl⟩) rfl
