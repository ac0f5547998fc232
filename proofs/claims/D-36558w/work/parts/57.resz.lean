set_option maxRecDepth 100000
theorem ct_J4_resize_0 (g : Gv) (J : Jd g) {h : Nat} {n : Nat} {md : Nat} {lfac : UInt32} : Ct g yJ4_resize (ws_ yJ4_resize cJ4_resize 14 (some (.array (.object "java/util/HashMap$Node")))) 7 1 16 [.ref h] [[(h, .inr (23, [.null, .null, .null, .null, .int (nI n), .int (nI md), .int (nI 0), .float lfac]))]] (fun (rv_ : Option Value) (rL_ : List va_W) => ∃ (nt : Nat), rv_ = some (.ref nt) ∧ rL_ = [[(h, .inr (23, [.null, .null, .ref nt, .null, .int (nI n), .int (nI md), .int (nI 12), .float lfac]))], [(nt, .inl (g.2.1 6, 16, .inr (.inr (.inr (.inr (fun _ => none))))))]]) noX := by
  refine Ct.of "java/util/HashMap" [some (.ref h), none, none, none, none, none, none, none, none, none, none, none, none, none] rfl (by decide) rfl (Nat.le_of_ble_eq_true rfl) rfl ?_
  intro κ B E tb
  refine g_aload_n (q := 1) B dJ4_resize_0 rfl rfl (rv_r _) ?_
  refine g_get (q := 4) B (ci := 23) (k := 0) (j := 2) in_J4 rfl dJ4_resize_1 rfl rfl (Nat.le_of_ble_eq_true rfl) q205 rfl rfl ?_
  refine g_astore_n (q := 5) (lv2 := [some (.ref h), some (.null), none, none, none, none, none, none, none, none, none, none, none, none]) B dJ4_resize_4 rfl (Nat.le_of_ble_eq_true rfl) rv_n rfl ?_
  refine g_aload_n (q := 6) B dJ4_resize_5 rfl rfl rv_n ?_
  refine g_ifnonnull_n (q := 9) B dJ4_resize_6 rfl ?_
  refine g_iconst (v := nI 0) (q := 10) B dJ4_resize_9 rfl (by decide) ?_
  refine g_goto (tgt := 15) B dJ4_resize_10 (by decide) ?_
  refine g_istore_n (q := 16) (lv2 := [some (.ref h), some (.null), some (.int (nI 0)), none, none, none, none, none, none, none, none, none, none, none]) B dJ4_resize_15 rfl (Nat.le_of_ble_eq_true rfl) rfl ?_
  refine g_aload_n (q := 17) B dJ4_resize_16 rfl rfl (rv_r _) ?_
  refine g_get (q := 20) B (ci := 23) (k := 0) (j := 6) in_J4 rfl dJ4_resize_17 rfl rfl (Nat.le_of_ble_eq_true rfl) q211 rfl rfl ?_
  refine g_istore_n (q := 21) (lv2 := [some (.ref h), some (.null), some (.int (nI 0)), some (.int (nI 0)), none, none, none, none, none, none, none, none, none, none]) B dJ4_resize_20 rfl (Nat.le_of_ble_eq_true rfl) rfl ?_
  refine g_iconst (v := nI 0) (q := 22) B dJ4_resize_21 rfl (by decide) ?_
  refine g_istore (q := 24) (lv2 := [some (.ref h), some (.null), some (.int (nI 0)), some (.int (nI 0)), none, some (.int (nI 0)), none, none, none, none, none, none, none, none]) B dJ4_resize_22 rfl (Nat.le_of_ble_eq_true rfl) rfl ?_
  refine g_iload_n (q := 25) B dJ4_resize_24 rfl rfl ?_
  refine g_if_le (tgt := 67) (q := 28) B dJ4_resize_25 rfl (by decide) (iff_true_intro (by decide)) (fun _ => ?_) (fun z => absurd trivial z)
  refine g_iload_n (q := 68) B dJ4_resize_67 rfl rfl ?_
  refine g_if_le (tgt := 77) (q := 71) B dJ4_resize_68 rfl (by decide) (iff_true_intro (by decide)) (fun _ => ?_) (fun z => absurd trivial z)
  refine g_bipush (v := nI 16) (q := 79) B dJ4_resize_77 rfl (by decide) ?_
  refine g_istore (q := 81) (lv2 := [some (.ref h), some (.null), some (.int (nI 0)), some (.int (nI 0)), some (.int (nI 16)), some (.int (nI 0)), none, none, none, none, none, none, none, none]) B dJ4_resize_79 rfl (Nat.le_of_ble_eq_true rfl) rfl ?_
  refine g_bipush (v := nI 12) (q := 83) B dJ4_resize_81 rfl (by decide) ?_
  refine g_istore (q := 85) (lv2 := [some (.ref h), some (.null), some (.int (nI 0)), some (.int (nI 0)), some (.int (nI 16)), some (.int (nI 12)), none, none, none, none, none, none, none, none]) B dJ4_resize_83 rfl (Nat.le_of_ble_eq_true rfl) rfl ?_
  refine g_iload (q := 87) B dJ4_resize_85 rfl rfl ?_
  refine g_if_ne (tgt := 125) (q := 90) B dJ4_resize_87 rfl (by decide) (iff_true_intro (by decide)) (fun _ => ?_) (fun z => absurd trivial z)
  refine g_aload_n (q := 126) B dJ4_resize_125 rfl rfl (rv_r _) ?_
  refine g_iload (q := 128) B dJ4_resize_126 rfl rfl ?_
  refine g_put (q := 131) (L2 := [[(h, .inr (23, [.null, .null, .null, .null, .int (nI n), .int (nI md), .int (nI 12), .float lfac]))]]) B (ci := 23) (k := 0) (j := 6) in_J4 tyJ4 tyJ4_ok nmJ4 rfl dJ4_resize_128 rfl rfl (Nat.le_of_ble_eq_true rfl) q211 rfl rfl rfl rfl (Nat.le_of_ble_eq_true rfl) rfl ?_
  refine g_iload (q := 133) B dJ4_resize_131 rfl rfl ?_
  refine g_newq (q := 136) (kc2 := 0) (ks2 := 0) (t := 6) (N := 16) B q1656 q1657 rfl dJ4_resize_133 rfl (by decide) rfl (by decide) (Nat.le_of_ble_eq_true rfl) (Nat.le_of_ble_eq_true rfl) (fun n133 => ?_)
  refine (show Go g κ 136 [some (.ref h), some (.null), some (.int (nI 0)), some (.int (nI 0)), some (.int (nI 16)), some (.int (nI 12)), none, none, none, none, none, none, none, none] [.ref n133] [[(h, .inr (23, [.null, .null, .null, .null, .int (nI n), .int (nI md), .int (nI 12), .float lfac]))], [(n133, .inl (g.2.1 6, 16, .inr (.inr (.inr (.inr (fun _ => none))))))]] 0 0 from ?_)
  refine g_astore (q := 138) (lv2 := [some (.ref h), some (.null), some (.int (nI 0)), some (.int (nI 0)), some (.int (nI 16)), some (.int (nI 12)), some (.ref n133), none, none, none, none, none, none, none]) B dJ4_resize_136 rfl (Nat.le_of_ble_eq_true rfl) (rv_r _) rfl ?_
  refine g_aload_n (q := 139) B dJ4_resize_138 rfl rfl (rv_r _) ?_
  refine g_aload (q := 141) B dJ4_resize_139 rfl rfl (rv_r _) ?_
  refine g_put (q := 144) (L2 := [[(h, .inr (23, [.null, .null, .ref n133, .null, .int (nI n), .int (nI md), .int (nI 12), .float lfac]))], [(n133, .inl (g.2.1 6, 16, .inr (.inr (.inr (.inr (fun _ => none))))))]]) B (ci := 23) (k := 0) (j := 2) in_J4 tyJ4 tyJ4_ok nmJ4 rfl dJ4_resize_141 rfl rfl (Nat.le_of_ble_eq_true rfl) q205 rfl rfl rfl rfl (Nat.le_of_ble_eq_true rfl) rfl ?_
  refine g_aload_n (q := 145) B dJ4_resize_144 rfl rfl rv_n ?_
  refine g_ifnull_n (tgt := 353) B dJ4_resize_145 (by decide) ?_
  refine g_aload (q := 355) B dJ4_resize_353 rfl rfl (rv_r _) ?_
  exact g_aret B E dJ4_resize_355 (by first | exact Or.inl ⟨_, rfl⟩ | exact Or.inr ⟨_, rfl⟩) (rv_r _) (⟨n133, rfl, rfl⟩)
def ctb (tab : Nat → Option Nat) (j : Nat) : Nat → Option Nat := fun b => if b < j then none else tab b
theorem ctb_0 (tab : Nat → Option Nat) : tab = ctb tab 0 := by funext b; simp [ctb]
theorem ctb_at (tab : Nat → Option Nat) (j : Nat) : ctb tab j j = tab j := by simp [ctb]
theorem ctb_s (tab : Nat → Option Nat) (j : Nat) : va_up (ctb tab j) j none = ctb tab (j + 1) := by
  funext b
  unfold va_up ctb
  by_cases h : b = j
  · rw [if_pos h, if_pos (by omega)]
  · rw [if_neg h]
    by_cases h1 : b < j
    · rw [if_pos h1, if_pos (by omega)]
    · rw [if_neg h1, if_neg (by omega)]
theorem ctb_n {tab : Nat → Option Nat} {j : Nat} (h : tab j = none) : ctb tab j = ctb tab (j + 1) := by
  rw [← ctb_s, up_same]; rw [ctb_at]; exact h
abbrev Tp : Type := Int32 × Nat × Nat
def Np (g : Gv) (bm : Nat) (ntab : Nat → Option Nat) (cap : Nat) (ts : List Tp) (b : Nat) (v : va_W) : Prop := ∃ v1 v2 : va_W, BinP g bm (ntab b) (ts.filter fun t => lob cap t.1) v1 ∧ BinP g bm (ntab (b + cap)) (ts.filter fun t => !lob cap t.1) v2 ∧ v = ([v1, v2] : List va_W).flatten
theorem BinP.none {g : Gv} {bm : Nat} {ts : List Tp} {w : va_W} (h : BinP g bm none ts w) : ts = [] := by
  rcases h with ⟨ns, cs, hs, ky, vl, nx, h1, h2, h3, h4, h5, h6⟩ | ⟨ns, cs, hs, ky, vl, nx, pp, lf, rg, pv, rd, lo, hi, root, h1, h2, h3, h4, h5, h6⟩
  · rw [List.head?_eq_none_iff.mp (ch_head h2).symm] at h5; exact List.Perm.eq_nil h5
  · rw [List.head?_eq_none_iff.mp (ch_head h2).symm] at h5; exact List.Perm.eq_nil h5
theorem big_pr {n : Nat} (f g : Nat → va_W) : ((List.range n).map fun j => f j ++ g j).flatten.Perm (((List.range n).map f).flatten ++ ((List.range n).map g).flatten) := by
  induction n with
  | zero => exact List.Perm.refl _
  | succ n ih =>
    rw [List.range_succ]
    simp only [List.map_append, List.map_cons, List.map_nil, List.flatten_append, List.flatten_cons, List.flatten_nil, List.append_nil]
    refine (ih.append_right _).trans ?_
    rw [List.append_assoc, List.append_assoc]
    refine List.Perm.append_left _ ?_
    have z := (List.perm_append_comm (l₁ := ((List.range n).map g).flatten) (l₂ := f n)).append_right (g n)
    simpa [List.append_assoc] using z
/-- the pairs in one row -/
theorem big_row {g : Gv} {bm : Nat} {cap : Nat} {ntab : Nat → Option Nat} {tf : Nat → List Tp} {w : va_W} (h : Big cap (fun b v => Np g bm ntab cap (tf b) b v) w) : ∃ w2, w.Perm (w2 ++ []) ∧ Big (2 * cap) (fun b v => BinP g bm (ntab b) ((tf (b % cap)).filter fun t => if b < cap then lob cap t.1 else !lob cap t.1) v) w2 := by
  obtain ⟨wk, h1, rfl⟩ := h
  have hc : ∀ b, ∃ v1 v2 : va_W, b < cap → BinP g bm (ntab b) ((tf b).filter fun t => lob cap t.1) v1 ∧ BinP g bm (ntab (b + cap)) ((tf b).filter fun t => !lob cap t.1) v2 ∧ wk b = ([v1, v2] : List va_W).flatten := fun b => by
    by_cases hb : b < cap
    · obtain ⟨v1, v2, a1, a2, a3⟩ := h1 b hb
      exact ⟨v1, v2, fun _ => ⟨a1, a2, a3⟩⟩
    · exact ⟨[], [], fun z => absurd z hb⟩
  refine ⟨((List.range (2 * cap)).map fun b => if b < cap then Classical.choose (hc b) else Classical.choose (Classical.choose_spec (hc (b - cap)))).flatten, ?_, _, fun b hb => ?_, rfl⟩
  · rw [List.append_nil]
    have e1 : ((List.range cap).map wk) = (List.range cap).map fun j => Classical.choose (hc j) ++ Classical.choose (Classical.choose_spec (hc j)) := List.map_congr_left fun j hj => (Classical.choose_spec (Classical.choose_spec (hc j)) (List.mem_range.mp hj)).2.2.trans (by simp)
    rw [e1]
    refine (big_pr _ _).trans (List.Perm.of_eq ?_)
    rw [show 2 * cap = cap + cap by omega, List.range_add, List.map_append, List.flatten_append]
    congr 2
    · exact List.map_congr_left fun j hj => (if_pos (List.mem_range.mp hj)).symm
    · rw [List.map_map]
      refine List.map_congr_left fun j hj => ?_
      show _ = if cap + j < cap then _ else _
      rw [if_neg (by omega), show cap + j - cap = j by omega]
  · show BinP g bm (ntab b) _ (if b < cap then _ else _)
    by_cases hc2 : b < cap
    · rw [if_pos hc2, Nat.mod_eq_of_lt hc2]
      have z := (Classical.choose_spec (Classical.choose_spec (hc b)) hc2).1
      simpa [hc2] using z
    · rw [if_neg hc2]
      have e : b % cap = b - cap := by rw [Nat.mod_eq_sub_mod (by omega), Nat.mod_eq_of_lt (by omega)]
      have z := (Classical.choose_spec (Classical.choose_spec (hc (b - cap))) (by omega)).2.1
      have key : ∀ (c : Nat) (ts : List Tp) (v : va_W), c = b → BinP g bm (ntab c) ts v → BinP g bm (ntab b) ts v := by
        rintro c ts v rfl h; exact h
      have z2 := key _ _ _ (by omega) z
      rw [e]
      simpa [hc2] using z2
theorem ft_map {cs : List Nat} {hs : Nat → Int32} {ky vl : Nat → Nat} {ts : List Tp} {p : Int32 → Bool} (h : ts.Perm (cs.map fun a => (hs a, ky a, vl a))) : (ts.filter fun t => p t.1).Perm ((cs.filter fun a => p (hs a)).map fun a => (hs a, ky a, vl a)) := by
  refine (h.filter _).trans ?_
  rw [List.filter_map]
  exact List.Perm.refl _
