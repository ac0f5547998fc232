set_option maxRecDepth 100000
def c0z (cap : Nat) : Nat := if cap = 0 then 16 else cap
def c1z (xs : List Tp) (cap : Nat) (hh : Int32) : Nat := if cap < 64 ∧ 8 ≤ (tfX xs cap (hU hh % cap)).length then 2 * cap else cap
def c2z (n cap : Nat) : Nat := if 3 * cap < 4 * (n + 1) then 2 * cap else cap
/-- the table's room once one more has come in -/
def hgr (xs : List Tp) (cap : Nat) (hh : Int32) : Nat := c2z xs.length (c1z xs (c0z cap) hh)
theorem hgr_ge (xs : List Tp) (cap : Nat) (hh : Int32) : c0z cap ≤ c1z xs (c0z cap) hh ∧ c1z xs (c0z cap) hh ≤ hgr xs cap hh ∧ cap ≤ c0z cap := by
  refine ⟨?_, ?_, ?_⟩
  · unfold c1z; split <;> omega
  · unfold hgr c2z; split <;> omega
  · unfold c0z; split <;> omega
theorem own_X {xs : List Tp} {cap : Nat} {t : Tp} : tfX (xs ++ [t]) cap (hU t.1 % cap) = tfX xs cap (hU t.1 % cap) ++ [t] := by unfold tfX; rw [List.filter_append]; simp
theorem oth_X {xs : List Tp} {cap b : Nat} {t : Tp} (h : b ≠ hU t.1 % cap) : tfX (xs ++ [t]) cap b = tfX xs cap b := by unfold tfX; rw [List.filter_append]; simp [Ne.symm h]
theorem tfX_2 {xs : List Tp} {cap kk b : Nat} (hc : cap = 2 ^ kk) (hk : kk ≤ 28) (hb : b < 2 * cap) : ((tfX xs cap (b % cap)).filter fun t => if b < cap then lob cap t.1 else !lob cap t.1) = tfX xs (2 * cap) b := by
  unfold tfX
  rw [List.filter_filter]
  have h0 : 0 < cap := by rw [hc]; exact pw_0 kk
  have e2 : 2 * cap = 2 ^ (kk + 1) := by rw [Nat.pow_succ, hc]; omega
  refine List.filter_congr fun t _ => ?_
  have ht : lob cap t.1 = true → hU t.1 % (2 * cap) = hU t.1 % cap := fun h => by rw [e2, hc]; exact lob_t (by omega) (by rw [← hc]; exact h)
  have hf : lob cap t.1 = false → hU t.1 % (2 * cap) = hU t.1 % cap + cap := fun h => by rw [e2, hc]; exact lob_f (by omega) (by rw [← hc]; exact h)
  have hl := Nat.mod_lt (hU t.1) h0
  by_cases hbc : b < cap
  · rw [if_pos hbc, Nat.mod_eq_of_lt hbc]
    cases hlb : lob cap t.1 with
    | true => rw [ht hlb]; simp
    | false => rw [hf hlb]; simp; omega
  · rw [if_neg hbc]
    have e : b % cap = b - cap := by rw [Nat.mod_eq_sub_mod (by omega), Nat.mod_eq_of_lt (by omega)]
    rw [e]
    cases hlb : lob cap t.1 with
    | true => rw [ht hlb, Bool.eq_iff_iff]; simp; omega
    | false => rw [hf hlb, Bool.eq_iff_iff]; simp; omega
theorem tb_mono {g : Gv} {bm bm2 cap : Nat} {tab : Nat → Option Nat} {tf tf2 : Nat → List Tp} {w : va_W} (h : TbP g bm cap tab tf w) (hb : bm ≤ bm2) (ht : ∀ b, b < cap → tf2 b = tf b) : TbP g bm2 cap tab tf2 w := by
  refine Big.mono h fun b hb2 v hv => ?_
  rw [ht b hb2]
  rcases hv with ⟨ns, cs, hs, ky, vl, nx, a1, a2, a3, a4, a5, a6⟩ | ⟨ns, cs, hs, ky, vl, nx, pp, lf, rg, pv, rd, lo, hi, root, a1, a2, a3, a4, a5, a6, a7, a8⟩
  · exact Or.inl ⟨ns, cs, hs, ky, vl, nx, a1, a2, a3, a4, a5, Nat.le_trans a6 hb⟩
  · exact Or.inr ⟨ns, cs, hs, ky, vl, nx, pp, lf, rg, pv, rd, lo, hi, root, a1, a2, a3, a4, a5, a6, a7, Nat.le_trans a8 hb⟩
theorem bmx_s {kk : Nat} (h : 4 ≤ kk) : bmx kk ≤ bmx (kk + 1) := by unfold bmx; (repeat' split) <;> omega
theorem tb_nil {g : Gv} {bm : Nat} : ∀ {n : Nat}, TbP g bm n (fun _ => none) (tfX [] n) ([] : List va_W).flatten := fun {n} => by
  refine ⟨fun _ => [], fun i hi => BinP.nil, ?_⟩
  simp
theorem bin_1 {g : Gv} {bm m k v : Nat} {hh : Int32} (hb : 1 ≤ bm) : BinP g bm (some m) [(hh, k, v)] ([[(m, .inr (24, [.int hh, .ref k, .ref v, .null]))]] : List va_W).flatten := Or.inl ⟨[m], [m], fun _ => hh, fun _ => k, fun _ => v, fun _ => none, ⟨by simp, rfl⟩, ⟨rfl, rfl⟩, by simp, fun _ => Iff.rfl, List.Perm.refl _, hb⟩
theorem pm_cons {cs cs2 : List Nat} {hs : Nat → Int32} {ky vl : Nat → Nat} {m k v : Nat} {hh : Int32} {ts : List Tp} (hm : m ∉ cs) (hn : cs.Nodup) (hn2 : cs2.Nodup) (hc : ∀ a, a ∈ cs2 ↔ a = m ∨ a ∈ cs) (h : ts.Perm (cs.map fun a => (hs a, ky a, vl a))) : (ts ++ [(hh, k, v)]).Perm (cs2.map fun a => (fup hs m hh a, fup ky m k a, fup vl m v a)) := by
  have hp : cs2.Perm (m :: cs) := (List.perm_ext_iff_of_nodup hn2 (List.nodup_cons.mpr ⟨hm, hn⟩)).mpr fun a => by rw [hc a, List.mem_cons]
  refine List.Perm.trans ?_ (hp.map _).symm
  rw [List.map_cons, fup_s, fup_s, fup_s]
  refine List.perm_append_comm.trans ?_
  refine List.Perm.cons _ (h.trans (List.Perm.of_eq (List.map_congr_left fun a ha => ?_)))
  have hne : a ≠ m := fun e => hm (e ▸ ha)
  rw [fup_n hne, fup_n hne, fup_n hne]
theorem ct_J4_afterNodeInsertion (g : Gv) (J : Jd g) {h : Nat} : Ct g yJ4_afterNodeInsertion (ws_ yJ4_afterNodeInsertion cJ4_afterNodeInsertion 2 none) 0 0 0 [.ref h, .int (nI 1)] [] (fun (rv_ : Option Value) (rL_ : List va_W) => rv_ = none ∧ rL_ = []) noX := by
  refine Ct.of "java/util/HashMap" [some (.ref h), some (.int (nI 1))] rfl (by decide) rfl (Nat.le_of_ble_eq_true rfl) rfl ?_
  intro κ B E tb
  exact g_vret B E dJ4_afterNodeInsertion_0 (⟨rfl, rfl⟩)
theorem bm_cap {cap kk : Nat} (hc : cap = 2 ^ kk) (h : 10 ≤ bmx kk) (h4 : 4 ≤ kk := by assumption) : 64 ≤ cap := by
  have h6 : 6 ≤ kk := by unfold bmx at h; split at h; omega; split at h <;> omega
  rw [hc]
  exact Nat.le_trans (Nat.le_of_ble_eq_true rfl) (Nat.pow_le_pow_right (n := 2) (by decide) h6)
theorem cap_k6 {cap kk : Nat} (hc : cap = 2 ^ kk) (h4 : 4 ≤ kk) : (cap < 64 → bmx kk + 1 ≤ bmx (kk + 1) ∧ kk < 6) ∧ (64 ≤ cap → 6 ≤ kk ∧ 10 ≤ bmx kk) := by
  rcases Nat.lt_or_ge kk 6 with h | h
  · have hlt : 2 ^ kk < 64 := Nat.lt_of_le_of_lt (Nat.pow_le_pow_right (n := 2) (by decide) (show kk ≤ 5 by omega)) (by decide)
    refine ⟨fun _ => ⟨?_, h⟩, fun z => by omega⟩
    have : kk = 4 ∨ kk = 5 := by omega
    rcases this with rfl | rfl <;> decide
  · have hge : 64 ≤ 2 ^ kk := Nat.le_trans (Nat.le_of_ble_eq_true rfl) (Nat.pow_le_pow_right (n := 2) (by decide) h)
    refine ⟨fun z => by omega, fun _ => ⟨h, ?_⟩⟩
    unfold bmx; rw [if_neg (by omega), if_neg (by omega)]; exact Nat.le_refl _
theorem bmx_8 (kk : Nat) : 8 ≤ bmx kk := by unfold bmx; split; omega; split <;> omega
theorem bmx_10 (kk : Nat) : bmx kk ≤ 10 := by unfold bmx; split; omega; split <;> omega
theorem moJ4_afterNodeInsertion : Mo yJ4_afterNodeInsertion 1 := by
  refine ⟨by decide, by decide, by decide +kernel⟩
theorem moJ4_newNode : Mo yJ4_newNode 4 := by
  refine ⟨by decide, by decide, by decide +kernel⟩
theorem moJ4_treeifyBin : Mo yJ4_treeifyBin 2 := by
  refine ⟨by decide, by decide, by decide +kernel⟩
theorem moJ40_putTreeVal : Mo yJ40_putTreeVal 5 := by
  refine ⟨by decide, by decide, by decide +kernel⟩
theorem ct_J4_putVal (g : Gv) (J : Jd g) {h : Nat} {xs : List Tp} {cap0 : Nat} {hh : Int32} {k : Nat} {v : Nat} {w0 : va_W} (hw0 : HmT g h xs cap0 w0) (hno : ∀ t ∈ xs, t.1 ≠ hh) (hxn : xs.length < 999) : Ct g yJ4_putVal (ws_ yJ4_putVal cJ4_putVal 13 (some (.object "java/lang/Object"))) 9 (12 + 13 * (hgr xs cap0 hh - cap0)) (125 + 51 * (hgr xs cap0 hh - cap0)) [.ref h, .int hh, .ref k, .ref v, .int (nI 0), .int (nI 1)] [w0] (fun (rv_ : Option Value) (rL_ : List va_W) => ∃ (u0 : va_W), rv_ = some (.null) ∧ rL_ = [u0] ∧ HmT g h (xs ++ [(hh, k, v)]) (hgr xs cap0 hh) u0) noX := by
  refine Ct.of "java/util/HashMap" [some (.ref h), some (.int hh), some (.ref k), some (.ref v), some (.int (nI 0)), some (.int (nI 1)), none, none, none, none, none, none, none] rfl (by decide) rfl (Nat.le_of_ble_eq_true rfl) rfl ?_
  intro κ B E tb
  obtain ⟨hnd, hxl, hcase⟩ := hw0
  have hg := hgr_ge xs cap0 hh
  have hyl : (xs ++ [(hh, k, v)]).length < 1000 := by rw [List.length_append, List.length_singleton]; omega
  have hynd : ((xs ++ [(hh, k, v)]).map (·.1)).Nodup := by
    rw [List.map_append, List.nodup_append]
    refine ⟨hnd, by simp, fun a ha b hb e => ?_⟩
    obtain ⟨t, ht, e2⟩ := List.mem_map.mp ha
    simp at hb
    exact hno t ht (by rw [e2, e, hb])
  rcases hcase with ⟨rfl, rfl, md, lfac, rfl⟩ | ⟨kk, tl, md, thr, lfac, tab, wb, hcap, hk4, hk, hthr, hwb, rfl⟩
  · skip
    refine g_open 0 rfl rfl rfl ?_
    refine (show Go g κ 0 [some (.ref h), some (.int hh), some (.ref k), some (.ref v), some (.int (nI 0)), some (.int (nI 1)), none, none, none, none, none, none, none] [] [[(h, .inr (23, [.null, .null, .null, .null, .int (nI 0), .int (nI md), .int (nI 0), .float lfac]))]] (12 + 13 * (hgr [] 0 hh - 0)) (125 + 51 * (hgr [] 0 hh - 0)) from ?_)
    have hz0 : c0z 0 = 16 := rfl
    have ct29 : ∀ (tl : Nat) (cap : Nat) (kk : Nat) (tab : Nat → Option Nat) (thr : Nat) (l29_2 : va_W), TbP g (bmx kk) cap tab (tfX [] cap) l29_2 → (cap = 2 ^ kk) → (4 ≤ kk) → (kk ≤ 18) → (4 * thr = 3 * cap) → (cap = c0z 0) → Go g κ 29 [some (.ref h), some (.int hh), some (.ref k), some (.ref v), some (.int (nI 0)), some (.int (nI 1)), some (.ref tl), none, some (.int (nI cap)), none, none, none, none] [] [[(h, .inr (23, [.null, .null, .ref tl, .null, .int (nI 0), .int (nI md), .int (nI thr), .float lfac]))], [(tl, .inl (g.2.1 6, cap, .inr (.inr (.inr (.inr tab)))))], l29_2] (12 + 13 * (hgr [] 0 hh - cap)) (125 + 51 * (hgr [] 0 hh - cap)) := by
      intro tl cap kk tab thr l29_2 hl29_2 hcap hk4 hk hthr hcz2
      have hc0 : 16 ≤ cap ∧ cap ≤ 262144 := by
        rw [hcap]
        exact ⟨Nat.le_trans (Nat.le_of_ble_eq_true rfl) (Nat.pow_le_pow_right (n := 2) (by decide) hk4), Nat.le_trans (Nat.pow_le_pow_right (by decide) hk) (Nat.le_of_ble_eq_true rfl)⟩
      have ct259 : ∀ (tl : Nat) (cap : Nat) (kk : Nat) (tab : Nat → Option Nat) (thr : Nat) (l259_2 : va_W), TbP g (bmx kk) cap tab (tfX ([] ++ [(hh, k, v)]) cap) l259_2 → (cap = 2 ^ kk) → (4 ≤ kk) → (kk ≤ 18) → (4 * thr = 3 * cap) → (cap = c1z [] (c0z 0) hh) → Go g κ 259 [some (.ref h), none, none, none, none, some (.int (nI 1)), none, none, none, none, none, none, none] [] [[(h, .inr (23, [.null, .null, .ref tl, .null, .int (nI 0), .int (nI md), .int (nI thr), .float lfac]))], [(tl, .inl (g.2.1 6, cap, .inr (.inr (.inr (.inr tab)))))], l259_2] (13 * (hgr [] 0 hh - cap)) (51 * (hgr [] 0 hh - cap)) := by
        intro tl cap kk tab thr l259_2 hl259_2 hcap hk4 hk hthr hc1
        have hc0 : 16 ≤ cap ∧ cap ≤ 262144 := by
          rw [hcap]
          exact ⟨Nat.le_trans (Nat.le_of_ble_eq_true rfl) (Nat.pow_le_pow_right (n := 2) (by decide) hk4), Nat.le_trans (Nat.pow_le_pow_right (by decide) hk) (Nat.le_of_ble_eq_true rfl)⟩
        refine g_aload_n (q := 260) B dJ4_putVal_259 rfl rfl (rv_r _) ?_
        refine g_dup (q := 261) B dJ4_putVal_260 rfl rfl ?_
        refine g_get (q := 264) B (ci := 23) (k := 0) (j := 5) in_J4 rfl dJ4_putVal_261 rfl rfl (Nat.le_of_ble_eq_true rfl) q210 rfl rfl ?_
        refine g_iconst (v := nI 1) (q := 265) B dJ4_putVal_264 rfl (by decide) ?_
        refine g_iadd (v := nI (md + 1)) (q := 266) B dJ4_putVal_265 rfl (nI_add _ _) ?_
        refine g_put (q := 269) (L2 := [[(h, .inr (23, [.null, .null, .ref tl, .null, .int (nI 0), .int (nI (md + 1)), .int (nI thr), .float lfac]))], [(tl, .inl (g.2.1 6, cap, .inr (.inr (.inr (.inr tab)))))], l259_2]) B (ci := 23) (k := 0) (j := 5) in_J4 tyJ4 tyJ4_ok nmJ4 rfl dJ4_putVal_266 rfl rfl (Nat.le_of_ble_eq_true rfl) q210 rfl rfl rfl rfl (Nat.le_of_ble_eq_true rfl) rfl ?_
        refine g_aload_n (q := 270) B dJ4_putVal_269 rfl rfl (rv_r _) ?_
        refine g_dup (q := 271) B dJ4_putVal_270 rfl rfl ?_
        refine g_get (q := 274) B (ci := 23) (k := 0) (j := 4) in_J4 rfl dJ4_putVal_271 rfl rfl (Nat.le_of_ble_eq_true rfl) q208 rfl rfl ?_
        refine g_iconst (v := nI 1) (q := 275) B dJ4_putVal_274 rfl (by decide) ?_
        refine g_iadd (v := nI 1) (q := 276) B dJ4_putVal_275 rfl (nI_add _ _) ?_
        refine g_dup_x1 (q := 277) B dJ4_putVal_276 rfl rfl rfl ?_
        refine g_put (q := 280) (L2 := [[(h, .inr (23, [.null, .null, .ref tl, .null, .int (nI 1), .int (nI (md + 1)), .int (nI thr), .float lfac]))], [(tl, .inl (g.2.1 6, cap, .inr (.inr (.inr (.inr tab)))))], l259_2]) B (ci := 23) (k := 0) (j := 4) in_J4 tyJ4 tyJ4_ok nmJ4 rfl dJ4_putVal_277 rfl rfl (Nat.le_of_ble_eq_true rfl) q208 rfl rfl rfl rfl (Nat.le_of_ble_eq_true rfl) rfl ?_
        refine g_aload_n (q := 281) B dJ4_putVal_280 rfl rfl (rv_r _) ?_
        refine g_get (q := 284) B (ci := 23) (k := 0) (j := 6) in_J4 rfl dJ4_putVal_281 rfl rfl (Nat.le_of_ble_eq_true rfl) q211 rfl rfl ?_
        refine g_icmp_le (tgt := 292) (q := 287) B dJ4_putVal_284 rfl (by decide) (nI_leI (by omega) (by omega)) (fun c284 => ?_) (fun c284 => ?_)
        · skip
          refine g_aload_n (q := 293) B dJ4_putVal_292 rfl rfl (rv_r _) ?_
          refine g_iload (q := 295) B dJ4_putVal_293 rfl rfl ?_
          refine g_callV (q := 298) (is := []) (kc2 := 13 * (hgr [] 0 hh - cap)) (ks2 := 51 * (hgr [] 0 hh - cap)) B [.int (nI 1)] (ct_J4_afterNodeInsertion g J (h := h)  ) dJ4_putVal_295 rfl (rc_at B (ci := 23) rfl (k := 0) rfl) rfl q1780 q1781 q1782 q83 q1783 rfl rfl moJ4_afterNodeInsertion rfl rfl (by decide) (by decide) (Nat.le_of_ble_eq_true rfl) (by omega) (by omega) (fun _ _ hx => noX_x hx) (fun v295 L1 hp295 => ?_)
          obtain ⟨rfl, rfl⟩ := hp295
          refine (show Go g κ 298 [some (.ref h), none, none, none, none, some (.int (nI 1)), none, none, none, none, none, none, none] [] [[(h, .inr (23, [.null, .null, .ref tl, .null, .int (nI 1), .int (nI (md + 1)), .int (nI thr), .float lfac]))], [(tl, .inl (g.2.1 6, cap, .inr (.inr (.inr (.inr tab)))))], l259_2] (13 * (hgr [] 0 hh - cap)) (51 * (hgr [] 0 hh - cap)) from ?_)
          refine g_aconst_null (q := 299) B dJ4_putVal_298 rfl ?_
          have hge : hgr [] 0 hh = cap := by unfold hgr c2z; rw [← hc1, if_neg (by (try simp); omega)]
          obtain ⟨wc_1, ewc_1⟩ : ∃ w : va_W, w = ([[(h, .inr (23, [.null, .null, .ref tl, .null, .int (nI 1), .int (nI (md + 1)), .int (nI thr), .float lfac]))], [(tl, .inl (g.2.1 6, cap, .inr (.inr (.inr (.inr tab)))))], l259_2] : List va_W).flatten := ⟨_, rfl⟩
          have hwc_1 : HmT g h ([] ++ [(hh, k, v)]) (hgr [] 0 hh) wc_1 := by
            rw [ewc_1]
            exact ⟨hynd, hyl, Or.inr ⟨kk, tl, md + 1, thr, lfac, _, _, (by rw [hge]; exact hcap), hk4, by omega, (by rw [hge]; exact hthr), (by rw [hge]; exact hl259_2), (by rw [hge]; simp)⟩⟩
          refine g_close (w := wc_1) [0, 0, 0] rfl ewc_1 rfl ?_
          refine (show Go g κ 299 [some (.ref h), none, none, none, none, some (.int (nI 1)), none, none, none, none, none, none, none] [.null] [wc_1] (13 * (hgr [] 0 hh - cap)) (51 * (hgr [] 0 hh - cap)) from ?_)
          exact g_aret B E dJ4_putVal_299 (by first | exact Or.inl ⟨_, rfl⟩ | exact Or.inr ⟨_, rfl⟩) rv_n (⟨wc_1, rfl, rfl, hwc_1⟩)
        · skip
          refine g_aload_n (q := 288) B dJ4_putVal_287 rfl rfl (rv_r _) ?_
          have hg2 : hgr [] 0 hh = 2 * cap := by unfold hgr c2z; rw [← hc1, if_pos (by (try simp); omega)]
          refine g_callV (q := 291) (is := [0, 0, 0]) (kc2 := 0) (ks2 := 0) B [] (ct_J4_resize g J (h := h) (tl := tl) (n := 1) (md := md + 1) (thr := thr) (lfac := lfac) (cap := cap) (kk := kk) (tab := tab) (tf := (tfX ([] ++ [(hh, k, v)]) cap)) (bm := bmx kk) hl259_2 (bmx_6 _) (hcap) (hk4) (by omega) (hthr) (fun b _ t ht => (tfX_mem.mp ht).2) (fun b _ => tfX_nd hynd) (fun b _ => by have z : (tfX ([] ++ [(hh, k, v)]) cap b).length ≤ ([] ++ [(hh, k, v)]).length := List.length_filter_le _ _; omega)) dJ4_putVal_288 rfl (rc_at B (ci := 23) rfl (k := 0) rfl) rfl q1649 q1650 q1651 q83 q1652 rfl rfl moJ4_resize rfl rfl (by decide) (by decide) (Nat.le_of_ble_eq_true rfl) (by omega) (by omega) (fun _ _ hx => noX_x hx) (fun v288 L1 hp288 => ?_)
          obtain ⟨nt288, ntab288, u2_288, rfl, rfl, hu2_288⟩ := hp288
          refine (show Go g κ 291 [some (.ref h), none, none, none, none, some (.int (nI 1)), none, none, none, none, none, none, none] [.ref nt288] [[(h, .inr (23, [.null, .null, .ref nt288, .null, .int (nI 1), .int (nI (md + 1)), .int (nI (2 * thr)), .float lfac]))], [(nt288, .inl (g.2.1 6, 2 * cap, .inr (.inr (.inr (.inr ntab288)))))], u2_288] 0 0 from ?_)
          refine g_pop (q := 292) B dJ4_putVal_291 rfl rfl ?_
          refine g_aload_n (q := 293) B dJ4_putVal_292 rfl rfl (rv_r _) ?_
          refine g_iload (q := 295) B dJ4_putVal_293 rfl rfl ?_
          refine g_callV (q := 298) (is := []) (kc2 := 0) (ks2 := 0) B [.int (nI 1)] (ct_J4_afterNodeInsertion g J (h := h)  ) dJ4_putVal_295 rfl (rc_at B (ci := 23) rfl (k := 0) rfl) rfl q1780 q1781 q1782 q83 q1783 rfl rfl moJ4_afterNodeInsertion rfl rfl (by decide) (by decide) (Nat.le_of_ble_eq_true rfl) (Nat.le_of_ble_eq_true rfl) (Nat.le_of_ble_eq_true rfl) (fun _ _ hx => noX_x hx) (fun v295 L1 hp295 => ?_)
          obtain ⟨rfl, rfl⟩ := hp295
          refine (show Go g κ 298 [some (.ref h), none, none, none, none, some (.int (nI 1)), none, none, none, none, none, none, none] [] [[(h, .inr (23, [.null, .null, .ref nt288, .null, .int (nI 1), .int (nI (md + 1)), .int (nI (2 * thr)), .float lfac]))], [(nt288, .inl (g.2.1 6, 2 * cap, .inr (.inr (.inr (.inr ntab288)))))], u2_288] 0 0 from ?_)
          refine g_aconst_null (q := 299) B dJ4_putVal_298 rfl ?_
          have hge : hgr [] 0 hh = 2 * cap := by unfold hgr c2z; rw [← hc1, if_pos (by (try simp); omega)]
          have hkb : kk ≤ 16 := by
            rcases Nat.lt_or_ge 16 kk with h | h
            · have z : 2 ^ 17 ≤ 2 ^ kk := Nat.pow_le_pow_right (by decide) h
              rw [← hcap] at z; simp at z; omega
            · exact h
          have hq9 : TbP g (bmx (kk + 1)) (2 * cap) ntab288 (tfX ([] ++ [(hh, k, v)]) (2 * cap)) u2_288 := tb_mono hu2_288 (bmx_s hk4) (fun b hb => (tfX_2 hcap (by omega) hb).symm)
          obtain ⟨wc_2, ewc_2⟩ : ∃ w : va_W, w = ([[(h, .inr (23, [.null, .null, .ref nt288, .null, .int (nI 1), .int (nI (md + 1)), .int (nI (2 * thr)), .float lfac]))], [(nt288, .inl (g.2.1 6, 2 * cap, .inr (.inr (.inr (.inr ntab288)))))], u2_288] : List va_W).flatten := ⟨_, rfl⟩
          have hwc_2 : HmT g h ([] ++ [(hh, k, v)]) (hgr [] 0 hh) wc_2 := by
            rw [ewc_2]
            exact ⟨hynd, hyl, Or.inr ⟨kk + 1, nt288, md + 1, 2 * thr, lfac, ntab288, _, (by rw [hge, Nat.pow_succ, hcap]; omega), by omega, by omega, (by rw [hge]; omega), (by rw [hge]; exact hq9), (by rw [hge]; simp)⟩⟩
          refine g_close (w := wc_2) [0, 0, 0] rfl ewc_2 rfl ?_
          refine (show Go g κ 299 [some (.ref h), none, none, none, none, some (.int (nI 1)), none, none, none, none, none, none, none] [.null] [wc_2] 0 0 from ?_)
          exact g_aret B E dJ4_putVal_299 (by first | exact Or.inl ⟨_, rfl⟩ | exact Or.inr ⟨_, rfl⟩) rv_n (⟨wc_2, rfl, rfl, hwc_2⟩)
      obtain ⟨ix, hix⟩ : ∃ ix, ix = hU hh % cap := ⟨_, rfl⟩
      have hixl : ix < cap := by rw [hix]; exact Nat.mod_lt _ (by omega)
      have hixa : nI (cap - 1) &&& hh = nI ix := by rw [hix, hcap]; exact ix_hu (by omega) _
      obtain ⟨w1, wj, w2, hbj, hcl, rfl⟩ := tf_op hl29_2 hixl
      refine g_open 2 rfl rfl rfl ?_
      refine (show Go g κ 29 [some (.ref h), some (.int hh), some (.ref k), some (.ref v), some (.int (nI 0)), some (.int (nI 1)), some (.ref tl), none, some (.int (nI cap)), none, none, none, none] [] [[(h, .inr (23, [.null, .null, .ref tl, .null, .int (nI 0), .int (nI md), .int (nI thr), .float lfac]))], [(tl, .inl (g.2.1 6, cap, .inr (.inr (.inr (.inr tab)))))], w1, wj, w2] (12 + 13 * (hgr [] 0 hh - cap)) (125 + 51 * (hgr [] 0 hh - cap)) from ?_)
      have hbj0 := hbj
      rcases hbj with ⟨ns, cs, hs, ky, vl, nx, hwj, hC, hN, hM, hpm, hlb0⟩ | ⟨ns, cs, hs, ky, vl, nx, pp, lf, rg, pv, rd, lo, hi, root, hwj, hC, hN, hM, hpm, hP, hT, hb10⟩
      · skip
        have hmt : ∀ a ∈ ns, (hs a, ky a, vl a) ∈ ([] : List Tp) ∧ hU (hs a) % cap = ix := fun a ha => tfX_mem.mp (hpm.mem_iff.mpr (List.mem_map.mpr ⟨a, (hM a).mpr ha, rfl⟩))
        refine (show Go g κ 29 [some (.ref h), some (.int hh), some (.ref k), some (.ref v), some (.int (nI 0)), some (.int (nI 1)), some (.ref tl), none, some (.int (nI cap)), none, none, none, none] [] [[(h, .inr (23, [.null, .null, .ref tl, .null, .int (nI 0), .int (nI md), .int (nI thr), .float lfac]))], [(tl, .inl (g.2.1 6, cap, .inr (.inr (.inr (.inr tab)))))], w1, wj, w2] (12 + 13 * (hgr [] 0 hh - cap)) (125 + 51 * (hgr [] 0 hh - cap)) from ?_)
        rcases hti : tab ix with _ | f0
        · skip
          have hcs0 : cs = [] := List.head?_eq_none_iff.mp (by rw [← ch_head hC, hti])
          refine g_aload (q := 31) B dJ4_putVal_29 rfl rfl (rv_r _) ?_
          refine g_iload (q := 33) B dJ4_putVal_31 rfl rfl ?_
          refine g_iconst (v := nI 1) (q := 34) B dJ4_putVal_33 rfl (by decide) ?_
          refine g_isub (v := nI (cap - 1)) (q := 35) B dJ4_putVal_34 rfl (pk_sub (by omega)) ?_
          refine g_iload_n (q := 36) B dJ4_putVal_35 rfl rfl ?_
          refine g_iand (v := nI ix) (q := 37) B dJ4_putVal_36 rfl hixa ?_
          refine g_dup (q := 38) B dJ4_putVal_37 rfl rfl ?_
          refine g_istore (q := 40) (lv2 := [some (.ref h), some (.int hh), some (.ref k), some (.ref v), some (.int (nI 0)), some (.int (nI 1)), some (.ref tl), none, some (.int (nI cap)), some (.int (nI ix)), none, none, none]) B dJ4_putVal_38 rfl (Nat.le_of_ble_eq_true rfl) rfl ?_
          refine g_ald (r := none) (q := 41) B (k := 1) (t := 6) dJ4_putVal_40 rfl rfl rfl (vp_in_nI (by omega) (by omega)) (by rw [nI_clamp (by omega)]; exact hti) ?_
          refine g_dup (q := 42) B dJ4_putVal_41 rfl rfl ?_
          refine g_astore (q := 44) (lv2 := [some (.ref h), some (.int hh), some (.ref k), some (.ref v), some (.int (nI 0)), some (.int (nI 1)), some (.ref tl), some (.null), some (.int (nI cap)), some (.int (nI ix)), none, none, none]) B dJ4_putVal_42 rfl (Nat.le_of_ble_eq_true rfl) rv_n rfl ?_
          refine g_ifnonnull_n (q := 47) B dJ4_putVal_44 rfl ?_
          refine g_aload (q := 49) B dJ4_putVal_47 rfl rfl (rv_r _) ?_
          refine g_iload (q := 51) B dJ4_putVal_49 rfl rfl ?_
          refine g_aload_n (q := 52) B dJ4_putVal_51 rfl rfl (rv_r _) ?_
          refine g_iload_n (q := 53) B dJ4_putVal_52 rfl rfl ?_
          refine g_aload_n (q := 54) B dJ4_putVal_53 rfl rfl (rv_r _) ?_
          refine g_aload_n (q := 55) B dJ4_putVal_54 rfl rfl (rv_r _) ?_
          refine g_aconst_null (q := 56) B dJ4_putVal_55 rfl ?_
          refine g_callV (q := 59) (is := []) (kc2 := (12 + 13 * (hgr [] 0 hh - cap)) - 1) (ks2 := (125 + 51 * (hgr [] 0 hh - cap)) - 4) B [.int hh, .ref k, .ref v, .null] (ct_J4_newNode g J (h := h) (hh := hh) (k := k) (v := v) (x := none)  ) dJ4_putVal_56 rfl (rc_at B (ci := 23) rfl (k := 0) rfl) rfl q1722 q1723 q1724 q83 q1725 rfl rfl moJ4_newNode rfl rfl (by decide) (by decide) (Nat.le_of_ble_eq_true rfl) (by omega) (by omega) (fun _ _ hx => noX_x hx) (fun v56 L1 hp56 => ?_)
          obtain ⟨a56, rfl, rfl⟩ := hp56
          refine (show Go g κ 59 [some (.ref h), some (.int hh), some (.ref k), some (.ref v), some (.int (nI 0)), some (.int (nI 1)), some (.ref tl), some (.null), some (.int (nI cap)), some (.int (nI ix)), none, none, none] [.ref a56, .int (nI ix), .ref tl] [[(h, .inr (23, [.null, .null, .ref tl, .null, .int (nI 0), .int (nI md), .int (nI thr), .float lfac]))], [(tl, .inl (g.2.1 6, cap, .inr (.inr (.inr (.inr tab)))))], w1, wj, w2, [(a56, .inr (24, [.int hh, .ref k, .ref v, .null]))]] ((12 + 13 * (hgr [] 0 hh - cap)) - 1) ((125 + 51 * (hgr [] 0 hh - cap)) - 4) from ?_)
          refine g_astO (q := 60) (L2 := [[(h, .inr (23, [.null, .null, .ref tl, .null, .int (nI 0), .int (nI md), .int (nI thr), .float lfac]))], [(tl, .inl (g.2.1 6, cap, .inr (.inr (.inr (.inr (va_up tab ix (some a56)))))))], w1, wj, w2, [(a56, .inr (24, [.int hh, .ref k, .ref v, .null]))]]) B (k := 1) (t := 6) (C := "java/util/HashMap$Node") (rc_at B (ci := 24) rfl (k := 5) rfl) as_s dJ4_putVal_59 rfl rfl rfl (vp_in_nI (by omega) (by omega)) (by rw [nI_clamp (by omega)] <;> rfl) ?_
          have hz1 : tfX [] cap ix = [] := by rw [hcs0] at hpm; exact List.Perm.eq_nil hpm
          refine g_pk [0, 0, 0, 1, 1] rfl rfl ?_
          refine (show Go g κ 60 [some (.ref h), some (.int hh), some (.ref k), some (.ref v), some (.int (nI 0)), some (.int (nI 1)), some (.ref tl), some (.null), some (.int (nI cap)), some (.int (nI ix)), none, none, none] [] [[(h, .inr (23, [.null, .null, .ref tl, .null, .int (nI 0), .int (nI md), .int (nI thr), .float lfac]))], [(tl, .inl (g.2.1 6, cap, .inr (.inr (.inr (.inr (va_up tab ix (some a56)))))))], w1, w2, [(a56, .inr (24, [.int hh, .ref k, .ref v, .null]))]] ((12 + 13 * (hgr [] 0 hh - cap)) - 1) ((125 + 51 * (hgr [] 0 hh - cap)) - 4) from ?_)
          obtain ⟨wc_3, ewc_3⟩ : ∃ w : va_W, w = ([[(a56, .inr (24, [.int hh, .ref k, .ref v, .null]))]] : List va_W).flatten := ⟨_, rfl⟩
          have hwc_3 : BinP g (bmx kk) (some a56) (tfX ([] ++ [(hh, k, v)]) cap ix) wc_3 := by
            rw [ewc_3]
            exact by rw [hix, own_X (t := (hh, k, v)), show tfX [] cap (hU hh % cap) = [] by rw [← hix]; exact hz1]; exact bin_1 (by have := bmx_6 kk; omega)
          refine g_close (w := wc_3) [4] rfl ewc_3 rfl ?_
          refine (show Go g κ 60 [some (.ref h), some (.int hh), some (.ref k), some (.ref v), some (.int (nI 0)), some (.int (nI 1)), some (.ref tl), some (.null), some (.int (nI cap)), some (.int (nI ix)), none, none, none] [] [[(h, .inr (23, [.null, .null, .ref tl, .null, .int (nI 0), .int (nI md), .int (nI thr), .float lfac]))], [(tl, .inl (g.2.1 6, cap, .inr (.inr (.inr (.inr (va_up tab ix (some a56)))))))], w1, w2, wc_3] ((12 + 13 * (hgr [] 0 hh - cap)) - 1) ((125 + 51 * (hgr [] 0 hh - cap)) - 4) from ?_)
          refine g_goto (tgt := 259) B dJ4_putVal_60 (by decide) ?_
          obtain ⟨wc_4, ewc_4⟩ : ∃ w : va_W, w = ([w1, wc_3, w2] : List va_W).flatten := ⟨_, rfl⟩
          have hwc_4 : TbP g (bmx kk) cap (va_up tab ix (some a56)) (tfX ([] ++ [(hh, k, v)]) cap) wc_4 := by
            rw [ewc_4]
            exact hcl _ _ _ _ (Nat.le_refl _) (fun b _ hne => ⟨by unfold va_up; rw [if_neg hne], List.Perm.of_eq (oth_X (t := (hh, k, v)) (by show b ≠ hU hh % cap; rw [← hix]; exact hne))⟩) (by rw [show (va_up tab ix (some a56)) ix = (some a56) from if_pos rfl]; exact hwc_3)
          refine g_close (w := wc_4) [2, 3, 2] rfl ewc_4 rfl ?_
          refine (show Go g κ 259 [some (.ref h), some (.int hh), some (.ref k), some (.ref v), some (.int (nI 0)), some (.int (nI 1)), some (.ref tl), some (.null), some (.int (nI cap)), some (.int (nI ix)), none, none, none] [] [[(h, .inr (23, [.null, .null, .ref tl, .null, .int (nI 0), .int (nI md), .int (nI thr), .float lfac]))], [(tl, .inl (g.2.1 6, cap, .inr (.inr (.inr (.inr (va_up tab ix (some a56)))))))], wc_4] ((12 + 13 * (hgr [] 0 hh - cap)) - 1) ((125 + 51 * (hgr [] 0 hh - cap)) - 4) from ?_)
          refine g_fg 1 rfl ?_
          refine g_fg 2 rfl ?_
          refine g_fg 3 rfl ?_
          refine g_fg 4 rfl ?_
          refine g_fg 6 rfl ?_
          refine g_fg 7 rfl ?_
          refine g_fg 8 rfl ?_
          refine g_fg 9 rfl ?_
          refine g_room (kc2 := 13 * (hgr [] 0 hh - cap)) (ks2 := 51 * (hgr [] 0 hh - cap)) (by omega) (by omega) ?_
          exact ct259 tl cap _ (va_up tab ix (some a56)) thr wc_4 hwc_4 (hcap) (hk4) (hk) (hthr) (by unfold c1z; rw [if_neg (fun h => by have z := h.2; rw [← hcz2, ← hix, hz1] at z; simp at z)]; exact hcz2)
        · skip
          rw [hti] at hC
          obtain ⟨ct, hcs⟩ : ∃ ct, cs = f0 :: ct := by
            cases cs with
            | nil => exact absurd hC (by simp [Ch])
            | cons z t => obtain ⟨q, -⟩ := hC; cases q; exact ⟨t, rfl⟩
          have hfm : f0 ∈ ns := (hM _).mp (by rw [hcs]; simp)
          have hCt : Ch nx (nx f0) ct := by rw [hcs] at hC; exact hC.2
          refine g_aload (q := 31) B dJ4_putVal_29 rfl rfl (rv_r _) ?_
          refine g_iload (q := 33) B dJ4_putVal_31 rfl rfl ?_
          refine g_iconst (v := nI 1) (q := 34) B dJ4_putVal_33 rfl (by decide) ?_
          refine g_isub (v := nI (cap - 1)) (q := 35) B dJ4_putVal_34 rfl (pk_sub (by omega)) ?_
          refine g_iload_n (q := 36) B dJ4_putVal_35 rfl rfl ?_
          refine g_iand (v := nI ix) (q := 37) B dJ4_putVal_36 rfl hixa ?_
          refine g_dup (q := 38) B dJ4_putVal_37 rfl rfl ?_
          refine g_istore (q := 40) (lv2 := [some (.ref h), some (.int hh), some (.ref k), some (.ref v), some (.int (nI 0)), some (.int (nI 1)), some (.ref tl), none, some (.int (nI cap)), some (.int (nI ix)), none, none, none]) B dJ4_putVal_38 rfl (Nat.le_of_ble_eq_true rfl) rfl ?_
          refine g_ald (r := some f0) (q := 41) B (k := 1) (t := 6) dJ4_putVal_40 rfl rfl rfl (vp_in_nI (by omega) (by omega)) (by rw [nI_clamp (by omega)]; exact hti) ?_
          refine g_dup (q := 42) B dJ4_putVal_41 rfl rfl ?_
          refine g_astore (q := 44) (lv2 := [some (.ref h), some (.int hh), some (.ref k), some (.ref v), some (.int (nI 0)), some (.int (nI 1)), some (.ref tl), some (.ref f0), some (.int (nI cap)), some (.int (nI ix)), none, none, none]) B dJ4_putVal_42 rfl (Nat.le_of_ble_eq_true rfl) (rv_r _) rfl ?_
          refine g_ifnonnull_r (tgt := 63) B dJ4_putVal_44 (by decide) ?_
          refine g_aload (q := 65) B dJ4_putVal_63 rfl rfl (rv_r _) ?_
          refine g_getM (v := .int (hs f0)) (q := 68) B (ci := 24) (k := 3) (j := 0) in_J38 rfl dJ4_putVal_65 rfl rfl (NodG.mem hwj hfm) (Nat.le_of_ble_eq_true rfl) q1680 rfl rfl ?_
          refine g_iload_n (q := 69) B dJ4_putVal_68 rfl rfl ?_
          refine g_icmp_ne (tgt := 104) (q := 72) B dJ4_putVal_69 rfl (by decide) (iff_true_intro (hno _ (hmt f0 hfm).1)) (fun _ => ?_) (fun z => absurd trivial z)
          refine g_aload (q := 106) B dJ4_putVal_104 rfl rfl (rv_r _) ?_
          refine g_instRNo (q := 109) B (rc_in B (ci := 24) rfl (k := 3) rfl ⟨_, NodG.mem hwj hfm⟩) dJ4_putVal_106 rfl q1408 nc_177 ?_
          refine g_if_eq (tgt := 131) (q := 112) B dJ4_putVal_109 rfl (by decide) (iff_true_intro (by decide)) (fun _ => ?_) (fun z => absurd trivial z)
          refine g_iconst (v := nI 0) (q := 132) B dJ4_putVal_131 rfl (by decide) ?_
          refine g_istore (q := 134) (lv2 := [some (.ref h), some (.int hh), some (.ref k), some (.ref v), some (.int (nI 0)), some (.int (nI 1)), some (.ref tl), some (.ref f0), some (.int (nI cap)), some (.int (nI ix)), none, none, some (.int (nI 0))]) B dJ4_putVal_132 rfl (Nat.le_of_ble_eq_true rfl) rfl ?_
          have lp134 : ∀ (n134 : Nat) (x : Nat) (us : List Nat) (vt : List Nat) (nu : Nat) , (cs = us ++ x :: vt) → (Ch nx (nx x) vt) → (nu = us.length) → vt.length = n134 → Go g κ 134 [some (.ref h), some (.int hh), some (.ref k), some (.ref v), some (.int (nI 0)), some (.int (nI 1)), some (.ref tl), some (.ref x), some (.int (nI cap)), some (.int (nI ix)), none, none, some (.int (nI nu))] [] [[(h, .inr (23, [.null, .null, .ref tl, .null, .int (nI 0), .int (nI md), .int (nI thr), .float lfac]))], [(tl, .inl (g.2.1 6, cap, .inr (.inr (.inr (.inr tab)))))], w1, wj, w2] (12 + 13 * (hgr [] 0 hh - cap)) (125 + 51 * (hgr [] 0 hh - cap)) := by
            intro n134
            induction n134 using Nat.strongRecOn with
            | _ n134 ih134 =>
            intro x us vt nu  hcs2 hV hnu hmu134
            have hxm : x ∈ ns := (hM x).mp (by rw [hcs2]; simp)
            have hul : nu < 100000 := by have z1 := hpm.length_eq; rw [List.length_map, hcs2] at z1; have z2 : (tfX [] cap ix).length ≤ ([] : List Tp).length := List.length_filter_le _ _; rw [List.length_append, List.length_cons] at z1; omega
            refine g_aload (q := 136) B dJ4_putVal_134 rfl rfl (rv_r _) ?_
            refine g_getM (v := va_rf (nx x)) (q := 139) B (ci := 24) (k := 3) (j := 3) in_J38 rfl dJ4_putVal_136 rfl rfl (NodG.mem hwj hxm) (Nat.le_of_ble_eq_true rfl) q1693 rfl rfl ?_
            refine g_dup (q := 140) B dJ4_putVal_139 rfl (rv_c (rv_o _)) ?_
            refine g_astore (q := 142) (lv2 := [some (.ref h), some (.int hh), some (.ref k), some (.ref v), some (.int (nI 0)), some (.int (nI 1)), some (.ref tl), some (.ref x), some (.int (nI cap)), some (.int (nI ix)), some (va_rf (nx x)), none, some (.int (nI nu))]) B dJ4_putVal_140 rfl (Nat.le_of_ble_eq_true rfl) (rv_o _) rfl ?_
            refine g_ifnonnull_o (tgt := 175) (q := 145) B dJ4_putVal_142 rfl (by decide) (fun nxx_a142 c142 => ?_) (fun c142 => ?_)
            · skip
              rw [c142]
              refine (show Go g κ 175 [some (.ref h), some (.int hh), some (.ref k), some (.ref v), some (.int (nI 0)), some (.int (nI 1)), some (.ref tl), some (.ref x), some (.int (nI cap)), some (.int (nI ix)), some (.ref nxx_a142), none, some (.int (nI nu))] [] [[(h, .inr (23, [.null, .null, .ref tl, .null, .int (nI 0), .int (nI md), .int (nI thr), .float lfac]))], [(tl, .inl (g.2.1 6, cap, .inr (.inr (.inr (.inr tab)))))], w1, wj, w2] (12 + 13 * (hgr [] 0 hh - cap)) (125 + 51 * (hgr [] 0 hh - cap)) from ?_)
              have hzm : nxx_a142 ∈ ns := (hM _).mp (by
                have zz := ch_head hV
                rw [c142] at zz
                have := List.mem_of_mem_head? (show nxx_a142 ∈ vt.head? by rw [← zz]; rfl)
                rw [hcs2]; simp [this])
              refine g_aload (q := 177) B dJ4_putVal_175 rfl rfl (rv_r _) ?_
              refine g_getM (v := .int (hs nxx_a142)) (q := 180) B (ci := 24) (k := 3) (j := 0) in_J38 rfl dJ4_putVal_177 rfl rfl (NodG.mem hwj hzm) (Nat.le_of_ble_eq_true rfl) q1680 rfl rfl ?_
              refine g_iload_n (q := 181) B dJ4_putVal_180 rfl rfl ?_
              refine g_icmp_ne (tgt := 212) (q := 184) B dJ4_putVal_181 rfl (by decide) (iff_true_intro (hno _ (hmt _ hzm).1)) (fun _ => ?_) (fun z => absurd trivial z)
              refine g_aload (q := 214) B dJ4_putVal_212 rfl rfl (rv_r _) ?_
              refine g_astore (q := 216) (lv2 := [some (.ref h), some (.int hh), some (.ref k), some (.ref v), some (.int (nI 0)), some (.int (nI 1)), some (.ref tl), some (.ref nxx_a142), some (.int (nI cap)), some (.int (nI ix)), some (.ref nxx_a142), none, some (.int (nI nu))]) B dJ4_putVal_214 rfl (Nat.le_of_ble_eq_true rfl) (rv_r _) rfl ?_
              refine g_iinc (v := nI (nu + 1)) (q := 219) (lv2 := [some (.ref h), some (.int hh), some (.ref k), some (.ref v), some (.int (nI 0)), some (.int (nI 1)), some (.ref tl), some (.ref nxx_a142), some (.int (nI cap)), some (.int (nI ix)), some (.ref nxx_a142), none, some (.int (nI (nu + 1)))]) B dJ4_putVal_216 rfl rfl (nI_add _ 1) (Nat.le_of_ble_eq_true rfl) rfl ?_
              refine g_goto (tgt := 134) B dJ4_putVal_219 (by decide) ?_
              refine g_fg 10 rfl ?_
              obtain ⟨v2, hv2⟩ : ∃ v2, vt = nxx_a142 :: v2 := by
                have zz := hV
                rw [c142] at zz
                cases vt with
                | nil => exact absurd zz (by simp [Ch])
                | cons q t => obtain ⟨e, -⟩ := zz; cases e; exact ⟨t, rfl⟩
              subst hv2
              exact ih134 _ (by rw [← hmu134]; simp) nxx_a142 (us ++ [x]) v2 (nu + 1) (by rw [hcs2]; simp) (by have zz := hV; rw [c142] at zz; exact zz.2) (by rw [hnu]; simp) rfl
            · skip
              rw [c142]
              refine (show Go g κ 145 [some (.ref h), some (.int hh), some (.ref k), some (.ref v), some (.int (nI 0)), some (.int (nI 1)), some (.ref tl), some (.ref x), some (.int (nI cap)), some (.int (nI ix)), some (.null), none, some (.int (nI nu))] [] [[(h, .inr (23, [.null, .null, .ref tl, .null, .int (nI 0), .int (nI md), .int (nI thr), .float lfac]))], [(tl, .inl (g.2.1 6, cap, .inr (.inr (.inr (.inr tab)))))], w1, wj, w2] (12 + 13 * (hgr [] 0 hh - cap)) (125 + 51 * (hgr [] 0 hh - cap)) from ?_)
              refine g_aload (q := 147) B dJ4_putVal_145 rfl rfl (rv_r _) ?_
              refine g_aload_n (q := 148) B dJ4_putVal_147 rfl rfl (rv_r _) ?_
              refine g_iload_n (q := 149) B dJ4_putVal_148 rfl rfl ?_
              refine g_aload_n (q := 150) B dJ4_putVal_149 rfl rfl (rv_r _) ?_
              refine g_aload_n (q := 151) B dJ4_putVal_150 rfl rfl (rv_r _) ?_
              refine g_aconst_null (q := 152) B dJ4_putVal_151 rfl ?_
              refine g_callV (q := 155) (is := []) (kc2 := (12 + 13 * (hgr [] 0 hh - cap)) - 1) (ks2 := (125 + 51 * (hgr [] 0 hh - cap)) - 4) B [.int hh, .ref k, .ref v, .null] (ct_J4_newNode g J (h := h) (hh := hh) (k := k) (v := v) (x := none)  ) dJ4_putVal_152 rfl (rc_at B (ci := 23) rfl (k := 0) rfl) rfl q1722 q1723 q1724 q83 q1725 rfl rfl moJ4_newNode rfl rfl (by decide) (by decide) (Nat.le_of_ble_eq_true rfl) (by omega) (by omega) (fun _ _ hx => noX_x hx) (fun v152 L1 hp152 => ?_)
              obtain ⟨a152, rfl, rfl⟩ := hp152
              refine (show Go g κ 155 [some (.ref h), some (.int hh), some (.ref k), some (.ref v), some (.int (nI 0)), some (.int (nI 1)), some (.ref tl), some (.ref x), some (.int (nI cap)), some (.int (nI ix)), some (.null), none, some (.int (nI nu))] [.ref a152, .ref x] [[(h, .inr (23, [.null, .null, .ref tl, .null, .int (nI 0), .int (nI md), .int (nI thr), .float lfac]))], [(tl, .inl (g.2.1 6, cap, .inr (.inr (.inr (.inr tab)))))], w1, wj, w2, [(a152, .inr (24, [.int hh, .ref k, .ref v, .null]))]] ((12 + 13 * (hgr [] 0 hh - cap)) - 1) ((125 + 51 * (hgr [] 0 hh - cap)) - 4) from ?_)
              refine g_nin (wa := [(a152, .inr (24, [.int hh, .ref k, .ref v, .null]))]) (wb := wj) 5 3 rfl List.mem_cons_self (fun hap => ?_)
              have hnn : a152 ∉ ns := fun hm => hap a152 _ (NodG.mem hwj hm) rfl
              obtain ⟨wc_5, ewc_5⟩ : ∃ w : va_W, w = ([[(a152, .inr (24, [.int hh, .ref k, .ref v, .null]))], wj] : List va_W).flatten := ⟨_, rfl⟩
              have hwc_5 : NodG g (a152 :: ns) (fup hs a152 hh) (fup ky a152 k) (fup vl a152 v) (fup nx a152 none) wc_5 := by
                rw [ewc_5]
                exact NodG.cons (x3 := none) hwj hnn
              refine g_close (w := wc_5) [5, 3] rfl ewc_5 rfl ?_
              refine (show Go g κ 155 [some (.ref h), some (.int hh), some (.ref k), some (.ref v), some (.int (nI 0)), some (.int (nI 1)), some (.ref tl), some (.ref x), some (.int (nI cap)), some (.int (nI ix)), some (.null), none, some (.int (nI nu))] [.ref a152, .ref x] [[(h, .inr (23, [.null, .null, .ref tl, .null, .int (nI 0), .int (nI md), .int (nI thr), .float lfac]))], [(tl, .inl (g.2.1 6, cap, .inr (.inr (.inr (.inr tab)))))], w1, w2, wc_5] ((12 + 13 * (hgr [] 0 hh - cap)) - 1) ((125 + 51 * (hgr [] 0 hh - cap)) - 4) from ?_)
              refine g_putNodG3 (q := 158) (k := 4) (x := some a152) B hwc_5 (List.mem_cons_of_mem _ hxm) dJ4_putVal_155 rfl rfl q1693 (Or.inl rfl) (fun wa_6_155 hwa_6_155 => ?_)
              refine (show Go g κ 158 [some (.ref h), some (.int hh), some (.ref k), some (.ref v), some (.int (nI 0)), some (.int (nI 1)), some (.ref tl), some (.ref x), some (.int (nI cap)), some (.int (nI ix)), some (.null), none, some (.int (nI nu))] [] [[(h, .inr (23, [.null, .null, .ref tl, .null, .int (nI 0), .int (nI md), .int (nI thr), .float lfac]))], [(tl, .inl (g.2.1 6, cap, .inr (.inr (.inr (.inr tab)))))], w1, w2, wa_6_155] ((12 + 13 * (hgr [] 0 hh - cap)) - 1) ((125 + 51 * (hgr [] 0 hh - cap)) - 4) from ?_)
              have hve : vt = [] := by
                have zz := ch_head hV
                rw [c142] at zz
                exact List.head?_eq_none_iff.mp zz.symm
              rw [hve] at hcs2
              have hnc : a152 ∉ cs := fun e => hnn ((hM _).mp e)
              have hgl : cs.getLast? = some x := by rw [hcs2]; simp
              have hCn : Ch (fup (fup nx a152 none) x (some a152)) (some f0) (cs ++ [a152]) := ch_snoc hC hN hnc hgl
              have hNn : (cs ++ [a152]).Nodup := List.nodup_append.mpr ⟨hN, by simp, fun a ha b hb e => by simp at hb; exact hnc (by rw [← hb, ← e]; exact ha)⟩
              have hMn : ∀ b, b ∈ cs ++ [a152] ↔ b ∈ a152 :: ns := fun b => by rw [List.mem_append, List.mem_cons, hM b]; simp [or_comm]
              have hpn : (tfX ([] ++ [(hh, k, v)]) cap ix).Perm ((cs ++ [a152]).map fun a => (fup hs a152 hh a, fup ky a152 k a, fup vl a152 v a)) := by
                rw [hix, own_X (t := (hh, k, v)), ← hix]
                exact pm_cons hnc hN hNn (fun a => by rw [List.mem_append]; simp [or_comm]) hpm
              have hln : (tfX [] cap ix).length = nu + 1 := by rw [hnu]; have z1 := hpm.length_eq; rw [List.length_map, hcs2] at z1; simpa using z1
              have hlb1 : nu + 1 ≤ bmx kk := by rw [hnu]; rw [hcs2] at hlb0; simpa using hlb0
              refine g_iload (q := 160) B dJ4_putVal_158 rfl rfl ?_
              refine g_bipush (v := nI 7) (q := 162) B dJ4_putVal_160 rfl (by decide) ?_
              refine g_icmp_lt (tgt := 222) (q := 165) B dJ4_putVal_162 rfl (by decide) (nI_ltI (by omega) (by omega)) (fun c162 => ?_) (fun c162 => ?_)
              · skip
                obtain ⟨wc_7, ewc_7⟩ : ∃ w : va_W, w = ([wa_6_155] : List va_W).flatten := ⟨_, rfl⟩
                have hwc_7 : BinP g (bmx kk) (some f0) (tfX ([] ++ [(hh, k, v)]) cap ix) wc_7 := by
                  rw [ewc_7]
                  exact Or.inl ⟨_, cs ++ [a152], _, _, _, _, (by simpa using hwa_6_155), hCn, hNn, hMn, hpn, by rw [hcs2]; simp; have := bmx_8 kk; omega⟩
                refine g_close (w := wc_7) [4] rfl ewc_7 rfl ?_
                refine (show Go g κ 222 [some (.ref h), some (.int hh), some (.ref k), some (.ref v), some (.int (nI 0)), some (.int (nI 1)), some (.ref tl), some (.ref x), some (.int (nI cap)), some (.int (nI ix)), some (.null), none, some (.int (nI nu))] [] [[(h, .inr (23, [.null, .null, .ref tl, .null, .int (nI 0), .int (nI md), .int (nI thr), .float lfac]))], [(tl, .inl (g.2.1 6, cap, .inr (.inr (.inr (.inr tab)))))], w1, w2, wc_7] ((12 + 13 * (hgr [] 0 hh - cap)) - 1) ((125 + 51 * (hgr [] 0 hh - cap)) - 4) from ?_)
                refine g_aload (q := 224) B dJ4_putVal_222 rfl rfl rv_n ?_
                refine g_ifnull_n (tgt := 259) B dJ4_putVal_224 (by decide) ?_
                obtain ⟨wc_8, ewc_8⟩ : ∃ w : va_W, w = ([w1, wc_7, w2] : List va_W).flatten := ⟨_, rfl⟩
                have hwc_8 : TbP g (bmx kk) cap tab (tfX ([] ++ [(hh, k, v)]) cap) wc_8 := by
                  rw [ewc_8]
                  exact hcl _ _ _ _ (Nat.le_refl _) (fun b _ hne => ⟨rfl, List.Perm.of_eq (oth_X (t := (hh, k, v)) (by show b ≠ hU hh % cap; rw [← hix]; exact hne))⟩) (by rw [hti]; exact hwc_7)
                refine g_close (w := wc_8) [2, 3, 2] rfl ewc_8 rfl ?_
                refine (show Go g κ 259 [some (.ref h), some (.int hh), some (.ref k), some (.ref v), some (.int (nI 0)), some (.int (nI 1)), some (.ref tl), some (.ref x), some (.int (nI cap)), some (.int (nI ix)), some (.null), none, some (.int (nI nu))] [] [[(h, .inr (23, [.null, .null, .ref tl, .null, .int (nI 0), .int (nI md), .int (nI thr), .float lfac]))], [(tl, .inl (g.2.1 6, cap, .inr (.inr (.inr (.inr tab)))))], wc_8] ((12 + 13 * (hgr [] 0 hh - cap)) - 1) ((125 + 51 * (hgr [] 0 hh - cap)) - 4) from ?_)
                refine g_fg 1 rfl ?_
                refine g_fg 2 rfl ?_
                refine g_fg 3 rfl ?_
                refine g_fg 4 rfl ?_
                refine g_fg 6 rfl ?_
                refine g_fg 7 rfl ?_
                refine g_fg 8 rfl ?_
                refine g_fg 9 rfl ?_
                refine g_fg 10 rfl ?_
                refine g_fg 12 rfl ?_
                refine g_room (kc2 := 13 * (hgr [] 0 hh - cap)) (ks2 := 51 * (hgr [] 0 hh - cap)) (by omega) (by omega) ?_
                exact ct259 tl cap _ tab thr wc_8 hwc_8 (hcap) (hk4) (hk) (hthr) (by unfold c1z; rw [if_neg (fun h => by have z := h.2; rw [← hcz2, ← hix, hln] at z; omega)]; exact hcz2)
              · skip
                have hk6 := cap_k6 hcap hk4
                rcases Nat.lt_or_ge cap 64 with h64 | h64
                · skip
                  obtain ⟨wc_9, ewc_9⟩ : ∃ w : va_W, w = ([w1, wa_6_155, w2] : List va_W).flatten := ⟨_, rfl⟩
                  have hwc_9 : TbP g (bmx (kk + 1)) cap tab (tfX ([] ++ [(hh, k, v)]) cap) wc_9 := by
                    rw [ewc_9]
                    exact hcl _ _ _ _ (bmx_s hk4) (fun b _ hne => ⟨rfl, List.Perm.of_eq (oth_X (t := (hh, k, v)) (by show b ≠ hU hh % cap; rw [← hix]; exact hne))⟩) (by rw [hti]; exact Or.inl ⟨_, cs ++ [a152], _, _, _, _, hwa_6_155, hCn, hNn, hMn, hpn, by rw [hcs2]; simp; have := (hk6.1 h64).1; omega⟩)
                  refine g_close (w := wc_9) [2, 3, 2] rfl ewc_9 rfl ?_
                  refine (show Go g κ 165 [some (.ref h), some (.int hh), some (.ref k), some (.ref v), some (.int (nI 0)), some (.int (nI 1)), some (.ref tl), some (.ref x), some (.int (nI cap)), some (.int (nI ix)), some (.null), none, some (.int (nI nu))] [] [[(h, .inr (23, [.null, .null, .ref tl, .null, .int (nI 0), .int (nI md), .int (nI thr), .float lfac]))], [(tl, .inl (g.2.1 6, cap, .inr (.inr (.inr (.inr tab)))))], wc_9] ((12 + 13 * (hgr [] 0 hh - cap)) - 1) ((125 + 51 * (hgr [] 0 hh - cap)) - 4) from ?_)
                  have hz2 : c1z [] (c0z 0) hh = 2 * cap := by unfold c1z; rw [if_pos ⟨by rw [← hcz2]; omega, by rw [← hcz2, ← hix, hln]; omega⟩, ← hcz2]
                  have hg4 : 2 * cap ≤ hgr [] 0 hh := by have z := hg.2.1; rw [hz2] at z; exact z
                  refine g_aload_n (q := 166) B dJ4_putVal_165 rfl rfl (rv_r _) ?_
                  refine g_aload (q := 168) B dJ4_putVal_166 rfl rfl (rv_r _) ?_
                  refine g_iload_n (q := 169) B dJ4_putVal_168 rfl rfl ?_
                  refine g_callV (q := 172) (is := [0, 0, 0]) (kc2 := 13 * (hgr [] 0 hh - 2 * cap)) (ks2 := 51 * (hgr [] 0 hh - 2 * cap)) B [.ref tl, .int hh] (ct_J4_treeifyBin_r g J (h := h) (tl := tl) (n := 0) (md := md) (thr := thr) (lfac := lfac) (cap := cap) (kk := kk) (tab := tab) (tf := (tfX ([] ++ [(hh, k, v)]) cap)) (bm := bmx (kk + 1)) (hh := hh) hwc_9 (bmx_6 _) (hcap) (hk4) (by omega) (hthr) (fun b _ t ht => (tfX_mem.mp ht).2) (fun b _ => tfX_nd hynd) (fun b _ => by have z : (tfX ([] ++ [(hh, k, v)]) cap b).length ≤ ([] ++ [(hh, k, v)]).length := List.length_filter_le _ _; omega) (h64)) dJ4_putVal_169 rfl (rc_at B (ci := 23) rfl (k := 0) rfl) rfl q1767 q1768 q1769 q83 q1770 rfl rfl moJ4_treeifyBin rfl rfl (by decide) (by decide) (Nat.le_of_ble_eq_true rfl) (by omega) (by omega) (fun _ _ hx => noX_x hx) (fun v169 L1 hp169 => ?_)
                  obtain ⟨nt169, ntab169, u2_169, rfl, rfl, hu2_169⟩ := hp169
                  refine (show Go g κ 172 [some (.ref h), some (.int hh), some (.ref k), some (.ref v), some (.int (nI 0)), some (.int (nI 1)), some (.ref tl), some (.ref x), some (.int (nI cap)), some (.int (nI ix)), some (.null), none, some (.int (nI nu))] [] [[(h, .inr (23, [.null, .null, .ref nt169, .null, .int (nI 0), .int (nI md), .int (nI (2 * thr)), .float lfac]))], [(nt169, .inl (g.2.1 6, 2 * cap, .inr (.inr (.inr (.inr ntab169)))))], u2_169] (13 * (hgr [] 0 hh - 2 * cap)) (51 * (hgr [] 0 hh - 2 * cap)) from ?_)
                  have hq4_10 : TbP g (bmx (kk + 1)) (2 * cap) ntab169 (tfX ([] ++ [(hh, k, v)]) (2 * cap)) u2_169 := tb_mono hu2_169 (Nat.le_refl _) (fun b hb => (tfX_2 hcap (by omega) hb).symm)
                  refine g_goto (tgt := 222) B dJ4_putVal_172 (by decide) ?_
                  refine g_aload (q := 224) B dJ4_putVal_222 rfl rfl rv_n ?_
                  refine g_ifnull_n (tgt := 259) B dJ4_putVal_224 (by decide) ?_
                  refine g_fg 1 rfl ?_
                  refine g_fg 2 rfl ?_
                  refine g_fg 3 rfl ?_
                  refine g_fg 4 rfl ?_
                  refine g_fg 6 rfl ?_
                  refine g_fg 7 rfl ?_
                  refine g_fg 8 rfl ?_
                  refine g_fg 9 rfl ?_
                  refine g_fg 10 rfl ?_
                  refine g_fg 12 rfl ?_
                  refine g_room (kc2 := 13 * (hgr [] 0 hh - (2 * cap))) (ks2 := 51 * (hgr [] 0 hh - (2 * cap))) (by omega) (by omega) ?_
                  exact ct259 nt169 (2 * cap) _ ntab169 (2 * thr) u2_169 hq4_10 (by rw [Nat.pow_succ, hcap]; omega) (by omega) (by omega) (by omega) (by unfold c1z; rw [if_pos ⟨by rw [← hcz2]; omega, by rw [← hcz2, ← hix, hln]; omega⟩, ← hcz2])
                · skip
                  have hb10 := (hk6.2 h64).2
                  have hl11 : (cs ++ [a152]).length ≤ 11 := by have z := bmx_10 kk; rw [hcs2]; simp; omega
                  refine g_aload_n (q := 166) B dJ4_putVal_165 rfl rfl (rv_r _) ?_
                  refine g_aload (q := 168) B dJ4_putVal_166 rfl rfl (rv_r _) ?_
                  refine g_iload_n (q := 169) B dJ4_putVal_168 rfl rfl ?_
                  refine g_callV (q := 172) (is := [0, 0, 2]) (kc2 := 13 * (hgr [] 0 hh - cap)) (ks2 := 51 * (hgr [] 0 hh - cap)) B [.ref tl, .int hh] (ct_J4_treeifyBin_t g J (h := h) (otl := some tl) (n := 0) (md := md) (thr := thr) (lfac := lfac) (tl := tl) (cap := cap) (tab := tab) (ix := ix) (cs := (cs ++ [a152])) (ns := (a152 :: ns)) (hs := (fup hs a152 hh)) (ky := (fup ky a152 k)) (vl := (fup vl a152 v)) (nx := (fup (fup nx a152 none) x (some a152))) (kk := kk) (hh := hh) (a := f0) (bm := bmx kk) hwa_6_155 (hb10) (hcap) ((hk6.2 h64).1) (by omega) (hixa) (hixl) (hti) (by rw [hti]; exact hCn) (hNn) (hMn) (fun b hb c hc e => by
                      have z : (((cs ++ [a152]).map fun a => (fup hs a152 hh a, fup ky a152 k a, fup vl a152 v a)).map (·.1)).Nodup := ((hpn.map (·.1)).nodup_iff).mp (tfX_nd hynd)
                      rw [List.map_map] at z
                      exact nd_inj z ((hMn b).mpr hb) ((hMn c).mpr hc) e) (fun b hb => by
                      have z := (tfX_mem.mp (hpn.mem_iff.mpr (List.mem_map.mpr ⟨b, (hMn b).mpr hb, rfl⟩))).2
                      rw [hcap, ix_hu (by omega), ← hcap]
                      exact congrArg nI z)) dJ4_putVal_169 rfl (rc_at B (ci := 23) rfl (k := 0) rfl) rfl q1767 q1768 q1769 q83 q1770 rfl rfl moJ4_treeifyBin rfl rfl (by decide) (by decide) (Nat.le_of_ble_eq_true rfl) (by omega) (by omega) (fun _ _ hx => noX_x hx) (fun v169 L1 hp169 => ?_)
                  obtain ⟨o2169, u2_169, rfl, rfl, hu2_169⟩ := hp169
                  refine (show Go g κ 172 [some (.ref h), some (.int hh), some (.ref k), some (.ref v), some (.int (nI 0)), some (.int (nI 1)), some (.ref tl), some (.ref x), some (.int (nI cap)), some (.int (nI ix)), some (.null), none, some (.int (nI nu))] [] [w1, w2, [(h, .inr (23, [.null, .null, .ref tl, .null, .int (nI 0), .int (nI md), .int (nI thr), .float lfac]))], [(tl, .inl (g.2.1 6, cap, .inr (.inr (.inr (.inr (va_up tab ix o2169))))))], u2_169] (13 * (hgr [] 0 hh - cap)) (51 * (hgr [] 0 hh - cap)) from ?_)
                  have hq5_11 : BinP g (bmx kk) o2169 (tfX ([] ++ [(hh, k, v)]) cap ix) u2_169 := BinP.perm hu2_169 hpn
                  refine g_goto (tgt := 222) B dJ4_putVal_172 (by decide) ?_
                  refine g_aload (q := 224) B dJ4_putVal_222 rfl rfl rv_n ?_
                  refine g_ifnull_n (tgt := 259) B dJ4_putVal_224 (by decide) ?_
                  obtain ⟨wc_12, ewc_12⟩ : ∃ w : va_W, w = ([w1, u2_169, w2] : List va_W).flatten := ⟨_, rfl⟩
                  have hwc_12 : TbP g (bmx kk) cap (va_up tab ix o2169) (tfX ([] ++ [(hh, k, v)]) cap) wc_12 := by
                    rw [ewc_12]
                    exact hcl _ _ _ _ (Nat.le_refl _) (fun b _ hne => ⟨by unfold va_up; rw [if_neg hne], List.Perm.of_eq (oth_X (t := (hh, k, v)) (by show b ≠ hU hh % cap; rw [← hix]; exact hne))⟩) (by rw [show (va_up tab ix o2169) ix = o2169 from if_pos rfl]; exact hq5_11)
                  refine g_close (w := wc_12) [0, 3, 0] rfl ewc_12 rfl ?_
                  refine (show Go g κ 259 [some (.ref h), some (.int hh), some (.ref k), some (.ref v), some (.int (nI 0)), some (.int (nI 1)), some (.ref tl), some (.ref x), some (.int (nI cap)), some (.int (nI ix)), some (.null), none, some (.int (nI nu))] [] [[(h, .inr (23, [.null, .null, .ref tl, .null, .int (nI 0), .int (nI md), .int (nI thr), .float lfac]))], [(tl, .inl (g.2.1 6, cap, .inr (.inr (.inr (.inr (va_up tab ix o2169))))))], wc_12] (13 * (hgr [] 0 hh - cap)) (51 * (hgr [] 0 hh - cap)) from ?_)
                  refine g_fg 1 rfl ?_
                  refine g_fg 2 rfl ?_
                  refine g_fg 3 rfl ?_
                  refine g_fg 4 rfl ?_
                  refine g_fg 6 rfl ?_
                  refine g_fg 7 rfl ?_
                  refine g_fg 8 rfl ?_
                  refine g_fg 9 rfl ?_
                  refine g_fg 10 rfl ?_
                  refine g_fg 12 rfl ?_
                  exact ct259 tl cap _ (va_up tab ix o2169) thr wc_12 hwc_12 (hcap) (hk4) (hk) (hthr) (by unfold c1z; rw [if_neg (fun h => by have z := h.1; rw [← hcz2] at z; omega)]; exact hcz2)
          exact lp134 _ f0 ([] : List Nat) ct 0 (by rw [hcs]; rfl) (hCt) (rfl) rfl
      · skip
        have hmt : ∀ a ∈ ns, (hs a, ky a, vl a) ∈ ([] : List Tp) ∧ hU (hs a) % cap = ix := fun a ha => tfX_mem.mp (hpm.mem_iff.mpr (List.mem_map.mpr ⟨a, (hM a).mpr ha, rfl⟩))
        refine (show Go g κ 29 [some (.ref h), some (.int hh), some (.ref k), some (.ref v), some (.int (nI 0)), some (.int (nI 1)), some (.ref tl), none, some (.int (nI cap)), none, none, none, none] [] [[(h, .inr (23, [.null, .null, .ref tl, .null, .int (nI 0), .int (nI md), .int (nI thr), .float lfac]))], [(tl, .inl (g.2.1 6, cap, .inr (.inr (.inr (.inr tab)))))], w1, wj, w2] (12 + 13 * (hgr [] 0 hh - cap)) (125 + 51 * (hgr [] 0 hh - cap)) from ?_)
        rcases hti : tab ix with _ | f0
        · skip
          have hcs0 : cs = [] := List.head?_eq_none_iff.mp (by rw [← ch_head hC, hti])
          refine g_aload (q := 31) B dJ4_putVal_29 rfl rfl (rv_r _) ?_
          refine g_iload (q := 33) B dJ4_putVal_31 rfl rfl ?_
          refine g_iconst (v := nI 1) (q := 34) B dJ4_putVal_33 rfl (by decide) ?_
          refine g_isub (v := nI (cap - 1)) (q := 35) B dJ4_putVal_34 rfl (pk_sub (by omega)) ?_
          refine g_iload_n (q := 36) B dJ4_putVal_35 rfl rfl ?_
          refine g_iand (v := nI ix) (q := 37) B dJ4_putVal_36 rfl hixa ?_
          refine g_dup (q := 38) B dJ4_putVal_37 rfl rfl ?_
          refine g_istore (q := 40) (lv2 := [some (.ref h), some (.int hh), some (.ref k), some (.ref v), some (.int (nI 0)), some (.int (nI 1)), some (.ref tl), none, some (.int (nI cap)), some (.int (nI ix)), none, none, none]) B dJ4_putVal_38 rfl (Nat.le_of_ble_eq_true rfl) rfl ?_
          refine g_ald (r := none) (q := 41) B (k := 1) (t := 6) dJ4_putVal_40 rfl rfl rfl (vp_in_nI (by omega) (by omega)) (by rw [nI_clamp (by omega)]; exact hti) ?_
          refine g_dup (q := 42) B dJ4_putVal_41 rfl rfl ?_
          refine g_astore (q := 44) (lv2 := [some (.ref h), some (.int hh), some (.ref k), some (.ref v), some (.int (nI 0)), some (.int (nI 1)), some (.ref tl), some (.null), some (.int (nI cap)), some (.int (nI ix)), none, none, none]) B dJ4_putVal_42 rfl (Nat.le_of_ble_eq_true rfl) rv_n rfl ?_
          exact absurd ((hM root).mpr (tr_tm hT rfl)) (by rw [hcs0]; simp)
        · skip
          rw [hti] at hC
          obtain ⟨ct, hcs⟩ : ∃ ct, cs = f0 :: ct := by
            cases cs with
            | nil => exact absurd hC (by simp [Ch])
            | cons z t => obtain ⟨q, -⟩ := hC; cases q; exact ⟨t, rfl⟩
          have hfm : f0 ∈ ns := (hM _).mp (by rw [hcs]; simp)
          have hCt : Ch nx (nx f0) ct := by rw [hcs] at hC; exact hC.2
          refine g_aload (q := 31) B dJ4_putVal_29 rfl rfl (rv_r _) ?_
          refine g_iload (q := 33) B dJ4_putVal_31 rfl rfl ?_
          refine g_iconst (v := nI 1) (q := 34) B dJ4_putVal_33 rfl (by decide) ?_
          refine g_isub (v := nI (cap - 1)) (q := 35) B dJ4_putVal_34 rfl (pk_sub (by omega)) ?_
          refine g_iload_n (q := 36) B dJ4_putVal_35 rfl rfl ?_
          refine g_iand (v := nI ix) (q := 37) B dJ4_putVal_36 rfl hixa ?_
          refine g_dup (q := 38) B dJ4_putVal_37 rfl rfl ?_
          refine g_istore (q := 40) (lv2 := [some (.ref h), some (.int hh), some (.ref k), some (.ref v), some (.int (nI 0)), some (.int (nI 1)), some (.ref tl), none, some (.int (nI cap)), some (.int (nI ix)), none, none, none]) B dJ4_putVal_38 rfl (Nat.le_of_ble_eq_true rfl) rfl ?_
          refine g_ald (r := some f0) (q := 41) B (k := 1) (t := 6) dJ4_putVal_40 rfl rfl rfl (vp_in_nI (by omega) (by omega)) (by rw [nI_clamp (by omega)]; exact hti) ?_
          refine g_dup (q := 42) B dJ4_putVal_41 rfl rfl ?_
          refine g_astore (q := 44) (lv2 := [some (.ref h), some (.int hh), some (.ref k), some (.ref v), some (.int (nI 0)), some (.int (nI 1)), some (.ref tl), some (.ref f0), some (.int (nI cap)), some (.int (nI ix)), none, none, none]) B dJ4_putVal_42 rfl (Nat.le_of_ble_eq_true rfl) (rv_r _) rfl ?_
          refine g_ifnonnull_r (tgt := 63) B dJ4_putVal_44 (by decide) ?_
          refine g_aload (q := 65) B dJ4_putVal_63 rfl rfl (rv_r _) ?_
          refine g_getM (v := .int (hs f0)) (q := 68) B (ci := 25) (k := 3) (j := 2) in_J40 rfl dJ4_putVal_65 rfl rfl (TNG.mem hwj hfm) (Nat.le_of_ble_eq_true rfl) q1680 rfl rfl ?_
          refine g_iload_n (q := 69) B dJ4_putVal_68 rfl rfl ?_
          refine g_icmp_ne (tgt := 104) (q := 72) B dJ4_putVal_69 rfl (by decide) (iff_true_intro (hno _ (hmt f0 hfm).1)) (fun _ => ?_) (fun z => absurd trivial z)
          refine g_aload (q := 106) B dJ4_putVal_104 rfl rfl (rv_r _) ?_
          refine g_instRS (ci := 25) (q := 109) B rfl (rc_in B (ci := 25) rfl (k := 3) rfl ⟨_, TNG.mem hwj hfm⟩) dJ4_putVal_106 rfl q1408 ?_
          refine g_if_eq (tgt := 131) (q := 112) B dJ4_putVal_109 rfl (by decide) (iff_false_intro (by decide)) (fun z => z.elim) (fun _ => ?_)
          refine g_aload (q := 114) B dJ4_putVal_112 rfl rfl (rv_r _) ?_
          refine g_castRS (ci := 25) (q := 117) B rfl (rc_in B (ci := 25) rfl (k := 3) rfl ⟨_, TNG.mem hwj hfm⟩) dJ4_putVal_114 rfl q1408 ?_
          refine g_aload_n (q := 118) B dJ4_putVal_117 rfl rfl (rv_r _) ?_
          refine g_aload (q := 120) B dJ4_putVal_118 rfl rfl (rv_r _) ?_
          refine g_iload_n (q := 121) B dJ4_putVal_120 rfl rfl ?_
          refine g_aload_n (q := 122) B dJ4_putVal_121 rfl rfl (rv_r _) ?_
          refine g_aload_n (q := 123) B dJ4_putVal_122 rfl rfl (rv_r _) ?_
          refine g_callV (q := 126) (is := [0, 0, 1]) (kc2 := 13 * (hgr [] 0 hh - cap)) (ks2 := 51 * (hgr [] 0 hh - cap)) B [.ref h, .ref tl, .int hh, .ref k, .ref v] (ct_J40_putTreeVal g J (h := h) (otl := some tl) (n := 0) (md := md) (thr := thr) (lfac := lfac) (tl := tl) (cap := cap) (tab := tab) (ix := ix) (cs := cs) (ns := ns) (hs := hs) (ky := ky) (vl := vl) (nx := nx) (pp := pp) (lf := lf) (rg := rg) (pv := pv) (rd := rd) (lo := lo) (hi := hi) (root := root) (a := f0) (hh := hh) (k := k) (v := v) hwj (hT) (hfm) (fun b hb => hno _ (hmt b hb).1) (by omega) (by omega) (fun b hb => by rw [hcap]; rw [ix_hu (by omega), ← hcap, (hmt b hb).2]) (hixa) (hixl) (by rw [hti]; exact hC) (hP) (hN) (hM)) dJ4_putVal_123 rfl (rc_in B (ci := 25) rfl (k := 3) rfl ⟨_, TNG.mem hwj hfm⟩) rfl q1726 q1727 q1728 q131 q1729 rfl rfl moJ40_putTreeVal rfl rfl (by decide) (by decide) (Nat.le_of_ble_eq_true rfl) (by omega) (by omega) (fun _ _ hx => noX_x hx) (fun v123 L1 hp123 => ?_)
          obtain ⟨m123, nx2123, pv2123, lf2123, rg2123, pp2123, rd2123, lo2123, hi2123, root2123, cs2123, u2_123, rfl, rfl, hu2_123, hm_123, hT2_123, hC2_123⟩ := hp123
          refine (show Go g κ 126 [some (.ref h), some (.int hh), some (.ref k), some (.ref v), some (.int (nI 0)), some (.int (nI 1)), some (.ref tl), some (.ref f0), some (.int (nI cap)), some (.int (nI ix)), none, none, none] [.null] [w1, w2, [(h, .inr (23, [.null, .null, .ref tl, .null, .int (nI 0), .int (nI md), .int (nI thr), .float lfac]))], [(tl, .inl (g.2.1 6, cap, .inr (.inr (.inr (.inr (va_up tab ix (some root2123)))))))], u2_123] (13 * (hgr [] 0 hh - cap)) (51 * (hgr [] 0 hh - cap)) from ?_)
          obtain ⟨wc_13, ewc_13⟩ : ∃ w : va_W, w = ([u2_123] : List va_W).flatten := ⟨_, rfl⟩
          have hwc_13 : BinP g (bmx kk) (some root2123) (tfX ([] ++ [(hh, k, v)]) cap ix) wc_13 := by
            rw [ewc_13]
            exact Or.inr ⟨m123 :: ns, cs2123, _, _, _, nx2123, pp2123, lf2123, rg2123, pv2123, rd2123, lo2123, hi2123, root2123, (by simpa using hu2_123), hC2_123.1, hC2_123.2.2.1, hC2_123.2.2.2, (by rw [hix, own_X (t := (hh, k, v)), ← hix]; exact pm_cons (fun e => hm_123 ((hM _).mp e)) hN hC2_123.2.2.1 (fun a => by rw [hC2_123.2.2.2 a, List.mem_cons, hM a]) hpm), hC2_123.2.1, hT2_123, hb10⟩
          refine g_close (w := wc_13) [4] rfl ewc_13 rfl ?_
          refine (show Go g κ 126 [some (.ref h), some (.int hh), some (.ref k), some (.ref v), some (.int (nI 0)), some (.int (nI 1)), some (.ref tl), some (.ref f0), some (.int (nI cap)), some (.int (nI ix)), none, none, none] [.null] [w1, w2, [(h, .inr (23, [.null, .null, .ref tl, .null, .int (nI 0), .int (nI md), .int (nI thr), .float lfac]))], [(tl, .inl (g.2.1 6, cap, .inr (.inr (.inr (.inr (va_up tab ix (some root2123)))))))], wc_13] (13 * (hgr [] 0 hh - cap)) (51 * (hgr [] 0 hh - cap)) from ?_)
          refine g_astore (q := 128) (lv2 := [some (.ref h), some (.int hh), some (.ref k), some (.ref v), some (.int (nI 0)), some (.int (nI 1)), some (.ref tl), some (.ref f0), some (.int (nI cap)), some (.int (nI ix)), some (.null), none, none]) B dJ4_putVal_126 rfl (Nat.le_of_ble_eq_true rfl) rv_n rfl ?_
          refine g_goto (tgt := 222) B dJ4_putVal_128 (by decide) ?_
          refine g_aload (q := 224) B dJ4_putVal_222 rfl rfl rv_n ?_
          refine g_ifnull_n (tgt := 259) B dJ4_putVal_224 (by decide) ?_
          obtain ⟨wc_14, ewc_14⟩ : ∃ w : va_W, w = ([w1, wc_13, w2] : List va_W).flatten := ⟨_, rfl⟩
          have hwc_14 : TbP g (bmx kk) cap (va_up tab ix (some root2123)) (tfX ([] ++ [(hh, k, v)]) cap) wc_14 := by
            rw [ewc_14]
            exact hcl _ _ _ _ (Nat.le_refl _) (fun b _ hne => ⟨by unfold va_up; rw [if_neg hne], List.Perm.of_eq (oth_X (t := (hh, k, v)) (by show b ≠ hU hh % cap; rw [← hix]; exact hne))⟩) (by rw [show (va_up tab ix (some root2123)) ix = (some root2123) from if_pos rfl]; exact hwc_13)
          refine g_close (w := wc_14) [0, 3, 0] rfl ewc_14 rfl ?_
          refine (show Go g κ 259 [some (.ref h), some (.int hh), some (.ref k), some (.ref v), some (.int (nI 0)), some (.int (nI 1)), some (.ref tl), some (.ref f0), some (.int (nI cap)), some (.int (nI ix)), some (.null), none, none] [] [[(h, .inr (23, [.null, .null, .ref tl, .null, .int (nI 0), .int (nI md), .int (nI thr), .float lfac]))], [(tl, .inl (g.2.1 6, cap, .inr (.inr (.inr (.inr (va_up tab ix (some root2123)))))))], wc_14] (13 * (hgr [] 0 hh - cap)) (51 * (hgr [] 0 hh - cap)) from ?_)
          refine g_fg 1 rfl ?_
          refine g_fg 2 rfl ?_
          refine g_fg 3 rfl ?_
          refine g_fg 4 rfl ?_
          refine g_fg 6 rfl ?_
          refine g_fg 7 rfl ?_
          refine g_fg 8 rfl ?_
          refine g_fg 9 rfl ?_
          refine g_fg 10 rfl ?_
          exact ct259 tl cap _ (va_up tab ix (some root2123)) thr wc_14 hwc_14 (hcap) (hk4) (hk) (hthr) (by unfold c1z; rw [if_neg (fun h => by have z := h.1; rw [← hcz2] at z; have := bm_cap hcap hb10; omega)]; exact hcz2)
    refine g_aload_n (q := 1) B dJ4_putVal_0 rfl rfl (rv_r _) ?_
    refine g_get (q := 4) B (ci := 23) (k := 0) (j := 2) in_J4 rfl dJ4_putVal_1 rfl rfl (Nat.le_of_ble_eq_true rfl) q205 rfl rfl ?_
    refine g_dup (q := 5) B dJ4_putVal_4 rfl rfl ?_
    refine g_astore (q := 7) (lv2 := [some (.ref h), some (.int hh), some (.ref k), some (.ref v), some (.int (nI 0)), some (.int (nI 1)), some (.null), none, none, none, none, none, none]) B dJ4_putVal_5 rfl (Nat.le_of_ble_eq_true rfl) rv_n rfl ?_
    refine g_ifnull_n (tgt := 19) B dJ4_putVal_7 (by decide) ?_
    refine g_aload_n (q := 20) B dJ4_putVal_19 rfl rfl (rv_r _) ?_
    refine g_callV (q := 23) (is := [0]) (kc2 := 12 + 13 * (hgr [] 0 hh - 16)) (ks2 := 125 + 51 * (hgr [] 0 hh - 16)) B [] (ct_J4_resize_0 g J (h := h) (n := 0) (md := md) (lfac := lfac)  ) dJ4_putVal_20 rfl (rc_at B (ci := 23) rfl (k := 0) rfl) rfl q1649 q1650 q1651 q83 q1652 rfl rfl moJ4_resize rfl rfl (by decide) (by decide) (Nat.le_of_ble_eq_true rfl) (by omega) (by omega) (fun _ _ hx => noX_x hx) (fun v20 L1 hp20 => ?_)
    obtain ⟨nt20, rfl, rfl⟩ := hp20
    refine (show Go g κ 23 [some (.ref h), some (.int hh), some (.ref k), some (.ref v), some (.int (nI 0)), some (.int (nI 1)), some (.null), none, none, none, none, none, none] [.ref nt20] [[(h, .inr (23, [.null, .null, .ref nt20, .null, .int (nI 0), .int (nI md), .int (nI 12), .float lfac]))], [(nt20, .inl (g.2.1 6, 16, .inr (.inr (.inr (.inr (fun _ => none))))))]] (12 + 13 * (hgr [] 0 hh - 16)) (125 + 51 * (hgr [] 0 hh - 16)) from ?_)
    refine g_dup (q := 24) B dJ4_putVal_23 rfl rfl ?_
    refine g_astore (q := 26) (lv2 := [some (.ref h), some (.int hh), some (.ref k), some (.ref v), some (.int (nI 0)), some (.int (nI 1)), some (.ref nt20), none, none, none, none, none, none]) B dJ4_putVal_24 rfl (Nat.le_of_ble_eq_true rfl) (rv_r _) rfl ?_
    refine g_alen (v := nI 16) (q := 27) B (k := 1) (t := 6) dJ4_putVal_26 rfl rfl rfl rfl ?_
    refine g_istore (q := 29) (lv2 := [some (.ref h), some (.int hh), some (.ref k), some (.ref v), some (.int (nI 0)), some (.int (nI 1)), some (.ref nt20), none, some (.int (nI 16)), none, none, none, none]) B dJ4_putVal_27 rfl (Nat.le_of_ble_eq_true rfl) rfl ?_
    obtain ⟨wtn, ewtn⟩ : ∃ w : va_W, w = ([] : List va_W).flatten := ⟨_, rfl⟩
    have hwtn : TbP g (bmx 4) 16 (fun _ => none) (tfX [] 16) wtn := by
      rw [ewtn]
      exact tb_nil
    refine g_close (w := wtn) [] rfl ewtn rfl ?_
    refine (show Go g κ 29 [some (.ref h), some (.int hh), some (.ref k), some (.ref v), some (.int (nI 0)), some (.int (nI 1)), some (.ref nt20), none, some (.int (nI 16)), none, none, none, none] [] [[(h, .inr (23, [.null, .null, .ref nt20, .null, .int (nI 0), .int (nI md), .int (nI 12), .float lfac]))], [(nt20, .inl (g.2.1 6, 16, .inr (.inr (.inr (.inr (fun _ => none))))))], wtn] (12 + 13 * (hgr [] 0 hh - 16)) (125 + 51 * (hgr [] 0 hh - 16)) from ?_)
    refine g_room (kc2 := 12 + 13 * (hgr [] 0 hh - 16)) (ks2 := 125 + 51 * (hgr [] 0 hh - 16)) (by omega) (by omega) ?_
    exact ct29 nt20 16 _ (fun _ => none) 12 wtn hwtn ((rfl : 16 = 2 ^ 4)) (by omega) (by omega) (by omega) (rfl)
  · skip
    refine g_open 0 rfl rfl rfl ?_
    have hcz : 16 ≤ cap0 ∧ cap0 ≤ 262144 := by
      rw [hcap]
      exact ⟨Nat.le_trans (Nat.le_of_ble_eq_true rfl) (Nat.pow_le_pow_right (n := 2) (by decide) hk4), Nat.le_trans (Nat.pow_le_pow_right (by decide) hk) (Nat.le_of_ble_eq_true rfl)⟩
    have hz0 : c0z cap0 = cap0 := by unfold c0z; rw [if_neg (by omega)]
    refine (show Go g κ 0 [some (.ref h), some (.int hh), some (.ref k), some (.ref v), some (.int (nI 0)), some (.int (nI 1)), none, none, none, none, none, none, none] [] [[(h, .inr (23, [.null, .null, .ref tl, .null, .int (nI xs.length), .int (nI md), .int (nI thr), .float lfac]))], [(tl, .inl (g.2.1 6, cap0, .inr (.inr (.inr (.inr tab)))))], wb] (12 + 13 * (hgr xs cap0 hh - cap0)) (125 + 51 * (hgr xs cap0 hh - cap0)) from ?_)
    have ct29 : ∀ (tl : Nat) (cap : Nat) (kk : Nat) (tab : Nat → Option Nat) (thr : Nat) (l29_2 : va_W), TbP g (bmx kk) cap tab (tfX xs cap) l29_2 → (cap = 2 ^ kk) → (4 ≤ kk) → (kk ≤ 18) → (4 * thr = 3 * cap) → (cap = c0z cap0) → Go g κ 29 [some (.ref h), some (.int hh), some (.ref k), some (.ref v), some (.int (nI 0)), some (.int (nI 1)), some (.ref tl), none, some (.int (nI cap)), none, none, none, none] [] [[(h, .inr (23, [.null, .null, .ref tl, .null, .int (nI xs.length), .int (nI md), .int (nI thr), .float lfac]))], [(tl, .inl (g.2.1 6, cap, .inr (.inr (.inr (.inr tab)))))], l29_2] (12 + 13 * (hgr xs cap0 hh - cap)) (125 + 51 * (hgr xs cap0 hh - cap)) := by
      intro tl cap kk tab thr l29_2 hl29_2 hcap hk4 hk hthr hcz2
      have hc0 : 16 ≤ cap ∧ cap ≤ 262144 := by
        rw [hcap]
        exact ⟨Nat.le_trans (Nat.le_of_ble_eq_true rfl) (Nat.pow_le_pow_right (n := 2) (by decide) hk4), Nat.le_trans (Nat.pow_le_pow_right (by decide) hk) (Nat.le_of_ble_eq_true rfl)⟩
      have ct259 : ∀ (tl : Nat) (cap : Nat) (kk : Nat) (tab : Nat → Option Nat) (thr : Nat) (l259_2 : va_W), TbP g (bmx kk) cap tab (tfX (xs ++ [(hh, k, v)]) cap) l259_2 → (cap = 2 ^ kk) → (4 ≤ kk) → (kk ≤ 18) → (4 * thr = 3 * cap) → (cap = c1z xs (c0z cap0) hh) → Go g κ 259 [some (.ref h), none, none, none, none, some (.int (nI 1)), none, none, none, none, none, none, none] [] [[(h, .inr (23, [.null, .null, .ref tl, .null, .int (nI xs.length), .int (nI md), .int (nI thr), .float lfac]))], [(tl, .inl (g.2.1 6, cap, .inr (.inr (.inr (.inr tab)))))], l259_2] (13 * (hgr xs cap0 hh - cap)) (51 * (hgr xs cap0 hh - cap)) := by
        intro tl cap kk tab thr l259_2 hl259_2 hcap hk4 hk hthr hc1
        have hc0 : 16 ≤ cap ∧ cap ≤ 262144 := by
          rw [hcap]
          exact ⟨Nat.le_trans (Nat.le_of_ble_eq_true rfl) (Nat.pow_le_pow_right (n := 2) (by decide) hk4), Nat.le_trans (Nat.pow_le_pow_right (by decide) hk) (Nat.le_of_ble_eq_true rfl)⟩
        refine g_aload_n (q := 260) B dJ4_putVal_259 rfl rfl (rv_r _) ?_
        refine g_dup (q := 261) B dJ4_putVal_260 rfl rfl ?_
        refine g_get (q := 264) B (ci := 23) (k := 0) (j := 5) in_J4 rfl dJ4_putVal_261 rfl rfl (Nat.le_of_ble_eq_true rfl) q210 rfl rfl ?_
        refine g_iconst (v := nI 1) (q := 265) B dJ4_putVal_264 rfl (by decide) ?_
        refine g_iadd (v := nI (md + 1)) (q := 266) B dJ4_putVal_265 rfl (nI_add _ _) ?_
        refine g_put (q := 269) (L2 := [[(h, .inr (23, [.null, .null, .ref tl, .null, .int (nI xs.length), .int (nI (md + 1)), .int (nI thr), .float lfac]))], [(tl, .inl (g.2.1 6, cap, .inr (.inr (.inr (.inr tab)))))], l259_2]) B (ci := 23) (k := 0) (j := 5) in_J4 tyJ4 tyJ4_ok nmJ4 rfl dJ4_putVal_266 rfl rfl (Nat.le_of_ble_eq_true rfl) q210 rfl rfl rfl rfl (Nat.le_of_ble_eq_true rfl) rfl ?_
        refine g_aload_n (q := 270) B dJ4_putVal_269 rfl rfl (rv_r _) ?_
        refine g_dup (q := 271) B dJ4_putVal_270 rfl rfl ?_
        refine g_get (q := 274) B (ci := 23) (k := 0) (j := 4) in_J4 rfl dJ4_putVal_271 rfl rfl (Nat.le_of_ble_eq_true rfl) q208 rfl rfl ?_
        refine g_iconst (v := nI 1) (q := 275) B dJ4_putVal_274 rfl (by decide) ?_
        refine g_iadd (v := nI (xs.length + 1)) (q := 276) B dJ4_putVal_275 rfl (nI_add _ _) ?_
        refine g_dup_x1 (q := 277) B dJ4_putVal_276 rfl rfl rfl ?_
        refine g_put (q := 280) (L2 := [[(h, .inr (23, [.null, .null, .ref tl, .null, .int (nI (xs.length + 1)), .int (nI (md + 1)), .int (nI thr), .float lfac]))], [(tl, .inl (g.2.1 6, cap, .inr (.inr (.inr (.inr tab)))))], l259_2]) B (ci := 23) (k := 0) (j := 4) in_J4 tyJ4 tyJ4_ok nmJ4 rfl dJ4_putVal_277 rfl rfl (Nat.le_of_ble_eq_true rfl) q208 rfl rfl rfl rfl (Nat.le_of_ble_eq_true rfl) rfl ?_
        refine g_aload_n (q := 281) B dJ4_putVal_280 rfl rfl (rv_r _) ?_
        refine g_get (q := 284) B (ci := 23) (k := 0) (j := 6) in_J4 rfl dJ4_putVal_281 rfl rfl (Nat.le_of_ble_eq_true rfl) q211 rfl rfl ?_
        refine g_icmp_le (tgt := 292) (q := 287) B dJ4_putVal_284 rfl (by decide) (nI_leI (by omega) (by omega)) (fun c284 => ?_) (fun c284 => ?_)
        · skip
          refine g_aload_n (q := 293) B dJ4_putVal_292 rfl rfl (rv_r _) ?_
          refine g_iload (q := 295) B dJ4_putVal_293 rfl rfl ?_
          refine g_callV (q := 298) (is := []) (kc2 := 13 * (hgr xs cap0 hh - cap)) (ks2 := 51 * (hgr xs cap0 hh - cap)) B [.int (nI 1)] (ct_J4_afterNodeInsertion g J (h := h)  ) dJ4_putVal_295 rfl (rc_at B (ci := 23) rfl (k := 0) rfl) rfl q1780 q1781 q1782 q83 q1783 rfl rfl moJ4_afterNodeInsertion rfl rfl (by decide) (by decide) (Nat.le_of_ble_eq_true rfl) (by omega) (by omega) (fun _ _ hx => noX_x hx) (fun v295 L1 hp295 => ?_)
          obtain ⟨rfl, rfl⟩ := hp295
          refine (show Go g κ 298 [some (.ref h), none, none, none, none, some (.int (nI 1)), none, none, none, none, none, none, none] [] [[(h, .inr (23, [.null, .null, .ref tl, .null, .int (nI (xs.length + 1)), .int (nI (md + 1)), .int (nI thr), .float lfac]))], [(tl, .inl (g.2.1 6, cap, .inr (.inr (.inr (.inr tab)))))], l259_2] (13 * (hgr xs cap0 hh - cap)) (51 * (hgr xs cap0 hh - cap)) from ?_)
          refine g_aconst_null (q := 299) B dJ4_putVal_298 rfl ?_
          have hge : hgr xs cap0 hh = cap := by unfold hgr c2z; rw [← hc1, if_neg (by (try simp); omega)]
          obtain ⟨wc_15, ewc_15⟩ : ∃ w : va_W, w = ([[(h, .inr (23, [.null, .null, .ref tl, .null, .int (nI (xs.length + 1)), .int (nI (md + 1)), .int (nI thr), .float lfac]))], [(tl, .inl (g.2.1 6, cap, .inr (.inr (.inr (.inr tab)))))], l259_2] : List va_W).flatten := ⟨_, rfl⟩
          have hwc_15 : HmT g h (xs ++ [(hh, k, v)]) (hgr xs cap0 hh) wc_15 := by
            rw [ewc_15]
            exact ⟨hynd, hyl, Or.inr ⟨kk, tl, md + 1, thr, lfac, _, _, (by rw [hge]; exact hcap), hk4, by omega, (by rw [hge]; exact hthr), (by rw [hge]; exact hl259_2), (by rw [hge]; simp)⟩⟩
          refine g_close (w := wc_15) [0, 0, 0] rfl ewc_15 rfl ?_
          refine (show Go g κ 299 [some (.ref h), none, none, none, none, some (.int (nI 1)), none, none, none, none, none, none, none] [.null] [wc_15] (13 * (hgr xs cap0 hh - cap)) (51 * (hgr xs cap0 hh - cap)) from ?_)
          exact g_aret B E dJ4_putVal_299 (by first | exact Or.inl ⟨_, rfl⟩ | exact Or.inr ⟨_, rfl⟩) rv_n (⟨wc_15, rfl, rfl, hwc_15⟩)
        · skip
          refine g_aload_n (q := 288) B dJ4_putVal_287 rfl rfl (rv_r _) ?_
          have hg2 : hgr xs cap0 hh = 2 * cap := by unfold hgr c2z; rw [← hc1, if_pos (by (try simp); omega)]
          refine g_callV (q := 291) (is := [0, 0, 0]) (kc2 := 0) (ks2 := 0) B [] (ct_J4_resize g J (h := h) (tl := tl) (n := xs.length + 1) (md := md + 1) (thr := thr) (lfac := lfac) (cap := cap) (kk := kk) (tab := tab) (tf := (tfX (xs ++ [(hh, k, v)]) cap)) (bm := bmx kk) hl259_2 (bmx_6 _) (hcap) (hk4) (by omega) (hthr) (fun b _ t ht => (tfX_mem.mp ht).2) (fun b _ => tfX_nd hynd) (fun b _ => by have z : (tfX (xs ++ [(hh, k, v)]) cap b).length ≤ (xs ++ [(hh, k, v)]).length := List.length_filter_le _ _; omega)) dJ4_putVal_288 rfl (rc_at B (ci := 23) rfl (k := 0) rfl) rfl q1649 q1650 q1651 q83 q1652 rfl rfl moJ4_resize rfl rfl (by decide) (by decide) (Nat.le_of_ble_eq_true rfl) (by omega) (by omega) (fun _ _ hx => noX_x hx) (fun v288 L1 hp288 => ?_)
          obtain ⟨nt288, ntab288, u2_288, rfl, rfl, hu2_288⟩ := hp288
          refine (show Go g κ 291 [some (.ref h), none, none, none, none, some (.int (nI 1)), none, none, none, none, none, none, none] [.ref nt288] [[(h, .inr (23, [.null, .null, .ref nt288, .null, .int (nI (xs.length + 1)), .int (nI (md + 1)), .int (nI (2 * thr)), .float lfac]))], [(nt288, .inl (g.2.1 6, 2 * cap, .inr (.inr (.inr (.inr ntab288)))))], u2_288] 0 0 from ?_)
          refine g_pop (q := 292) B dJ4_putVal_291 rfl rfl ?_
          refine g_aload_n (q := 293) B dJ4_putVal_292 rfl rfl (rv_r _) ?_
          refine g_iload (q := 295) B dJ4_putVal_293 rfl rfl ?_
          refine g_callV (q := 298) (is := []) (kc2 := 0) (ks2 := 0) B [.int (nI 1)] (ct_J4_afterNodeInsertion g J (h := h)  ) dJ4_putVal_295 rfl (rc_at B (ci := 23) rfl (k := 0) rfl) rfl q1780 q1781 q1782 q83 q1783 rfl rfl moJ4_afterNodeInsertion rfl rfl (by decide) (by decide) (Nat.le_of_ble_eq_true rfl) (Nat.le_of_ble_eq_true rfl) (Nat.le_of_ble_eq_true rfl) (fun _ _ hx => noX_x hx) (fun v295 L1 hp295 => ?_)
          obtain ⟨rfl, rfl⟩ := hp295
          refine (show Go g κ 298 [some (.ref h), none, none, none, none, some (.int (nI 1)), none, none, none, none, none, none, none] [] [[(h, .inr (23, [.null, .null, .ref nt288, .null, .int (nI (xs.length + 1)), .int (nI (md + 1)), .int (nI (2 * thr)), .float lfac]))], [(nt288, .inl (g.2.1 6, 2 * cap, .inr (.inr (.inr (.inr ntab288)))))], u2_288] 0 0 from ?_)
          refine g_aconst_null (q := 299) B dJ4_putVal_298 rfl ?_
          have hge : hgr xs cap0 hh = 2 * cap := by unfold hgr c2z; rw [← hc1, if_pos (by (try simp); omega)]
          have hkb : kk ≤ 16 := by
            rcases Nat.lt_or_ge 16 kk with h | h
            · have z : 2 ^ 17 ≤ 2 ^ kk := Nat.pow_le_pow_right (by decide) h
              rw [← hcap] at z; simp at z; omega
            · exact h
          have hq9 : TbP g (bmx (kk + 1)) (2 * cap) ntab288 (tfX (xs ++ [(hh, k, v)]) (2 * cap)) u2_288 := tb_mono hu2_288 (bmx_s hk4) (fun b hb => (tfX_2 hcap (by omega) hb).symm)
          obtain ⟨wc_16, ewc_16⟩ : ∃ w : va_W, w = ([[(h, .inr (23, [.null, .null, .ref nt288, .null, .int (nI (xs.length + 1)), .int (nI (md + 1)), .int (nI (2 * thr)), .float lfac]))], [(nt288, .inl (g.2.1 6, 2 * cap, .inr (.inr (.inr (.inr ntab288)))))], u2_288] : List va_W).flatten := ⟨_, rfl⟩
          have hwc_16 : HmT g h (xs ++ [(hh, k, v)]) (hgr xs cap0 hh) wc_16 := by
            rw [ewc_16]
            exact ⟨hynd, hyl, Or.inr ⟨kk + 1, nt288, md + 1, 2 * thr, lfac, ntab288, _, (by rw [hge, Nat.pow_succ, hcap]; omega), by omega, by omega, (by rw [hge]; omega), (by rw [hge]; exact hq9), (by rw [hge]; simp)⟩⟩
          refine g_close (w := wc_16) [0, 0, 0] rfl ewc_16 rfl ?_
          refine (show Go g κ 299 [some (.ref h), none, none, none, none, some (.int (nI 1)), none, none, none, none, none, none, none] [.null] [wc_16] 0 0 from ?_)
          exact g_aret B E dJ4_putVal_299 (by first | exact Or.inl ⟨_, rfl⟩ | exact Or.inr ⟨_, rfl⟩) rv_n (⟨wc_16, rfl, rfl, hwc_16⟩)
      obtain ⟨ix, hix⟩ : ∃ ix, ix = hU hh % cap := ⟨_, rfl⟩
      have hixl : ix < cap := by rw [hix]; exact Nat.mod_lt _ (by omega)
      have hixa : nI (cap - 1) &&& hh = nI ix := by rw [hix, hcap]; exact ix_hu (by omega) _
      obtain ⟨w1, wj, w2, hbj, hcl, rfl⟩ := tf_op hl29_2 hixl
      refine g_open 2 rfl rfl rfl ?_
      refine (show Go g κ 29 [some (.ref h), some (.int hh), some (.ref k), some (.ref v), some (.int (nI 0)), some (.int (nI 1)), some (.ref tl), none, some (.int (nI cap)), none, none, none, none] [] [[(h, .inr (23, [.null, .null, .ref tl, .null, .int (nI xs.length), .int (nI md), .int (nI thr), .float lfac]))], [(tl, .inl (g.2.1 6, cap, .inr (.inr (.inr (.inr tab)))))], w1, wj, w2] (12 + 13 * (hgr xs cap0 hh - cap)) (125 + 51 * (hgr xs cap0 hh - cap)) from ?_)
      have hbj0 := hbj
      rcases hbj with ⟨ns, cs, hs, ky, vl, nx, hwj, hC, hN, hM, hpm, hlb0⟩ | ⟨ns, cs, hs, ky, vl, nx, pp, lf, rg, pv, rd, lo, hi, root, hwj, hC, hN, hM, hpm, hP, hT, hb10⟩
      · skip
        have hmt : ∀ a ∈ ns, (hs a, ky a, vl a) ∈ xs ∧ hU (hs a) % cap = ix := fun a ha => tfX_mem.mp (hpm.mem_iff.mpr (List.mem_map.mpr ⟨a, (hM a).mpr ha, rfl⟩))
        refine (show Go g κ 29 [some (.ref h), some (.int hh), some (.ref k), some (.ref v), some (.int (nI 0)), some (.int (nI 1)), some (.ref tl), none, some (.int (nI cap)), none, none, none, none] [] [[(h, .inr (23, [.null, .null, .ref tl, .null, .int (nI xs.length), .int (nI md), .int (nI thr), .float lfac]))], [(tl, .inl (g.2.1 6, cap, .inr (.inr (.inr (.inr tab)))))], w1, wj, w2] (12 + 13 * (hgr xs cap0 hh - cap)) (125 + 51 * (hgr xs cap0 hh - cap)) from ?_)
        rcases hti : tab ix with _ | f0
        · skip
          have hcs0 : cs = [] := List.head?_eq_none_iff.mp (by rw [← ch_head hC, hti])
          refine g_aload (q := 31) B dJ4_putVal_29 rfl rfl (rv_r _) ?_
          refine g_iload (q := 33) B dJ4_putVal_31 rfl rfl ?_
          refine g_iconst (v := nI 1) (q := 34) B dJ4_putVal_33 rfl (by decide) ?_
          refine g_isub (v := nI (cap - 1)) (q := 35) B dJ4_putVal_34 rfl (pk_sub (by omega)) ?_
          refine g_iload_n (q := 36) B dJ4_putVal_35 rfl rfl ?_
          refine g_iand (v := nI ix) (q := 37) B dJ4_putVal_36 rfl hixa ?_
          refine g_dup (q := 38) B dJ4_putVal_37 rfl rfl ?_
          refine g_istore (q := 40) (lv2 := [some (.ref h), some (.int hh), some (.ref k), some (.ref v), some (.int (nI 0)), some (.int (nI 1)), some (.ref tl), none, some (.int (nI cap)), some (.int (nI ix)), none, none, none]) B dJ4_putVal_38 rfl (Nat.le_of_ble_eq_true rfl) rfl ?_
          refine g_ald (r := none) (q := 41) B (k := 1) (t := 6) dJ4_putVal_40 rfl rfl rfl (vp_in_nI (by omega) (by omega)) (by rw [nI_clamp (by omega)]; exact hti) ?_
          refine g_dup (q := 42) B dJ4_putVal_41 rfl rfl ?_
          refine g_astore (q := 44) (lv2 := [some (.ref h), some (.int hh), some (.ref k), some (.ref v), some (.int (nI 0)), some (.int (nI 1)), some (.ref tl), some (.null), some (.int (nI cap)), some (.int (nI ix)), none, none, none]) B dJ4_putVal_42 rfl (Nat.le_of_ble_eq_true rfl) rv_n rfl ?_
          refine g_ifnonnull_n (q := 47) B dJ4_putVal_44 rfl ?_
          refine g_aload (q := 49) B dJ4_putVal_47 rfl rfl (rv_r _) ?_
          refine g_iload (q := 51) B dJ4_putVal_49 rfl rfl ?_
          refine g_aload_n (q := 52) B dJ4_putVal_51 rfl rfl (rv_r _) ?_
          refine g_iload_n (q := 53) B dJ4_putVal_52 rfl rfl ?_
          refine g_aload_n (q := 54) B dJ4_putVal_53 rfl rfl (rv_r _) ?_
          refine g_aload_n (q := 55) B dJ4_putVal_54 rfl rfl (rv_r _) ?_
          refine g_aconst_null (q := 56) B dJ4_putVal_55 rfl ?_
          refine g_callV (q := 59) (is := []) (kc2 := (12 + 13 * (hgr xs cap0 hh - cap)) - 1) (ks2 := (125 + 51 * (hgr xs cap0 hh - cap)) - 4) B [.int hh, .ref k, .ref v, .null] (ct_J4_newNode g J (h := h) (hh := hh) (k := k) (v := v) (x := none)  ) dJ4_putVal_56 rfl (rc_at B (ci := 23) rfl (k := 0) rfl) rfl q1722 q1723 q1724 q83 q1725 rfl rfl moJ4_newNode rfl rfl (by decide) (by decide) (Nat.le_of_ble_eq_true rfl) (by omega) (by omega) (fun _ _ hx => noX_x hx) (fun v56 L1 hp56 => ?_)
          obtain ⟨a56, rfl, rfl⟩ := hp56
          refine (show Go g κ 59 [some (.ref h), some (.int hh), some (.ref k), some (.ref v), some (.int (nI 0)), some (.int (nI 1)), some (.ref tl), some (.null), some (.int (nI cap)), some (.int (nI ix)), none, none, none] [.ref a56, .int (nI ix), .ref tl] [[(h, .inr (23, [.null, .null, .ref tl, .null, .int (nI xs.length), .int (nI md), .int (nI thr), .float lfac]))], [(tl, .inl (g.2.1 6, cap, .inr (.inr (.inr (.inr tab)))))], w1, wj, w2, [(a56, .inr (24, [.int hh, .ref k, .ref v, .null]))]] ((12 + 13 * (hgr xs cap0 hh - cap)) - 1) ((125 + 51 * (hgr xs cap0 hh - cap)) - 4) from ?_)
          refine g_astO (q := 60) (L2 := [[(h, .inr (23, [.null, .null, .ref tl, .null, .int (nI xs.length), .int (nI md), .int (nI thr), .float lfac]))], [(tl, .inl (g.2.1 6, cap, .inr (.inr (.inr (.inr (va_up tab ix (some a56)))))))], w1, wj, w2, [(a56, .inr (24, [.int hh, .ref k, .ref v, .null]))]]) B (k := 1) (t := 6) (C := "java/util/HashMap$Node") (rc_at B (ci := 24) rfl (k := 5) rfl) as_s dJ4_putVal_59 rfl rfl rfl (vp_in_nI (by omega) (by omega)) (by rw [nI_clamp (by omega)] <;> rfl) ?_
          have hz1 : tfX xs cap ix = [] := by rw [hcs0] at hpm; exact List.Perm.eq_nil hpm
          refine g_pk [0, 0, 0, 1, 1] rfl rfl ?_
          refine (show Go g κ 60 [some (.ref h), some (.int hh), some (.ref k), some (.ref v), some (.int (nI 0)), some (.int (nI 1)), some (.ref tl), some (.null), some (.int (nI cap)), some (.int (nI ix)), none, none, none] [] [[(h, .inr (23, [.null, .null, .ref tl, .null, .int (nI xs.length), .int (nI md), .int (nI thr), .float lfac]))], [(tl, .inl (g.2.1 6, cap, .inr (.inr (.inr (.inr (va_up tab ix (some a56)))))))], w1, w2, [(a56, .inr (24, [.int hh, .ref k, .ref v, .null]))]] ((12 + 13 * (hgr xs cap0 hh - cap)) - 1) ((125 + 51 * (hgr xs cap0 hh - cap)) - 4) from ?_)
          obtain ⟨wc_17, ewc_17⟩ : ∃ w : va_W, w = ([[(a56, .inr (24, [.int hh, .ref k, .ref v, .null]))]] : List va_W).flatten := ⟨_, rfl⟩
          have hwc_17 : BinP g (bmx kk) (some a56) (tfX (xs ++ [(hh, k, v)]) cap ix) wc_17 := by
            rw [ewc_17]
            exact by rw [hix, own_X (t := (hh, k, v)), show tfX xs cap (hU hh % cap) = [] by rw [← hix]; exact hz1]; exact bin_1 (by have := bmx_6 kk; omega)
          refine g_close (w := wc_17) [4] rfl ewc_17 rfl ?_
          refine (show Go g κ 60 [some (.ref h), some (.int hh), some (.ref k), some (.ref v), some (.int (nI 0)), some (.int (nI 1)), some (.ref tl), some (.null), some (.int (nI cap)), some (.int (nI ix)), none, none, none] [] [[(h, .inr (23, [.null, .null, .ref tl, .null, .int (nI xs.length), .int (nI md), .int (nI thr), .float lfac]))], [(tl, .inl (g.2.1 6, cap, .inr (.inr (.inr (.inr (va_up tab ix (some a56)))))))], w1, w2, wc_17] ((12 + 13 * (hgr xs cap0 hh - cap)) - 1) ((125 + 51 * (hgr xs cap0 hh - cap)) - 4) from ?_)
          refine g_goto (tgt := 259) B dJ4_putVal_60 (by decide) ?_
          obtain ⟨wc_18, ewc_18⟩ : ∃ w : va_W, w = ([w1, wc_17, w2] : List va_W).flatten := ⟨_, rfl⟩
          have hwc_18 : TbP g (bmx kk) cap (va_up tab ix (some a56)) (tfX (xs ++ [(hh, k, v)]) cap) wc_18 := by
            rw [ewc_18]
            exact hcl _ _ _ _ (Nat.le_refl _) (fun b _ hne => ⟨by unfold va_up; rw [if_neg hne], List.Perm.of_eq (oth_X (t := (hh, k, v)) (by show b ≠ hU hh % cap; rw [← hix]; exact hne))⟩) (by rw [show (va_up tab ix (some a56)) ix = (some a56) from if_pos rfl]; exact hwc_17)
          refine g_close (w := wc_18) [2, 3, 2] rfl ewc_18 rfl ?_
          refine (show Go g κ 259 [some (.ref h), some (.int hh), some (.ref k), some (.ref v), some (.int (nI 0)), some (.int (nI 1)), some (.ref tl), some (.null), some (.int (nI cap)), some (.int (nI ix)), none, none, none] [] [[(h, .inr (23, [.null, .null, .ref tl, .null, .int (nI xs.length), .int (nI md), .int (nI thr), .float lfac]))], [(tl, .inl (g.2.1 6, cap, .inr (.inr (.inr (.inr (va_up tab ix (some a56)))))))], wc_18] ((12 + 13 * (hgr xs cap0 hh - cap)) - 1) ((125 + 51 * (hgr xs cap0 hh - cap)) - 4) from ?_)
          refine g_fg 1 rfl ?_
          refine g_fg 2 rfl ?_
          refine g_fg 3 rfl ?_
          refine g_fg 4 rfl ?_
          refine g_fg 6 rfl ?_
          refine g_fg 7 rfl ?_
          refine g_fg 8 rfl ?_
          refine g_fg 9 rfl ?_
          refine g_room (kc2 := 13 * (hgr xs cap0 hh - cap)) (ks2 := 51 * (hgr xs cap0 hh - cap)) (by omega) (by omega) ?_
          exact ct259 tl cap _ (va_up tab ix (some a56)) thr wc_18 hwc_18 (hcap) (hk4) (hk) (hthr) (by unfold c1z; rw [if_neg (fun h => by have z := h.2; rw [← hcz2, ← hix, hz1] at z; simp at z)]; exact hcz2)
        · skip
          rw [hti] at hC
          obtain ⟨ct, hcs⟩ : ∃ ct, cs = f0 :: ct := by
            cases cs with
            | nil => exact absurd hC (by simp [Ch])
            | cons z t => obtain ⟨q, -⟩ := hC; cases q; exact ⟨t, rfl⟩
          have hfm : f0 ∈ ns := (hM _).mp (by rw [hcs]; simp)
          have hCt : Ch nx (nx f0) ct := by rw [hcs] at hC; exact hC.2
          refine g_aload (q := 31) B dJ4_putVal_29 rfl rfl (rv_r _) ?_
          refine g_iload (q := 33) B dJ4_putVal_31 rfl rfl ?_
          refine g_iconst (v := nI 1) (q := 34) B dJ4_putVal_33 rfl (by decide) ?_
          refine g_isub (v := nI (cap - 1)) (q := 35) B dJ4_putVal_34 rfl (pk_sub (by omega)) ?_
          refine g_iload_n (q := 36) B dJ4_putVal_35 rfl rfl ?_
          refine g_iand (v := nI ix) (q := 37) B dJ4_putVal_36 rfl hixa ?_
          refine g_dup (q := 38) B dJ4_putVal_37 rfl rfl ?_
          refine g_istore (q := 40) (lv2 := [some (.ref h), some (.int hh), some (.ref k), some (.ref v), some (.int (nI 0)), some (.int (nI 1)), some (.ref tl), none, some (.int (nI cap)), some (.int (nI ix)), none, none, none]) B dJ4_putVal_38 rfl (Nat.le_of_ble_eq_true rfl) rfl ?_
          refine g_ald (r := some f0) (q := 41) B (k := 1) (t := 6) dJ4_putVal_40 rfl rfl rfl (vp_in_nI (by omega) (by omega)) (by rw [nI_clamp (by omega)]; exact hti) ?_
          refine g_dup (q := 42) B dJ4_putVal_41 rfl rfl ?_
          refine g_astore (q := 44) (lv2 := [some (.ref h), some (.int hh), some (.ref k), some (.ref v), some (.int (nI 0)), some (.int (nI 1)), some (.ref tl), some (.ref f0), some (.int (nI cap)), some (.int (nI ix)), none, none, none]) B dJ4_putVal_42 rfl (Nat.le_of_ble_eq_true rfl) (rv_r _) rfl ?_
          refine g_ifnonnull_r (tgt := 63) B dJ4_putVal_44 (by decide) ?_
          refine g_aload (q := 65) B dJ4_putVal_63 rfl rfl (rv_r _) ?_
          refine g_getM (v := .int (hs f0)) (q := 68) B (ci := 24) (k := 3) (j := 0) in_J38 rfl dJ4_putVal_65 rfl rfl (NodG.mem hwj hfm) (Nat.le_of_ble_eq_true rfl) q1680 rfl rfl ?_
          refine g_iload_n (q := 69) B dJ4_putVal_68 rfl rfl ?_
          refine g_icmp_ne (tgt := 104) (q := 72) B dJ4_putVal_69 rfl (by decide) (iff_true_intro (hno _ (hmt f0 hfm).1)) (fun _ => ?_) (fun z => absurd trivial z)
          refine g_aload (q := 106) B dJ4_putVal_104 rfl rfl (rv_r _) ?_
          refine g_instRNo (q := 109) B (rc_in B (ci := 24) rfl (k := 3) rfl ⟨_, NodG.mem hwj hfm⟩) dJ4_putVal_106 rfl q1408 nc_177 ?_
          refine g_if_eq (tgt := 131) (q := 112) B dJ4_putVal_109 rfl (by decide) (iff_true_intro (by decide)) (fun _ => ?_) (fun z => absurd trivial z)
          refine g_iconst (v := nI 0) (q := 132) B dJ4_putVal_131 rfl (by decide) ?_
          refine g_istore (q := 134) (lv2 := [some (.ref h), some (.int hh), some (.ref k), some (.ref v), some (.int (nI 0)), some (.int (nI 1)), some (.ref tl), some (.ref f0), some (.int (nI cap)), some (.int (nI ix)), none, none, some (.int (nI 0))]) B dJ4_putVal_132 rfl (Nat.le_of_ble_eq_true rfl) rfl ?_
          have lp134 : ∀ (n134 : Nat) (x : Nat) (us : List Nat) (vt : List Nat) (nu : Nat) , (cs = us ++ x :: vt) → (Ch nx (nx x) vt) → (nu = us.length) → vt.length = n134 → Go g κ 134 [some (.ref h), some (.int hh), some (.ref k), some (.ref v), some (.int (nI 0)), some (.int (nI 1)), some (.ref tl), some (.ref x), some (.int (nI cap)), some (.int (nI ix)), none, none, some (.int (nI nu))] [] [[(h, .inr (23, [.null, .null, .ref tl, .null, .int (nI xs.length), .int (nI md), .int (nI thr), .float lfac]))], [(tl, .inl (g.2.1 6, cap, .inr (.inr (.inr (.inr tab)))))], w1, wj, w2] (12 + 13 * (hgr xs cap0 hh - cap)) (125 + 51 * (hgr xs cap0 hh - cap)) := by
            intro n134
            induction n134 using Nat.strongRecOn with
            | _ n134 ih134 =>
            intro x us vt nu  hcs2 hV hnu hmu134
            have hxm : x ∈ ns := (hM x).mp (by rw [hcs2]; simp)
            have hul : nu < 100000 := by have z1 := hpm.length_eq; rw [List.length_map, hcs2] at z1; have z2 : (tfX xs cap ix).length ≤ xs.length := List.length_filter_le _ _; rw [List.length_append, List.length_cons] at z1; omega
            refine g_aload (q := 136) B dJ4_putVal_134 rfl rfl (rv_r _) ?_
            refine g_getM (v := va_rf (nx x)) (q := 139) B (ci := 24) (k := 3) (j := 3) in_J38 rfl dJ4_putVal_136 rfl rfl (NodG.mem hwj hxm) (Nat.le_of_ble_eq_true rfl) q1693 rfl rfl ?_
            refine g_dup (q := 140) B dJ4_putVal_139 rfl (rv_c (rv_o _)) ?_
            refine g_astore (q := 142) (lv2 := [some (.ref h), some (.int hh), some (.ref k), some (.ref v), some (.int (nI 0)), some (.int (nI 1)), some (.ref tl), some (.ref x), some (.int (nI cap)), some (.int (nI ix)), some (va_rf (nx x)), none, some (.int (nI nu))]) B dJ4_putVal_140 rfl (Nat.le_of_ble_eq_true rfl) (rv_o _) rfl ?_
            refine g_ifnonnull_o (tgt := 175) (q := 145) B dJ4_putVal_142 rfl (by decide) (fun nxx_a142 c142 => ?_) (fun c142 => ?_)
            · skip
              rw [c142]
              refine (show Go g κ 175 [some (.ref h), some (.int hh), some (.ref k), some (.ref v), some (.int (nI 0)), some (.int (nI 1)), some (.ref tl), some (.ref x), some (.int (nI cap)), some (.int (nI ix)), some (.ref nxx_a142), none, some (.int (nI nu))] [] [[(h, .inr (23, [.null, .null, .ref tl, .null, .int (nI xs.length), .int (nI md), .int (nI thr), .float lfac]))], [(tl, .inl (g.2.1 6, cap, .inr (.inr (.inr (.inr tab)))))], w1, wj, w2] (12 + 13 * (hgr xs cap0 hh - cap)) (125 + 51 * (hgr xs cap0 hh - cap)) from ?_)
              have hzm : nxx_a142 ∈ ns := (hM _).mp (by
                have zz := ch_head hV
                rw [c142] at zz
                have := List.mem_of_mem_head? (show nxx_a142 ∈ vt.head? by rw [← zz]; rfl)
                rw [hcs2]; simp [this])
              refine g_aload (q := 177) B dJ4_putVal_175 rfl rfl (rv_r _) ?_
              refine g_getM (v := .int (hs nxx_a142)) (q := 180) B (ci := 24) (k := 3) (j := 0) in_J38 rfl dJ4_putVal_177 rfl rfl (NodG.mem hwj hzm) (Nat.le_of_ble_eq_true rfl) q1680 rfl rfl ?_
              refine g_iload_n (q := 181) B dJ4_putVal_180 rfl rfl ?_
              refine g_icmp_ne (tgt := 212) (q := 184) B dJ4_putVal_181 rfl (by decide) (iff_true_intro (hno _ (hmt _ hzm).1)) (fun _ => ?_) (fun z => absurd trivial z)
              refine g_aload (q := 214) B dJ4_putVal_212 rfl rfl (rv_r _) ?_
              refine g_astore (q := 216) (lv2 := [some (.ref h), some (.int hh), some (.ref k), some (.ref v), some (.int (nI 0)), some (.int (nI 1)), some (.ref tl), some (.ref nxx_a142), some (.int (nI cap)), some (.int (nI ix)), some (.ref nxx_a142), none, some (.int (nI nu))]) B dJ4_putVal_214 rfl (Nat.le_of_ble_eq_true rfl) (rv_r _) rfl ?_
              refine g_iinc (v := nI (nu + 1)) (q := 219) (lv2 := [some (.ref h), some (.int hh), some (.ref k), some (.ref v), some (.int (nI 0)), some (.int (nI 1)), some (.ref tl), some (.ref nxx_a142), some (.int (nI cap)), some (.int (nI ix)), some (.ref nxx_a142), none, some (.int (nI (nu + 1)))]) B dJ4_putVal_216 rfl rfl (nI_add _ 1) (Nat.le_of_ble_eq_true rfl) rfl ?_
              refine g_goto (tgt := 134) B dJ4_putVal_219 (by decide) ?_
              refine g_fg 10 rfl ?_
              obtain ⟨v2, hv2⟩ : ∃ v2, vt = nxx_a142 :: v2 := by
                have zz := hV
                rw [c142] at zz
                cases vt with
                | nil => exact absurd zz (by simp [Ch])
                | cons q t => obtain ⟨e, -⟩ := zz; cases e; exact ⟨t, rfl⟩
              subst hv2
              exact ih134 _ (by rw [← hmu134]; simp) nxx_a142 (us ++ [x]) v2 (nu + 1) (by rw [hcs2]; simp) (by have zz := hV; rw [c142] at zz; exact zz.2) (by rw [hnu]; simp) rfl
            · skip
              rw [c142]
              refine (show Go g κ 145 [some (.ref h), some (.int hh), some (.ref k), some (.ref v), some (.int (nI 0)), some (.int (nI 1)), some (.ref tl), some (.ref x), some (.int (nI cap)), some (.int (nI ix)), some (.null), none, some (.int (nI nu))] [] [[(h, .inr (23, [.null, .null, .ref tl, .null, .int (nI xs.length), .int (nI md), .int (nI thr), .float lfac]))], [(tl, .inl (g.2.1 6, cap, .inr (.inr (.inr (.inr tab)))))], w1, wj, w2] (12 + 13 * (hgr xs cap0 hh - cap)) (125 + 51 * (hgr xs cap0 hh - cap)) from ?_)
              refine g_aload (q := 147) B dJ4_putVal_145 rfl rfl (rv_r _) ?_
              refine g_aload_n (q := 148) B dJ4_putVal_147 rfl rfl (rv_r _) ?_
              refine g_iload_n (q := 149) B dJ4_putVal_148 rfl rfl ?_
              refine g_aload_n (q := 150) B dJ4_putVal_149 rfl rfl (rv_r _) ?_
              refine g_aload_n (q := 151) B dJ4_putVal_150 rfl rfl (rv_r _) ?_
              refine g_aconst_null (q := 152) B dJ4_putVal_151 rfl ?_
              refine g_callV (q := 155) (is := []) (kc2 := (12 + 13 * (hgr xs cap0 hh - cap)) - 1) (ks2 := (125 + 51 * (hgr xs cap0 hh - cap)) - 4) B [.int hh, .ref k, .ref v, .null] (ct_J4_newNode g J (h := h) (hh := hh) (k := k) (v := v) (x := none)  ) dJ4_putVal_152 rfl (rc_at B (ci := 23) rfl (k := 0) rfl) rfl q1722 q1723 q1724 q83 q1725 rfl rfl moJ4_newNode rfl rfl (by decide) (by decide) (Nat.le_of_ble_eq_true rfl) (by omega) (by omega) (fun _ _ hx => noX_x hx) (fun v152 L1 hp152 => ?_)
              obtain ⟨a152, rfl, rfl⟩ := hp152
              refine (show Go g κ 155 [some (.ref h), some (.int hh), some (.ref k), some (.ref v), some (.int (nI 0)), some (.int (nI 1)), some (.ref tl), some (.ref x), some (.int (nI cap)), some (.int (nI ix)), some (.null), none, some (.int (nI nu))] [.ref a152, .ref x] [[(h, .inr (23, [.null, .null, .ref tl, .null, .int (nI xs.length), .int (nI md), .int (nI thr), .float lfac]))], [(tl, .inl (g.2.1 6, cap, .inr (.inr (.inr (.inr tab)))))], w1, wj, w2, [(a152, .inr (24, [.int hh, .ref k, .ref v, .null]))]] ((12 + 13 * (hgr xs cap0 hh - cap)) - 1) ((125 + 51 * (hgr xs cap0 hh - cap)) - 4) from ?_)
              refine g_nin (wa := [(a152, .inr (24, [.int hh, .ref k, .ref v, .null]))]) (wb := wj) 5 3 rfl List.mem_cons_self (fun hap => ?_)
              have hnn : a152 ∉ ns := fun hm => hap a152 _ (NodG.mem hwj hm) rfl
              obtain ⟨wc_19, ewc_19⟩ : ∃ w : va_W, w = ([[(a152, .inr (24, [.int hh, .ref k, .ref v, .null]))], wj] : List va_W).flatten := ⟨_, rfl⟩
              have hwc_19 : NodG g (a152 :: ns) (fup hs a152 hh) (fup ky a152 k) (fup vl a152 v) (fup nx a152 none) wc_19 := by
                rw [ewc_19]
                exact NodG.cons (x3 := none) hwj hnn
              refine g_close (w := wc_19) [5, 3] rfl ewc_19 rfl ?_
              refine (show Go g κ 155 [some (.ref h), some (.int hh), some (.ref k), some (.ref v), some (.int (nI 0)), some (.int (nI 1)), some (.ref tl), some (.ref x), some (.int (nI cap)), some (.int (nI ix)), some (.null), none, some (.int (nI nu))] [.ref a152, .ref x] [[(h, .inr (23, [.null, .null, .ref tl, .null, .int (nI xs.length), .int (nI md), .int (nI thr), .float lfac]))], [(tl, .inl (g.2.1 6, cap, .inr (.inr (.inr (.inr tab)))))], w1, w2, wc_19] ((12 + 13 * (hgr xs cap0 hh - cap)) - 1) ((125 + 51 * (hgr xs cap0 hh - cap)) - 4) from ?_)
              refine g_putNodG3 (q := 158) (k := 4) (x := some a152) B hwc_19 (List.mem_cons_of_mem _ hxm) dJ4_putVal_155 rfl rfl q1693 (Or.inl rfl) (fun wa_20_155 hwa_20_155 => ?_)
              refine (show Go g κ 158 [some (.ref h), some (.int hh), some (.ref k), some (.ref v), some (.int (nI 0)), some (.int (nI 1)), some (.ref tl), some (.ref x), some (.int (nI cap)), some (.int (nI ix)), some (.null), none, some (.int (nI nu))] [] [[(h, .inr (23, [.null, .null, .ref tl, .null, .int (nI xs.length), .int (nI md), .int (nI thr), .float lfac]))], [(tl, .inl (g.2.1 6, cap, .inr (.inr (.inr (.inr tab)))))], w1, w2, wa_20_155] ((12 + 13 * (hgr xs cap0 hh - cap)) - 1) ((125 + 51 * (hgr xs cap0 hh - cap)) - 4) from ?_)
              have hve : vt = [] := by
                have zz := ch_head hV
                rw [c142] at zz
                exact List.head?_eq_none_iff.mp zz.symm
              rw [hve] at hcs2
              have hnc : a152 ∉ cs := fun e => hnn ((hM _).mp e)
              have hgl : cs.getLast? = some x := by rw [hcs2]; simp
              have hCn : Ch (fup (fup nx a152 none) x (some a152)) (some f0) (cs ++ [a152]) := ch_snoc hC hN hnc hgl
              have hNn : (cs ++ [a152]).Nodup := List.nodup_append.mpr ⟨hN, by simp, fun a ha b hb e => by simp at hb; exact hnc (by rw [← hb, ← e]; exact ha)⟩
              have hMn : ∀ b, b ∈ cs ++ [a152] ↔ b ∈ a152 :: ns := fun b => by rw [List.mem_append, List.mem_cons, hM b]; simp [or_comm]
              have hpn : (tfX (xs ++ [(hh, k, v)]) cap ix).Perm ((cs ++ [a152]).map fun a => (fup hs a152 hh a, fup ky a152 k a, fup vl a152 v a)) := by
                rw [hix, own_X (t := (hh, k, v)), ← hix]
                exact pm_cons hnc hN hNn (fun a => by rw [List.mem_append]; simp [or_comm]) hpm
              have hln : (tfX xs cap ix).length = nu + 1 := by rw [hnu]; have z1 := hpm.length_eq; rw [List.length_map, hcs2] at z1; simpa using z1
              have hlb1 : nu + 1 ≤ bmx kk := by rw [hnu]; rw [hcs2] at hlb0; simpa using hlb0
              refine g_iload (q := 160) B dJ4_putVal_158 rfl rfl ?_
              refine g_bipush (v := nI 7) (q := 162) B dJ4_putVal_160 rfl (by decide) ?_
              refine g_icmp_lt (tgt := 222) (q := 165) B dJ4_putVal_162 rfl (by decide) (nI_ltI (by omega) (by omega)) (fun c162 => ?_) (fun c162 => ?_)
              · skip
                obtain ⟨wc_21, ewc_21⟩ : ∃ w : va_W, w = ([wa_20_155] : List va_W).flatten := ⟨_, rfl⟩
                have hwc_21 : BinP g (bmx kk) (some f0) (tfX (xs ++ [(hh, k, v)]) cap ix) wc_21 := by
                  rw [ewc_21]
                  exact Or.inl ⟨_, cs ++ [a152], _, _, _, _, (by simpa using hwa_20_155), hCn, hNn, hMn, hpn, by rw [hcs2]; simp; have := bmx_8 kk; omega⟩
                refine g_close (w := wc_21) [4] rfl ewc_21 rfl ?_
                refine (show Go g κ 222 [some (.ref h), some (.int hh), some (.ref k), some (.ref v), some (.int (nI 0)), some (.int (nI 1)), some (.ref tl), some (.ref x), some (.int (nI cap)), some (.int (nI ix)), some (.null), none, some (.int (nI nu))] [] [[(h, .inr (23, [.null, .null, .ref tl, .null, .int (nI xs.length), .int (nI md), .int (nI thr), .float lfac]))], [(tl, .inl (g.2.1 6, cap, .inr (.inr (.inr (.inr tab)))))], w1, w2, wc_21] ((12 + 13 * (hgr xs cap0 hh - cap)) - 1) ((125 + 51 * (hgr xs cap0 hh - cap)) - 4) from ?_)
                refine g_aload (q := 224) B dJ4_putVal_222 rfl rfl rv_n ?_
                refine g_ifnull_n (tgt := 259) B dJ4_putVal_224 (by decide) ?_
                obtain ⟨wc_22, ewc_22⟩ : ∃ w : va_W, w = ([w1, wc_21, w2] : List va_W).flatten := ⟨_, rfl⟩
                have hwc_22 : TbP g (bmx kk) cap tab (tfX (xs ++ [(hh, k, v)]) cap) wc_22 := by
                  rw [ewc_22]
                  exact hcl _ _ _ _ (Nat.le_refl _) (fun b _ hne => ⟨rfl, List.Perm.of_eq (oth_X (t := (hh, k, v)) (by show b ≠ hU hh % cap; rw [← hix]; exact hne))⟩) (by rw [hti]; exact hwc_21)
                refine g_close (w := wc_22) [2, 3, 2] rfl ewc_22 rfl ?_
                refine (show Go g κ 259 [some (.ref h), some (.int hh), some (.ref k), some (.ref v), some (.int (nI 0)), some (.int (nI 1)), some (.ref tl), some (.ref x), some (.int (nI cap)), some (.int (nI ix)), some (.null), none, some (.int (nI nu))] [] [[(h, .inr (23, [.null, .null, .ref tl, .null, .int (nI xs.length), .int (nI md), .int (nI thr), .float lfac]))], [(tl, .inl (g.2.1 6, cap, .inr (.inr (.inr (.inr tab)))))], wc_22] ((12 + 13 * (hgr xs cap0 hh - cap)) - 1) ((125 + 51 * (hgr xs cap0 hh - cap)) - 4) from ?_)
                refine g_fg 1 rfl ?_
                refine g_fg 2 rfl ?_
                refine g_fg 3 rfl ?_
                refine g_fg 4 rfl ?_
                refine g_fg 6 rfl ?_
                refine g_fg 7 rfl ?_
                refine g_fg 8 rfl ?_
                refine g_fg 9 rfl ?_
                refine g_fg 10 rfl ?_
                refine g_fg 12 rfl ?_
                refine g_room (kc2 := 13 * (hgr xs cap0 hh - cap)) (ks2 := 51 * (hgr xs cap0 hh - cap)) (by omega) (by omega) ?_
                exact ct259 tl cap _ tab thr wc_22 hwc_22 (hcap) (hk4) (hk) (hthr) (by unfold c1z; rw [if_neg (fun h => by have z := h.2; rw [← hcz2, ← hix, hln] at z; omega)]; exact hcz2)
              · skip
                have hk6 := cap_k6 hcap hk4
                rcases Nat.lt_or_ge cap 64 with h64 | h64
                · skip
                  obtain ⟨wc_23, ewc_23⟩ : ∃ w : va_W, w = ([w1, wa_20_155, w2] : List va_W).flatten := ⟨_, rfl⟩
                  have hwc_23 : TbP g (bmx (kk + 1)) cap tab (tfX (xs ++ [(hh, k, v)]) cap) wc_23 := by
                    rw [ewc_23]
                    exact hcl _ _ _ _ (bmx_s hk4) (fun b _ hne => ⟨rfl, List.Perm.of_eq (oth_X (t := (hh, k, v)) (by show b ≠ hU hh % cap; rw [← hix]; exact hne))⟩) (by rw [hti]; exact Or.inl ⟨_, cs ++ [a152], _, _, _, _, hwa_20_155, hCn, hNn, hMn, hpn, by rw [hcs2]; simp; have := (hk6.1 h64).1; omega⟩)
                  refine g_close (w := wc_23) [2, 3, 2] rfl ewc_23 rfl ?_
                  refine (show Go g κ 165 [some (.ref h), some (.int hh), some (.ref k), some (.ref v), some (.int (nI 0)), some (.int (nI 1)), some (.ref tl), some (.ref x), some (.int (nI cap)), some (.int (nI ix)), some (.null), none, some (.int (nI nu))] [] [[(h, .inr (23, [.null, .null, .ref tl, .null, .int (nI xs.length), .int (nI md), .int (nI thr), .float lfac]))], [(tl, .inl (g.2.1 6, cap, .inr (.inr (.inr (.inr tab)))))], wc_23] ((12 + 13 * (hgr xs cap0 hh - cap)) - 1) ((125 + 51 * (hgr xs cap0 hh - cap)) - 4) from ?_)
                  have hz2 : c1z xs (c0z cap0) hh = 2 * cap := by unfold c1z; rw [if_pos ⟨by rw [← hcz2]; omega, by rw [← hcz2, ← hix, hln]; omega⟩, ← hcz2]
                  have hg4 : 2 * cap ≤ hgr xs cap0 hh := by have z := hg.2.1; rw [hz2] at z; exact z
                  refine g_aload_n (q := 166) B dJ4_putVal_165 rfl rfl (rv_r _) ?_
                  refine g_aload (q := 168) B dJ4_putVal_166 rfl rfl (rv_r _) ?_
                  refine g_iload_n (q := 169) B dJ4_putVal_168 rfl rfl ?_
                  refine g_callV (q := 172) (is := [0, 0, 0]) (kc2 := 13 * (hgr xs cap0 hh - 2 * cap)) (ks2 := 51 * (hgr xs cap0 hh - 2 * cap)) B [.ref tl, .int hh] (ct_J4_treeifyBin_r g J (h := h) (tl := tl) (n := xs.length) (md := md) (thr := thr) (lfac := lfac) (cap := cap) (kk := kk) (tab := tab) (tf := (tfX (xs ++ [(hh, k, v)]) cap)) (bm := bmx (kk + 1)) (hh := hh) hwc_23 (bmx_6 _) (hcap) (hk4) (by omega) (hthr) (fun b _ t ht => (tfX_mem.mp ht).2) (fun b _ => tfX_nd hynd) (fun b _ => by have z : (tfX (xs ++ [(hh, k, v)]) cap b).length ≤ (xs ++ [(hh, k, v)]).length := List.length_filter_le _ _; omega) (h64)) dJ4_putVal_169 rfl (rc_at B (ci := 23) rfl (k := 0) rfl) rfl q1767 q1768 q1769 q83 q1770 rfl rfl moJ4_treeifyBin rfl rfl (by decide) (by decide) (Nat.le_of_ble_eq_true rfl) (by omega) (by omega) (fun _ _ hx => noX_x hx) (fun v169 L1 hp169 => ?_)
                  obtain ⟨nt169, ntab169, u2_169, rfl, rfl, hu2_169⟩ := hp169
                  refine (show Go g κ 172 [some (.ref h), some (.int hh), some (.ref k), some (.ref v), some (.int (nI 0)), some (.int (nI 1)), some (.ref tl), some (.ref x), some (.int (nI cap)), some (.int (nI ix)), some (.null), none, some (.int (nI nu))] [] [[(h, .inr (23, [.null, .null, .ref nt169, .null, .int (nI xs.length), .int (nI md), .int (nI (2 * thr)), .float lfac]))], [(nt169, .inl (g.2.1 6, 2 * cap, .inr (.inr (.inr (.inr ntab169)))))], u2_169] (13 * (hgr xs cap0 hh - 2 * cap)) (51 * (hgr xs cap0 hh - 2 * cap)) from ?_)
                  have hq4_24 : TbP g (bmx (kk + 1)) (2 * cap) ntab169 (tfX (xs ++ [(hh, k, v)]) (2 * cap)) u2_169 := tb_mono hu2_169 (Nat.le_refl _) (fun b hb => (tfX_2 hcap (by omega) hb).symm)
                  refine g_goto (tgt := 222) B dJ4_putVal_172 (by decide) ?_
                  refine g_aload (q := 224) B dJ4_putVal_222 rfl rfl rv_n ?_
                  refine g_ifnull_n (tgt := 259) B dJ4_putVal_224 (by decide) ?_
                  refine g_fg 1 rfl ?_
                  refine g_fg 2 rfl ?_
                  refine g_fg 3 rfl ?_
                  refine g_fg 4 rfl ?_
                  refine g_fg 6 rfl ?_
                  refine g_fg 7 rfl ?_
                  refine g_fg 8 rfl ?_
                  refine g_fg 9 rfl ?_
                  refine g_fg 10 rfl ?_
                  refine g_fg 12 rfl ?_
                  refine g_room (kc2 := 13 * (hgr xs cap0 hh - (2 * cap))) (ks2 := 51 * (hgr xs cap0 hh - (2 * cap))) (by omega) (by omega) ?_
                  exact ct259 nt169 (2 * cap) _ ntab169 (2 * thr) u2_169 hq4_24 (by rw [Nat.pow_succ, hcap]; omega) (by omega) (by omega) (by omega) (by unfold c1z; rw [if_pos ⟨by rw [← hcz2]; omega, by rw [← hcz2, ← hix, hln]; omega⟩, ← hcz2])
                · skip
                  have hb10 := (hk6.2 h64).2
                  have hl11 : (cs ++ [a152]).length ≤ 11 := by have z := bmx_10 kk; rw [hcs2]; simp; omega
                  refine g_aload_n (q := 166) B dJ4_putVal_165 rfl rfl (rv_r _) ?_
                  refine g_aload (q := 168) B dJ4_putVal_166 rfl rfl (rv_r _) ?_
                  refine g_iload_n (q := 169) B dJ4_putVal_168 rfl rfl ?_
                  refine g_callV (q := 172) (is := [0, 0, 2]) (kc2 := 13 * (hgr xs cap0 hh - cap)) (ks2 := 51 * (hgr xs cap0 hh - cap)) B [.ref tl, .int hh] (ct_J4_treeifyBin_t g J (h := h) (otl := some tl) (n := xs.length) (md := md) (thr := thr) (lfac := lfac) (tl := tl) (cap := cap) (tab := tab) (ix := ix) (cs := (cs ++ [a152])) (ns := (a152 :: ns)) (hs := (fup hs a152 hh)) (ky := (fup ky a152 k)) (vl := (fup vl a152 v)) (nx := (fup (fup nx a152 none) x (some a152))) (kk := kk) (hh := hh) (a := f0) (bm := bmx kk) hwa_20_155 (hb10) (hcap) ((hk6.2 h64).1) (by omega) (hixa) (hixl) (hti) (by rw [hti]; exact hCn) (hNn) (hMn) (fun b hb c hc e => by
                      have z : (((cs ++ [a152]).map fun a => (fup hs a152 hh a, fup ky a152 k a, fup vl a152 v a)).map (·.1)).Nodup := ((hpn.map (·.1)).nodup_iff).mp (tfX_nd hynd)
                      rw [List.map_map] at z
                      exact nd_inj z ((hMn b).mpr hb) ((hMn c).mpr hc) e) (fun b hb => by
                      have z := (tfX_mem.mp (hpn.mem_iff.mpr (List.mem_map.mpr ⟨b, (hMn b).mpr hb, rfl⟩))).2
                      rw [hcap, ix_hu (by omega), ← hcap]
                      exact congrArg nI z)) dJ4_putVal_169 rfl (rc_at B (ci := 23) rfl (k := 0) rfl) rfl q1767 q1768 q1769 q83 q1770 rfl rfl moJ4_treeifyBin rfl rfl (by decide) (by decide) (Nat.le_of_ble_eq_true rfl) (by omega) (by omega) (fun _ _ hx => noX_x hx) (fun v169 L1 hp169 => ?_)
                  obtain ⟨o2169, u2_169, rfl, rfl, hu2_169⟩ := hp169
                  refine (show Go g κ 172 [some (.ref h), some (.int hh), some (.ref k), some (.ref v), some (.int (nI 0)), some (.int (nI 1)), some (.ref tl), some (.ref x), some (.int (nI cap)), some (.int (nI ix)), some (.null), none, some (.int (nI nu))] [] [w1, w2, [(h, .inr (23, [.null, .null, .ref tl, .null, .int (nI xs.length), .int (nI md), .int (nI thr), .float lfac]))], [(tl, .inl (g.2.1 6, cap, .inr (.inr (.inr (.inr (va_up tab ix o2169))))))], u2_169] (13 * (hgr xs cap0 hh - cap)) (51 * (hgr xs cap0 hh - cap)) from ?_)
                  have hq5_25 : BinP g (bmx kk) o2169 (tfX (xs ++ [(hh, k, v)]) cap ix) u2_169 := BinP.perm hu2_169 hpn
                  refine g_goto (tgt := 222) B dJ4_putVal_172 (by decide) ?_
                  refine g_aload (q := 224) B dJ4_putVal_222 rfl rfl rv_n ?_
                  refine g_ifnull_n (tgt := 259) B dJ4_putVal_224 (by decide) ?_
                  obtain ⟨wc_26, ewc_26⟩ : ∃ w : va_W, w = ([w1, u2_169, w2] : List va_W).flatten := ⟨_, rfl⟩
                  have hwc_26 : TbP g (bmx kk) cap (va_up tab ix o2169) (tfX (xs ++ [(hh, k, v)]) cap) wc_26 := by
                    rw [ewc_26]
                    exact hcl _ _ _ _ (Nat.le_refl _) (fun b _ hne => ⟨by unfold va_up; rw [if_neg hne], List.Perm.of_eq (oth_X (t := (hh, k, v)) (by show b ≠ hU hh % cap; rw [← hix]; exact hne))⟩) (by rw [show (va_up tab ix o2169) ix = o2169 from if_pos rfl]; exact hq5_25)
                  refine g_close (w := wc_26) [0, 3, 0] rfl ewc_26 rfl ?_
                  refine (show Go g κ 259 [some (.ref h), some (.int hh), some (.ref k), some (.ref v), some (.int (nI 0)), some (.int (nI 1)), some (.ref tl), some (.ref x), some (.int (nI cap)), some (.int (nI ix)), some (.null), none, some (.int (nI nu))] [] [[(h, .inr (23, [.null, .null, .ref tl, .null, .int (nI xs.length), .int (nI md), .int (nI thr), .float lfac]))], [(tl, .inl (g.2.1 6, cap, .inr (.inr (.inr (.inr (va_up tab ix o2169))))))], wc_26] (13 * (hgr xs cap0 hh - cap)) (51 * (hgr xs cap0 hh - cap)) from ?_)
                  refine g_fg 1 rfl ?_
                  refine g_fg 2 rfl ?_
                  refine g_fg 3 rfl ?_
                  refine g_fg 4 rfl ?_
                  refine g_fg 6 rfl ?_
                  refine g_fg 7 rfl ?_
                  refine g_fg 8 rfl ?_
                  refine g_fg 9 rfl ?_
                  refine g_fg 10 rfl ?_
                  refine g_fg 12 rfl ?_
                  exact ct259 tl cap _ (va_up tab ix o2169) thr wc_26 hwc_26 (hcap) (hk4) (hk) (hthr) (by unfold c1z; rw [if_neg (fun h => by have z := h.1; rw [← hcz2] at z; omega)]; exact hcz2)
          exact lp134 _ f0 ([] : List Nat) ct 0 (by rw [hcs]; rfl) (hCt) (rfl) rfl
      · skip
        have hmt : ∀ a ∈ ns, (hs a, ky a, vl a) ∈ xs ∧ hU (hs a) % cap = ix := fun a ha => tfX_mem.mp (hpm.mem_iff.mpr (List.mem_map.mpr ⟨a, (hM a).mpr ha, rfl⟩))
        refine (show Go g κ 29 [some (.ref h), some (.int hh), some (.ref k), some (.ref v), some (.int (nI 0)), some (.int (nI 1)), some (.ref tl), none, some (.int (nI cap)), none, none, none, none] [] [[(h, .inr (23, [.null, .null, .ref tl, .null, .int (nI xs.length), .int (nI md), .int (nI thr), .float lfac]))], [(tl, .inl (g.2.1 6, cap, .inr (.inr (.inr (.inr tab)))))], w1, wj, w2] (12 + 13 * (hgr xs cap0 hh - cap)) (125 + 51 * (hgr xs cap0 hh - cap)) from ?_)
        rcases hti : tab ix with _ | f0
        · skip
          have hcs0 : cs = [] := List.head?_eq_none_iff.mp (by rw [← ch_head hC, hti])
          refine g_aload (q := 31) B dJ4_putVal_29 rfl rfl (rv_r _) ?_
          refine g_iload (q := 33) B dJ4_putVal_31 rfl rfl ?_
          refine g_iconst (v := nI 1) (q := 34) B dJ4_putVal_33 rfl (by decide) ?_
          refine g_isub (v := nI (cap - 1)) (q := 35) B dJ4_putVal_34 rfl (pk_sub (by omega)) ?_
          refine g_iload_n (q := 36) B dJ4_putVal_35 rfl rfl ?_
          refine g_iand (v := nI ix) (q := 37) B dJ4_putVal_36 rfl hixa ?_
          refine g_dup (q := 38) B dJ4_putVal_37 rfl rfl ?_
          refine g_istore (q := 40) (lv2 := [some (.ref h), some (.int hh), some (.ref k), some (.ref v), some (.int (nI 0)), some (.int (nI 1)), some (.ref tl), none, some (.int (nI cap)), some (.int (nI ix)), none, none, none]) B dJ4_putVal_38 rfl (Nat.le_of_ble_eq_true rfl) rfl ?_
          refine g_ald (r := none) (q := 41) B (k := 1) (t := 6) dJ4_putVal_40 rfl rfl rfl (vp_in_nI (by omega) (by omega)) (by rw [nI_clamp (by omega)]; exact hti) ?_
          refine g_dup (q := 42) B dJ4_putVal_41 rfl rfl ?_
          refine g_astore (q := 44) (lv2 := [some (.ref h), some (.int hh), some (.ref k), some (.ref v), some (.int (nI 0)), some (.int (nI 1)), some (.ref tl), some (.null), some (.int (nI cap)), some (.int (nI ix)), none, none, none]) B dJ4_putVal_42 rfl (Nat.le_of_ble_eq_true rfl) rv_n rfl ?_
          exact absurd ((hM root).mpr (tr_tm hT rfl)) (by rw [hcs0]; simp)
        · skip
          rw [hti] at hC
          obtain ⟨ct, hcs⟩ : ∃ ct, cs = f0 :: ct := by
            cases cs with
            | nil => exact absurd hC (by simp [Ch])
            | cons z t => obtain ⟨q, -⟩ := hC; cases q; exact ⟨t, rfl⟩
          have hfm : f0 ∈ ns := (hM _).mp (by rw [hcs]; simp)
          have hCt : Ch nx (nx f0) ct := by rw [hcs] at hC; exact hC.2
          refine g_aload (q := 31) B dJ4_putVal_29 rfl rfl (rv_r _) ?_
          refine g_iload (q := 33) B dJ4_putVal_31 rfl rfl ?_
          refine g_iconst (v := nI 1) (q := 34) B dJ4_putVal_33 rfl (by decide) ?_
          refine g_isub (v := nI (cap - 1)) (q := 35) B dJ4_putVal_34 rfl (pk_sub (by omega)) ?_
          refine g_iload_n (q := 36) B dJ4_putVal_35 rfl rfl ?_
          refine g_iand (v := nI ix) (q := 37) B dJ4_putVal_36 rfl hixa ?_
          refine g_dup (q := 38) B dJ4_putVal_37 rfl rfl ?_
          refine g_istore (q := 40) (lv2 := [some (.ref h), some (.int hh), some (.ref k), some (.ref v), some (.int (nI 0)), some (.int (nI 1)), some (.ref tl), none, some (.int (nI cap)), some (.int (nI ix)), none, none, none]) B dJ4_putVal_38 rfl (Nat.le_of_ble_eq_true rfl) rfl ?_
          refine g_ald (r := some f0) (q := 41) B (k := 1) (t := 6) dJ4_putVal_40 rfl rfl rfl (vp_in_nI (by omega) (by omega)) (by rw [nI_clamp (by omega)]; exact hti) ?_
          refine g_dup (q := 42) B dJ4_putVal_41 rfl rfl ?_
          refine g_astore (q := 44) (lv2 := [some (.ref h), some (.int hh), some (.ref k), some (.ref v), some (.int (nI 0)), some (.int (nI 1)), some (.ref tl), some (.ref f0), some (.int (nI cap)), some (.int (nI ix)), none, none, none]) B dJ4_putVal_42 rfl (Nat.le_of_ble_eq_true rfl) (rv_r _) rfl ?_
          refine g_ifnonnull_r (tgt := 63) B dJ4_putVal_44 (by decide) ?_
          refine g_aload (q := 65) B dJ4_putVal_63 rfl rfl (rv_r _) ?_
          refine g_getM (v := .int (hs f0)) (q := 68) B (ci := 25) (k := 3) (j := 2) in_J40 rfl dJ4_putVal_65 rfl rfl (TNG.mem hwj hfm) (Nat.le_of_ble_eq_true rfl) q1680 rfl rfl ?_
          refine g_iload_n (q := 69) B dJ4_putVal_68 rfl rfl ?_
          refine g_icmp_ne (tgt := 104) (q := 72) B dJ4_putVal_69 rfl (by decide) (iff_true_intro (hno _ (hmt f0 hfm).1)) (fun _ => ?_) (fun z => absurd trivial z)
          refine g_aload (q := 106) B dJ4_putVal_104 rfl rfl (rv_r _) ?_
          refine g_instRS (ci := 25) (q := 109) B rfl (rc_in B (ci := 25) rfl (k := 3) rfl ⟨_, TNG.mem hwj hfm⟩) dJ4_putVal_106 rfl q1408 ?_
          refine g_if_eq (tgt := 131) (q := 112) B dJ4_putVal_109 rfl (by decide) (iff_false_intro (by decide)) (fun z => z.elim) (fun _ => ?_)
          refine g_aload (q := 114) B dJ4_putVal_112 rfl rfl (rv_r _) ?_
          refine g_castRS (ci := 25) (q := 117) B rfl (rc_in B (ci := 25) rfl (k := 3) rfl ⟨_, TNG.mem hwj hfm⟩) dJ4_putVal_114 rfl q1408 ?_
          refine g_aload_n (q := 118) B dJ4_putVal_117 rfl rfl (rv_r _) ?_
          refine g_aload (q := 120) B dJ4_putVal_118 rfl rfl (rv_r _) ?_
          refine g_iload_n (q := 121) B dJ4_putVal_120 rfl rfl ?_
          refine g_aload_n (q := 122) B dJ4_putVal_121 rfl rfl (rv_r _) ?_
          refine g_aload_n (q := 123) B dJ4_putVal_122 rfl rfl (rv_r _) ?_
          refine g_callV (q := 126) (is := [0, 0, 1]) (kc2 := 13 * (hgr xs cap0 hh - cap)) (ks2 := 51 * (hgr xs cap0 hh - cap)) B [.ref h, .ref tl, .int hh, .ref k, .ref v] (ct_J40_putTreeVal g J (h := h) (otl := some tl) (n := xs.length) (md := md) (thr := thr) (lfac := lfac) (tl := tl) (cap := cap) (tab := tab) (ix := ix) (cs := cs) (ns := ns) (hs := hs) (ky := ky) (vl := vl) (nx := nx) (pp := pp) (lf := lf) (rg := rg) (pv := pv) (rd := rd) (lo := lo) (hi := hi) (root := root) (a := f0) (hh := hh) (k := k) (v := v) hwj (hT) (hfm) (fun b hb => hno _ (hmt b hb).1) (by omega) (by omega) (fun b hb => by rw [hcap]; rw [ix_hu (by omega), ← hcap, (hmt b hb).2]) (hixa) (hixl) (by rw [hti]; exact hC) (hP) (hN) (hM)) dJ4_putVal_123 rfl (rc_in B (ci := 25) rfl (k := 3) rfl ⟨_, TNG.mem hwj hfm⟩) rfl q1726 q1727 q1728 q131 q1729 rfl rfl moJ40_putTreeVal rfl rfl (by decide) (by decide) (Nat.le_of_ble_eq_true rfl) (by omega) (by omega) (fun _ _ hx => noX_x hx) (fun v123 L1 hp123 => ?_)
          obtain ⟨m123, nx2123, pv2123, lf2123, rg2123, pp2123, rd2123, lo2123, hi2123, root2123, cs2123, u2_123, rfl, rfl, hu2_123, hm_123, hT2_123, hC2_123⟩ := hp123
          refine (show Go g κ 126 [some (.ref h), some (.int hh), some (.ref k), some (.ref v), some (.int (nI 0)), some (.int (nI 1)), some (.ref tl), some (.ref f0), some (.int (nI cap)), some (.int (nI ix)), none, none, none] [.null] [w1, w2, [(h, .inr (23, [.null, .null, .ref tl, .null, .int (nI xs.length), .int (nI md), .int (nI thr), .float lfac]))], [(tl, .inl (g.2.1 6, cap, .inr (.inr (.inr (.inr (va_up tab ix (some root2123)))))))], u2_123] (13 * (hgr xs cap0 hh - cap)) (51 * (hgr xs cap0 hh - cap)) from ?_)
          obtain ⟨wc_27, ewc_27⟩ : ∃ w : va_W, w = ([u2_123] : List va_W).flatten := ⟨_, rfl⟩
          have hwc_27 : BinP g (bmx kk) (some root2123) (tfX (xs ++ [(hh, k, v)]) cap ix) wc_27 := by
            rw [ewc_27]
            exact Or.inr ⟨m123 :: ns, cs2123, _, _, _, nx2123, pp2123, lf2123, rg2123, pv2123, rd2123, lo2123, hi2123, root2123, (by simpa using hu2_123), hC2_123.1, hC2_123.2.2.1, hC2_123.2.2.2, (by rw [hix, own_X (t := (hh, k, v)), ← hix]; exact pm_cons (fun e => hm_123 ((hM _).mp e)) hN hC2_123.2.2.1 (fun a => by rw [hC2_123.2.2.2 a, List.mem_cons, hM a]) hpm), hC2_123.2.1, hT2_123, hb10⟩
          refine g_close (w := wc_27) [4] rfl ewc_27 rfl ?_
          refine (show Go g κ 126 [some (.ref h), some (.int hh), some (.ref k), some (.ref v), some (.int (nI 0)), some (.int (nI 1)), some (.ref tl), some (.ref f0), some (.int (nI cap)), some (.int (nI ix)), none, none, none] [.null] [w1, w2, [(h, .inr (23, [.null, .null, .ref tl, .null, .int (nI xs.length), .int (nI md), .int (nI thr), .float lfac]))], [(tl, .inl (g.2.1 6, cap, .inr (.inr (.inr (.inr (va_up tab ix (some root2123)))))))], wc_27] (13 * (hgr xs cap0 hh - cap)) (51 * (hgr xs cap0 hh - cap)) from ?_)
          refine g_astore (q := 128) (lv2 := [some (.ref h), some (.int hh), some (.ref k), some (.ref v), some (.int (nI 0)), some (.int (nI 1)), some (.ref tl), some (.ref f0), some (.int (nI cap)), some (.int (nI ix)), some (.null), none, none]) B dJ4_putVal_126 rfl (Nat.le_of_ble_eq_true rfl) rv_n rfl ?_
          refine g_goto (tgt := 222) B dJ4_putVal_128 (by decide) ?_
          refine g_aload (q := 224) B dJ4_putVal_222 rfl rfl rv_n ?_
          refine g_ifnull_n (tgt := 259) B dJ4_putVal_224 (by decide) ?_
          obtain ⟨wc_28, ewc_28⟩ : ∃ w : va_W, w = ([w1, wc_27, w2] : List va_W).flatten := ⟨_, rfl⟩
          have hwc_28 : TbP g (bmx kk) cap (va_up tab ix (some root2123)) (tfX (xs ++ [(hh, k, v)]) cap) wc_28 := by
            rw [ewc_28]
            exact hcl _ _ _ _ (Nat.le_refl _) (fun b _ hne => ⟨by unfold va_up; rw [if_neg hne], List.Perm.of_eq (oth_X (t := (hh, k, v)) (by show b ≠ hU hh % cap; rw [← hix]; exact hne))⟩) (by rw [show (va_up tab ix (some root2123)) ix = (some root2123) from if_pos rfl]; exact hwc_27)
          refine g_close (w := wc_28) [0, 3, 0] rfl ewc_28 rfl ?_
          refine (show Go g κ 259 [some (.ref h), some (.int hh), some (.ref k), some (.ref v), some (.int (nI 0)), some (.int (nI 1)), some (.ref tl), some (.ref f0), some (.int (nI cap)), some (.int (nI ix)), some (.null), none, none] [] [[(h, .inr (23, [.null, .null, .ref tl, .null, .int (nI xs.length), .int (nI md), .int (nI thr), .float lfac]))], [(tl, .inl (g.2.1 6, cap, .inr (.inr (.inr (.inr (va_up tab ix (some root2123)))))))], wc_28] (13 * (hgr xs cap0 hh - cap)) (51 * (hgr xs cap0 hh - cap)) from ?_)
          refine g_fg 1 rfl ?_
          refine g_fg 2 rfl ?_
          refine g_fg 3 rfl ?_
          refine g_fg 4 rfl ?_
          refine g_fg 6 rfl ?_
          refine g_fg 7 rfl ?_
          refine g_fg 8 rfl ?_
          refine g_fg 9 rfl ?_
          refine g_fg 10 rfl ?_
          exact ct259 tl cap _ (va_up tab ix (some root2123)) thr wc_28 hwc_28 (hcap) (hk4) (hk) (hthr) (by unfold c1z; rw [if_neg (fun h => by have z := h.1; rw [← hcz2] at z; have := bm_cap hcap hb10; omega)]; exact hcz2)
    refine g_aload_n (q := 1) B dJ4_putVal_0 rfl rfl (rv_r _) ?_
    refine g_get (q := 4) B (ci := 23) (k := 0) (j := 2) in_J4 rfl dJ4_putVal_1 rfl rfl (Nat.le_of_ble_eq_true rfl) q205 rfl rfl ?_
    refine g_dup (q := 5) B dJ4_putVal_4 rfl rfl ?_
    refine g_astore (q := 7) (lv2 := [some (.ref h), some (.int hh), some (.ref k), some (.ref v), some (.int (nI 0)), some (.int (nI 1)), some (.ref tl), none, none, none, none, none, none]) B dJ4_putVal_5 rfl (Nat.le_of_ble_eq_true rfl) (rv_r _) rfl ?_
    refine g_ifnull_r (q := 10) B dJ4_putVal_7 rfl ?_
    refine g_aload (q := 12) B dJ4_putVal_10 rfl rfl (rv_r _) ?_
    refine g_alen (v := nI cap0) (q := 13) B (k := 1) (t := 6) dJ4_putVal_12 rfl rfl rfl rfl ?_
    refine g_dup (q := 14) B dJ4_putVal_13 rfl rfl ?_
    refine g_istore (q := 16) (lv2 := [some (.ref h), some (.int hh), some (.ref k), some (.ref v), some (.int (nI 0)), some (.int (nI 1)), some (.ref tl), none, some (.int (nI cap0)), none, none, none, none]) B dJ4_putVal_14 rfl (Nat.le_of_ble_eq_true rfl) rfl ?_
    refine g_if_ne (tgt := 29) (q := 19) B dJ4_putVal_16 rfl (by decide) (iff_true_intro ((nI_ne00 (by omega)).mpr (by omega))) (fun _ => ?_) (fun z => absurd trivial z)
    have hk17 : kk ≤ 18 := hk
    refine g_room (kc2 := 12 + 13 * (hgr xs cap0 hh - cap0)) (ks2 := 125 + 51 * (hgr xs cap0 hh - cap0)) (by omega) (by omega) ?_
    exact ct29 tl cap0 _ tab thr wb hwb (hcap) (hk4) (hk17) (hthr) (hz0.symm)
