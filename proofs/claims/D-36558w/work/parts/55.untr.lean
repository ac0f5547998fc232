set_option maxRecDepth 100000
/-- x comes in at the end -/
theorem ch_snoc {nx : Nat → Option Nat} {ds : List Nat} {o : Option Nat} {t x : Nat} (h : Ch nx o ds) (hn : ds.Nodup) (hx : x ∉ ds) (ht : ds.getLast? = some t) : Ch (fup (fup nx x none) t (some x)) o (ds ++ [x]) := by
  obtain ⟨u, rfl⟩ : ∃ u, ds = u ++ [t] := by
    exact List.getLast?_eq_some_iff.mp ht
  have hl : nx t = none := ch_at (v := []) h
  have z := ch_ins (x := x) h hn hx
  rw [hl] at z
  simpa using z
theorem gl_snoc {ds : List Nat} {x : Nat} : (ds ++ [x]).getLast? = some x := by simp
theorem gl_none {ds : List Nat} (h : ds.getLast? = none) : ds = [] := List.getLast?_eq_none_iff.mp h
theorem gl_mem {ds : List Nat} {t : Nat} (h : ds.getLast? = some t) : t ∈ ds := List.mem_of_getLast? h
theorem moJ4_replacementNode : Mo yJ4_replacementNode 2 := by
  refine ⟨by decide, by decide, by decide +kernel⟩
theorem ct_J40_untreeify (g : Gv) (J : Jd g) {h : Nat} {tl : Option Nat} {n : Nat} {md : Nat} {thr : Nat} {lfac : UInt32} {ns : List Nat} {hs : Nat → Int32} {ky : Nat → Nat} {vl : Nat → Nat} {nx : Nat → Option Nat} {pp : Nat → Option Nat} {lf : Nat → Option Nat} {rg : Nat → Option Nat} {pv : Nat → Option Nat} {rd : Nat → Bool} {a : Nat} {cs : List Nat} {w1 : va_W} (hw1 : TNG g ns hs ky vl nx pp lf rg pv rd w1) (hC : Ch nx (some a) cs) (hM : ∀ b ∈ cs, b ∈ ns) : Ct g yJ40_untreeify (ws_ yJ40_untreeify cJ40_untreeify 6 (some (.object "java/util/HashMap$Node"))) 3 cs.length (4 * cs.length) [.ref a, .ref h] [[(h, .inr (23, [.null, .null, va_rf tl, .null, .int (nI n), .int (nI md), .int (nI thr), .float lfac]))], w1] (fun (rv_ : Option Value) (rL_ : List va_W) => ∃ (rs : Nat) (m1 : List Nat) (hs2 : Nat → Int32) (ky2 : Nat → Nat) (vl2 : Nat → Nat) (nx2 : Nat → Option Nat) (ds : List Nat) (u2 : va_W), rv_ = some (.ref rs) ∧ rL_ = [[(h, .inr (23, [.null, .null, va_rf tl, .null, .int (nI n), .int (nI md), .int (nI thr), .float lfac]))], w1, u2] ∧ NodG g m1 hs2 ky2 vl2 nx2 u2 ∧ (Ch nx2 (some rs) ds ∧ ds.Nodup ∧ ∀ b, b ∈ ds ↔ b ∈ m1) ∧ (ds.map (fun a => (hs2 a, ky2 a, vl2 a)) = cs.map (fun a => (hs a, ky a, vl a)))) noX := by
  refine Ct.of "java/util/HashMap$TreeNode" [some (.ref a), some (.ref h), none, none, none, none] rfl (by decide) rfl (Nat.le_of_ble_eq_true rfl) rfl ?_
  intro κ B E tb
  obtain ⟨wn0, ewn0⟩ : ∃ w : va_W, w = ([] : List va_W).flatten := ⟨_, rfl⟩
  have hwn0 : NodG g ([]) (fun _ => 0) (fun _ => 0) (fun _ => 0) (fun _ => none) wn0 := by
    rw [ewn0]
    exact NodG.nil
  refine g_close (w := wn0) [] rfl ewn0 rfl ?_
  refine (show Go g κ 0 [some (.ref a), some (.ref h), none, none, none, none] [] [[(h, .inr (23, [.null, .null, va_rf tl, .null, .int (nI n), .int (nI md), .int (nI thr), .float lfac]))], w1, wn0] cs.length (4 * cs.length) from ?_)
  refine g_aconst_null (q := 1) B dJ40_untreeify_0 rfl ?_
  refine g_astore_n (q := 2) (lv2 := [some (.ref a), some (.ref h), some (.null), none, none, none]) B dJ40_untreeify_1 rfl (Nat.le_of_ble_eq_true rfl) rv_n rfl ?_
  refine g_aconst_null (q := 3) B dJ40_untreeify_2 rfl ?_
  refine g_astore_n (q := 4) (lv2 := [some (.ref a), some (.ref h), some (.null), some (.null), none, none]) B dJ40_untreeify_3 rfl (Nat.le_of_ble_eq_true rfl) rv_n rfl ?_
  refine g_aload_n (q := 5) B dJ40_untreeify_4 rfl rfl (rv_r _) ?_
  refine g_astore (q := 7) (lv2 := [some (.ref a), some (.ref h), some (.null), some (.null), some (.ref a), none]) B dJ40_untreeify_5 rfl (Nat.le_of_ble_eq_true rfl) (rv_r _) rfl ?_
  have lp7 : ∀ (n7 : Nat) (us : List Nat) (vs : List Nat) (ds : List Nat) (q : Option Nat) (hd : Option Nat) (tq : Option Nat) (m1 : List Nat) (hs2 : Nat → Int32) (ky2 : Nat → Nat) (vl2 : Nat → Nat) (nx2 : Nat → Option Nat) (l7_2 : va_W), NodG g m1 hs2 ky2 vl2 nx2 l7_2 → (cs = us ++ vs) → (Ch nx q vs) → (Ch nx2 hd ds) → (ds.Nodup) → (∀ b, b ∈ ds ↔ b ∈ m1) → (ds.getLast? = tq) → (ds.map (fun a => (hs2 a, ky2 a, vl2 a)) = us.map (fun a => (hs a, ky a, vl a))) → vs.length = n7 → Go g κ 7 [some (.ref a), some (.ref h), some (va_rf hd), some (va_rf tq), some (va_rf q), none] [] [[(h, .inr (23, [.null, .null, va_rf tl, .null, .int (nI n), .int (nI md), .int (nI thr), .float lfac]))], w1, l7_2] (cs.length - us.length) (4 * cs.length - 4 * us.length) := by
    intro n7
    induction n7 using Nat.strongRecOn with
    | _ n7 ih7 =>
    intro us vs ds q hd tq m1 hs2 ky2 vl2 nx2 l7_2 hl7_2 hcs hCv hCd hdn hdm htl hmp hmu7
    refine g_aload (q := 9) B dJ40_untreeify_7 rfl rfl (rv_o _) ?_
    refine g_ifnull_o (tgt := 50) (q := 12) B dJ40_untreeify_9 rfl (by decide) (fun c9 => ?_) (fun q_a9 c9 => ?_)
    · skip
      subst c9
      refine g_room (kc2 := 0) (ks2 := 0) (Nat.zero_le _) (Nat.zero_le _) ?_
      have hve : vs = [] := by
        cases vs with
        | nil => rfl
        | cons z t => obtain ⟨e, -⟩ := hCv; cases e
      subst hve
      rw [List.append_nil] at hcs
      subst hcs
      obtain ⟨rs, hrs⟩ : ∃ rs, hd = some rs := by
        cases e : hd with
        | some z => exact ⟨z, rfl⟩
        | none =>
          rw [e] at hCd
          have hz : ds = [] := by cases ds with | nil => rfl | cons z t => obtain ⟨q, -⟩ := hCd; cases q
          rw [hz] at hmp
          cases cs with
          | nil => exact absurd hC (by simp [Ch])
          | cons z t => simp at hmp
      subst hrs
      refine (show Go g κ 50 [some (.ref a), some (.ref h), some (.ref rs), some (va_rf tq), some (.null), none] [] [[(h, .inr (23, [.null, .null, va_rf tl, .null, .int (nI n), .int (nI md), .int (nI thr), .float lfac]))], w1, l7_2] 0 0 from ?_)
      refine g_aload_n (q := 51) B dJ40_untreeify_50 rfl rfl (rv_r _) ?_
      exact g_aret B E dJ40_untreeify_51 (by first | exact Or.inl ⟨_, rfl⟩ | exact Or.inr ⟨_, rfl⟩) (rv_r _) (⟨rs, m1, hs2, ky2, vl2, nx2, ds, _, rfl, rfl, hl7_2, ⟨hCd, hdn, hdm⟩, hmp⟩)
    · skip
      subst c9
      obtain ⟨vt, hvs⟩ : ∃ vt, vs = q_a9 :: vt := by
        cases vs with
        | nil => exact absurd hCv (by simp [Ch])
        | cons z t => obtain ⟨e, -⟩ := hCv; cases e; exact ⟨t, rfl⟩
      subst hvs
      have hqc : q_a9 ∈ cs := by rw [hcs]; simp
      have hqm := hM _ hqc
      have hCt := hCv.2
      have hlen : cs.length = us.length + (vt.length + 1) := by rw [hcs]; simp
      refine g_aload_n (q := 13) B dJ40_untreeify_12 rfl rfl (rv_r _) ?_
      refine g_aload (q := 15) B dJ40_untreeify_13 rfl rfl (rv_r _) ?_
      refine g_aconst_null (q := 16) B dJ40_untreeify_15 rfl ?_
      refine g_callV (q := 19) (is := [1]) (kc2 := vt.length) (ks2 := 4 * vt.length) B [.ref q_a9, .null] (ct_J4_replacementNode g J (h := h) (b := q_a9) (ns := ns) (hs := hs) (ky := ky) (vl := vl) (nx := nx) (pp := pp) (lf := lf) (rg := rg) (pv := pv) (rd := rd) hw1 (hqm)) dJ40_untreeify_16 rfl (rc_at B (ci := 23) rfl (k := 0) rfl) rfl q1667 q1668 q1669 q83 q1670 rfl rfl moJ4_replacementNode rfl rfl (by decide) (by decide) (Nat.le_of_ble_eq_true rfl) (by omega) (by omega) (fun _ _ hx => noX_x hx) (fun v16 L1 hp16 => ?_)
      obtain ⟨a16, rfl, rfl⟩ := hp16
      refine (show Go g κ 19 [some (.ref a), some (.ref h), some (va_rf hd), some (va_rf tq), some (.ref q_a9), none] [.ref a16] [[(h, .inr (23, [.null, .null, va_rf tl, .null, .int (nI n), .int (nI md), .int (nI thr), .float lfac]))], l7_2, w1, [(a16, .inr (24, [.int (hs q_a9), .ref (ky q_a9), .ref (vl q_a9), .null]))]] vt.length (4 * vt.length) from ?_)
      refine g_astore (q := 21) (lv2 := [some (.ref a), some (.ref h), some (va_rf hd), some (va_rf tq), some (.ref q_a9), some (.ref a16)]) B dJ40_untreeify_19 rfl (Nat.le_of_ble_eq_true rfl) (rv_r _) rfl ?_
      refine g_nin (wa := [(a16, .inr (24, [.int (hs q_a9), .ref (ky q_a9), .ref (vl q_a9), .null]))]) (wb := l7_2) 3 1 rfl List.mem_cons_self (fun hap => ?_)
      have hnn : a16 ∉ m1 := fun hm => hap a16 _ (NodG.mem hl7_2 hm) rfl
      obtain ⟨wc_1, ewc_1⟩ : ∃ w : va_W, w = ([[(a16, .inr (24, [.int (hs q_a9), .ref (ky q_a9), .ref (vl q_a9), .null]))], l7_2] : List va_W).flatten := ⟨_, rfl⟩
      have hwc_1 : NodG g (a16 :: m1) (fup hs2 a16 (hs q_a9)) (fup ky2 a16 (ky q_a9)) (fup vl2 a16 (vl q_a9)) (fup nx2 a16 none) wc_1 := by
        rw [ewc_1]
        exact NodG.cons (x3 := none) hl7_2 hnn
      refine g_close (w := wc_1) [3, 1] rfl ewc_1 rfl ?_
      refine (show Go g κ 21 [some (.ref a), some (.ref h), some (va_rf hd), some (va_rf tq), some (.ref q_a9), some (.ref a16)] [] [[(h, .inr (23, [.null, .null, va_rf tl, .null, .int (nI n), .int (nI md), .int (nI thr), .float lfac]))], w1, wc_1] vt.length (4 * vt.length) from ?_)
      have hnd : a16 ∉ ds := fun e => hnn ((hdm _).mp e)
      refine g_aload_n (q := 22) B dJ40_untreeify_21 rfl rfl (rv_o _) ?_
      refine g_ifnonnull_o (tgt := 31) (q := 25) B dJ40_untreeify_22 rfl (by decide) (fun tq_a22 c22 => ?_) (fun c22 => ?_)
      · skip
        subst c22
        have htm : tq_a22 ∈ m1 := (hdm _).mp (gl_mem htl)
        refine g_aload_n (q := 32) B dJ40_untreeify_31 rfl rfl (rv_r _) ?_
        refine g_aload (q := 34) B dJ40_untreeify_32 rfl rfl (rv_r _) ?_
        refine g_putNodG3 (q := 37) (k := 2) (x := some a16) B hwc_1 (List.mem_cons_of_mem _ htm) dJ40_untreeify_34 rfl rfl q1692 (Or.inl rfl) (fun wa_2_34 hwa_2_34 => ?_)
        refine (show Go g κ 37 [some (.ref a), some (.ref h), some (va_rf hd), some (.ref tq_a22), some (.ref q_a9), some (.ref a16)] [] [[(h, .inr (23, [.null, .null, va_rf tl, .null, .int (nI n), .int (nI md), .int (nI thr), .float lfac]))], w1, wa_2_34] vt.length (4 * vt.length) from ?_)
        refine g_aload (q := 39) B dJ40_untreeify_37 rfl rfl (rv_r _) ?_
        refine g_astore_n (q := 40) (lv2 := [some (.ref a), some (.ref h), some (va_rf hd), some (.ref a16), some (.ref q_a9), some (.ref a16)]) B dJ40_untreeify_39 rfl (Nat.le_of_ble_eq_true rfl) (rv_r _) (by simp only [lst1, lclr_o]) ?_
        refine g_aload (q := 42) B dJ40_untreeify_40 rfl rfl (rv_r _) ?_
        refine g_getM (v := va_rf (nx q_a9)) (q := 45) B (ci := 25) (k := 1) (j := 5) in_J40 rfl dJ40_untreeify_42 rfl rfl (TNG.mem hw1 hqm) (Nat.le_of_ble_eq_true rfl) q1692 rfl rfl ?_
        refine g_astore (q := 47) (lv2 := [some (.ref a), some (.ref h), some (va_rf hd), some (.ref a16), some (va_rf (nx q_a9)), some (.ref a16)]) B dJ40_untreeify_45 rfl (Nat.le_of_ble_eq_true rfl) (rv_o _) rfl ?_
        refine g_goto (tgt := 7) B dJ40_untreeify_47 (by decide) ?_
        refine g_fg 5 rfl ?_
        refine g_room (kc2 := cs.length - (us ++ [q_a9]).length) (ks2 := 4 * cs.length - 4 * (us ++ [q_a9]).length) (by simp <;> omega) (by simp <;> omega) ?_
        exact ih7 _ (by rw [← hmu7]; simp) (us ++ [q_a9]) vt (ds ++ [a16]) (nx q_a9) hd (some a16) (a16 :: m1) (fup hs2 a16 (hs q_a9)) (fup ky2 a16 (ky q_a9)) (fup vl2 a16 (vl q_a9)) (fup (fup nx2 a16 none) tq_a22 (some a16)) wa_2_34 hwa_2_34 (by rw [hcs]; simp) (hCt) (ch_snoc hCd hdn hnd htl) (List.nodup_append.mpr ⟨hdn, by simp, fun a ha b hb e => by simp at hb; exact hnd (by rw [← hb, ← e]; exact ha)⟩) (fun b => by rw [List.mem_append, List.mem_cons, hdm b]; simp [or_comm]) (gl_snoc) (by
            rw [List.map_append, List.map_append, ← hmp]
            congr 1
            · refine List.map_congr_left fun b hb => ?_
              have hne : b ≠ a16 := fun e => hnd (e ▸ hb)
              simp only [fup_n hne]
            · simp only [List.map_cons, List.map_nil, fup_s]) rfl
      · skip
        subst c22
        refine g_aload (q := 27) B dJ40_untreeify_25 rfl rfl (rv_r _) ?_
        refine g_astore_n (q := 28) (lv2 := [some (.ref a), some (.ref h), some (.ref a16), some (.null), some (.ref q_a9), some (.ref a16)]) B dJ40_untreeify_27 rfl (Nat.le_of_ble_eq_true rfl) (rv_r _) rfl ?_
        refine g_goto (tgt := 37) B dJ40_untreeify_28 (by decide) ?_
        refine g_aload (q := 39) B dJ40_untreeify_37 rfl rfl (rv_r _) ?_
        refine g_astore_n (q := 40) (lv2 := [some (.ref a), some (.ref h), some (.ref a16), some (.ref a16), some (.ref q_a9), some (.ref a16)]) B dJ40_untreeify_39 rfl (Nat.le_of_ble_eq_true rfl) (rv_r _) rfl ?_
        refine g_aload (q := 42) B dJ40_untreeify_40 rfl rfl (rv_r _) ?_
        refine g_getM (v := va_rf (nx q_a9)) (q := 45) B (ci := 25) (k := 1) (j := 5) in_J40 rfl dJ40_untreeify_42 rfl rfl (TNG.mem hw1 hqm) (Nat.le_of_ble_eq_true rfl) q1692 rfl rfl ?_
        refine g_astore (q := 47) (lv2 := [some (.ref a), some (.ref h), some (.ref a16), some (.ref a16), some (va_rf (nx q_a9)), some (.ref a16)]) B dJ40_untreeify_45 rfl (Nat.le_of_ble_eq_true rfl) (rv_o _) rfl ?_
        refine g_goto (tgt := 7) B dJ40_untreeify_47 (by decide) ?_
        refine g_fg 5 rfl ?_
        refine g_room (kc2 := cs.length - (us ++ [q_a9]).length) (ks2 := 4 * cs.length - 4 * (us ++ [q_a9]).length) (by simp <;> omega) (by simp <;> omega) ?_
        exact ih7 _ (by rw [← hmu7]; simp) (us ++ [q_a9]) vt (ds ++ [a16]) (nx q_a9) (some a16) (some a16) (a16 :: m1) (fup hs2 a16 (hs q_a9)) (fup ky2 a16 (ky q_a9)) (fup vl2 a16 (vl q_a9)) (fup nx2 a16 none) wc_1 hwc_1 (by rw [hcs]; simp) (hCt) (by rw [gl_none htl] at hCd ⊢; exact ⟨rfl, fup_s _ _ _⟩) (List.nodup_append.mpr ⟨hdn, by simp, fun a ha b hb e => by simp at hb; exact hnd (by rw [← hb, ← e]; exact ha)⟩) (fun b => by rw [List.mem_append, List.mem_cons, hdm b]; simp [or_comm]) (gl_snoc) (by
            rw [List.map_append, List.map_append, ← hmp]
            congr 1
            · refine List.map_congr_left fun b hb => ?_
              have hne : b ≠ a16 := fun e => hnd (e ▸ hb)
              simp only [fup_n hne]
            · simp only [List.map_cons, List.map_nil, fup_s]) rfl
  refine g_room (kc2 := cs.length - ([] : List Nat).length) (ks2 := 4 * cs.length - 4 * ([] : List Nat).length) (by simp <;> omega) (by simp <;> omega) ?_
  exact lp7 _ ([] : List Nat) cs ([] : List Nat) (some a) none none ([]) (fun _ => 0) (fun _ => 0) (fun _ => 0) (fun _ => none) wn0 hwn0 (rfl) (hC) (rfl) (List.nodup_nil) (fun b => by simp) (rfl) (rfl) rfl
