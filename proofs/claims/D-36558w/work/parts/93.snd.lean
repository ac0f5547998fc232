set_option maxRecDepth 100000
/-- what isSound answers -/
def sndP (C : KsS) (k : Nat) : Prop := ∀ (i : Nat) (r : PeS), i < k → (zPs C)[i]? = some r → ∀ E N : Nat → Bool, (∀ x, E x = true ↔ ClQ (zSs C) (zBx C) (fun y => pEv r y = true) x) → (∀ x, N x = true ↔ ClQ (zSs C) (zBx C) (helP (zKs C) r) x) → rgtP C r E N
theorem snd_s {C : KsS} {k : Nat} {r : PeS} {E N : Nat → Bool} {is q b : Bool} (h : is = true ↔ sndP C k) (hr : (zPs C)[k]? = some r) (hE : ∀ x, E x = true ↔ ClQ (zSs C) (zBx C) (fun y => pEv r y = true) x) (hN : ∀ x, N x = true ↔ ClQ (zSs C) (zBx C) (helP (zKs C) r) x) (hq : q = true ↔ rgtP C r E N) (hb : b = true ↔ is = true ∧ q = true) : b = true ↔ sndP C (k + 1) := by
  rw [hb, h, hq]
  constructor
  · rintro ⟨h1, h2⟩ i s hi hs E2 N2 hE2 hN2
    rcases Nat.lt_or_ge i k with z | z
    · exact h1 i s z hs E2 N2 hE2 hN2
    · rw [show i = k by omega, hr] at hs; cases hs
      have e1 : E2 = E := by funext x; exact Bool.eq_iff_iff.mpr ((hE2 x).trans (hE x).symm)
      have e2 : N2 = N := by funext x; exact Bool.eq_iff_iff.mpr ((hN2 x).trans (hN x).symm)
      rw [e1, e2]; exact h2
  · exact fun z => ⟨fun i s hi hs => z i s (by omega) hs, z k r (by omega) hr E N hE hN⟩
theorem snd_0 {C : KsS} {k : Nat} {is : Bool} (h : is = true ↔ sndP C k) (hf : ¬ is = true) : false = true ↔ sndP C (k + 1) := ⟨(fun z => by cases z), fun z => absurd (h.mpr fun i r hi => z i r (by omega)) hf⟩
theorem mul_st {n k M : Nat} (h : k < n) : (n - k) * M = (n - (k + 1)) * M + M := by
  obtain ⟨d, e⟩ : ∃ d, n - k = d + 1 := ⟨n - k - 1, by omega⟩
  rw [e, show n - (k + 1) = d by omega, Nat.succ_mul]
theorem moX1_isRight : Mo yX1_isRight 1 := by
  refine ⟨by decide, by decide, by decide +kernel⟩
theorem ct_X1_isSound (g : Gv) (J : Jd g) {x : Nat} {C : KsS} {w0 : va_W} (hw0 : KgP g x C w0) (hC : KsB C) (hep : ∀ (i : Nat) (r : PeS), (zPs C)[i]? = some r → ∀ m, pEp r = some m → m < (zTs C).length) (hky : ∀ (e : Nat) (s : StS), (zSt C)[e]? = some s → s.2.2.1 < (zSs C).length ∧ ∃ ky, fnd (zSs C) (s.2.2.1, none, 6) = some ky) : Ct g yX1_isSound (ws_ yX1_isSound cX1_isSound 4 (some .boolean)) 15 (1 + (zPs C).length * (2 * ((zSs C).length + capF (zSs C).length / 5) + 1250)) (4 + (zPs C).length * (2 * ((zSs C).length + 4 * capF (zSs C).length) + 9500)) [.ref x] [w0] (fun (rv_ : Option Value) (rL_ : List va_W) => ∃ (q : Bool) (u0 : va_W), rv_ = some (.int (nI (if q = true then 1 else 0))) ∧ rL_ = [u0] ∧ KgP g x C u0 ∧ (q = true ↔ sndP C (zPs C).length)) noX := by
  refine Ct.of "Keygrove" [some (.ref x), none, none, none] rfl (by decide) rfl (Nat.le_of_ble_eq_true rfl) rfl ?_
  intro κ B E tb
  have hC0 := hC
  obtain ⟨hc1, hc2, hc3, hc4, hc5, hc6, hc7, hc8, hc9, hc10, hc11⟩ := hC0
  obtain ⟨b, lp, lk, lr, lt, ls, lm, so, pcap, kcap, rcap, tcap, scap, mcap, socap, ps, pks, pmd, v0, v1, v2, v3, v4, v5, v6, v7, hcap, hv0, hv1, hv2, hv3, hv4, hv5, hv6, hv7, rfl⟩ := hw0
  refine g_open 0 rfl rfl rfl ?_
  refine (show Go g κ 0 [some (.ref x), none, none, none] [] [[(x, .inr (0, [.ref b, .ref lp, .ref lk, .ref lr, .ref lt, .ref ls, .ref lm, .ref so, .int (nI (zBn C))]))], v0, v1, v2, v3, v4, v5, v6, v7] (1 + (zPs C).length * (2 * ((zSs C).length + capF (zSs C).length / 5) + 1250)) (4 + (zPs C).length * (2 * ((zSs C).length + 4 * capF (zSs C).length) + 9500)) from ?_)
  refine g_iconst (v := nI 1) (q := 1) B dX1_isSound_0 rfl (by decide) ?_
  refine g_istore_n (q := 2) (lv2 := [some (.ref x), some (.int (nI 1)), none, none]) B dX1_isSound_1 rfl (Nat.le_of_ble_eq_true rfl) rfl ?_
  refine g_aload_n (q := 3) B dX1_isSound_2 rfl rfl (rv_r _) ?_
  refine g_get (q := 6) B (ci := 0) (k := 0) (j := 1) in_X1 rfl dX1_isSound_3 rfl rfl (Nat.le_of_ble_eq_true rfl) q278 rfl rfl ?_
  obtain ⟨hli_1, hln_1, hel_1⟩ := PersL.at (Sub.self hv1)
  refine g_callF (q := 11) (is := [2]) (kc2 := (1 + (zPs C).length * (2 * ((zSs C).length + capF (zSs C).length / 5) + 1250)) - 1) (ks2 := (4 + (zPs C).length * (2 * ((zSs C).length + 4 * capF (zSs C).length) + 9500)) - 4) B [] (ct_J2_iterator_s g J (p := lp) (xs := ps) (md := pmd) (cap := pcap) (W0 := v1)  (hli_1)) dX1_isSound_6 rfl (ci := 21) rfl (rc_in B (ci := 21) rfl (k := 2) rfl (PersL.hm hv1)) q1153 q1156 q805 q81 q807 q1155 q1154 q806 q804 q318 rfl rfl mojava_util_List_iterator___Ljava_util_Iterator_ rfl rfl (by decide) (by decide) (Nat.le_of_ble_eq_true rfl) (by omega) (by omega) (fun _ _ hx => noX_x hx) (fun v6 L1 hp6 => ?_)
  obtain ⟨it6, rfl, rfl⟩ := hp6
  refine (show Go g κ 11 [some (.ref x), some (.int (nI 1)), none, none] [.ref it6] [[(x, .inr (0, [.ref b, .ref lp, .ref lk, .ref lr, .ref lt, .ref ls, .ref lm, .ref so, .int (nI (zBn C))]))], v0, v2, v3, v4, v5, v6, v7, [(it6, .inr (22, [.int (nI 0), .int (-1), .int pmd, .ref lp]))], v1] ((1 + (zPs C).length * (2 * ((zSs C).length + capF (zSs C).length / 5) + 1250)) - 1) ((4 + (zPs C).length * (2 * ((zSs C).length + 4 * capF (zSs C).length) + 9500)) - 4) from ?_)
  refine g_astore_n (q := 12) (lv2 := [some (.ref x), some (.int (nI 1)), some (.ref it6), none]) B dX1_isSound_11 rfl (Nat.le_of_ble_eq_true rfl) (rv_r _) rfl ?_
  have lp12 : ∀ (n12 : Nat) (k : Nat) (lrt : Int32) (is : Bool) (l12_1 : va_W) (l12_9 : va_W), BookP g b (zSs C) (zBx C) (zZz C) l12_1 → PersL g lp ps (zPs C) pcap x pks pmd l12_9 → (k ≤ (zPs C).length) → (is = true ↔ sndP C k) → (zPs C).length - k = n12 → Go g κ 12 [some (.ref x), some (.int (nI (if is = true then 1 else 0))), some (.ref it6), none] [] [[(x, .inr (0, [.ref b, .ref lp, .ref lk, .ref lr, .ref lt, .ref ls, .ref lm, .ref so, .int (nI (zBn C))]))], l12_1, v2, v3, v4, v5, v6, v7, [(it6, .inr (22, [.int (nI k), .int lrt, .int pmd, .ref lp]))], l12_9] (((zPs C).length - k) * (2 * ((zSs C).length + capF (zSs C).length / 5) + 1250)) (((zPs C).length - k) * (2 * ((zSs C).length + 4 * capF (zSs C).length) + 9500)) := by
    intro n12
    induction n12 using Nat.strongRecOn with
    | _ n12 ih12 =>
    intro k lrt is l12_1 l12_9 hl12_1 hl12_9 hk his hmu12
    refine g_aload_n (q := 13) B dX1_isSound_12 rfl rfl (rv_r _) ?_
    obtain ⟨hli_2, hln_2, hel_2⟩ := PersL.at (Sub.self hl12_9)
    refine g_callF (q := 18) (is := [8, 8]) (kc2 := ((zPs C).length - k) * (2 * ((zSs C).length + capF (zSs C).length / 5) + 1250)) (ks2 := ((zPs C).length - k) * (2 * ((zSs C).length + 4 * capF (zSs C).length) + 9500)) B [] (ct_J19_hasNext_s g J (p := lp) (xs := ps) (md := pmd) (cap := pcap) (it := it6) (c := k) (lr := lrt) (W1 := l12_9)  (hli_2) (by have := hln_2.1; omega)) dX1_isSound_13 rfl (ci := 22) rfl (rc_at B (ci := 22) rfl (k := 8) rfl) q1158 q940 q942 q104 q944 q938 q937 q943 q941 q939 rfl rfl mojava_util_Iterator_hasNext___Z rfl rfl (by decide) (by decide) (Nat.le_of_ble_eq_true rfl) (by omega) (by omega) (fun _ _ hx => noX_x hx) (fun v13 L1 hp13 => ?_)
    obtain ⟨rfl, rfl⟩ := hp13
    refine (show Go g κ 18 [some (.ref x), some (.int (nI (if is = true then 1 else 0))), some (.ref it6), none] [.int (nI (if ¬ k = ps.length then 1 else 0))] [[(x, .inr (0, [.ref b, .ref lp, .ref lk, .ref lr, .ref lt, .ref ls, .ref lm, .ref so, .int (nI (zBn C))]))], l12_1, v2, v3, v4, v5, v6, v7, [(it6, .inr (22, [.int (nI k), .int lrt, .int pmd, .ref lp]))], l12_9] (((zPs C).length - k) * (2 * ((zSs C).length + capF (zSs C).length / 5) + 1250)) (((zPs C).length - k) * (2 * ((zSs C).length + 4 * capF (zSs C).length) + 9500)) from ?_)
    rw [hln_2.1]
    refine (show Go g κ 18 [some (.ref x), some (.int (nI (if is = true then 1 else 0))), some (.ref it6), none] [.int (nI (if ¬ k = (zPs C).length then 1 else 0))] [[(x, .inr (0, [.ref b, .ref lp, .ref lk, .ref lr, .ref lt, .ref ls, .ref lm, .ref so, .int (nI (zBn C))]))], l12_1, v2, v3, v4, v5, v6, v7, [(it6, .inr (22, [.int (nI k), .int lrt, .int pmd, .ref lp]))], l12_9] (((zPs C).length - k) * (2 * ((zSs C).length + capF (zSs C).length / 5) + 1250)) (((zPs C).length - k) * (2 * ((zSs C).length + 4 * capF (zSs C).length) + 9500)) from ?_)
    refine g_if_eq (tgt := 52) (q := 21) B dX1_isSound_18 rfl (by decide) (bo_eq) (fun c18 => ?_) (fun c18 => ?_)
    · skip
      refine g_iload_n (q := 53) B dX1_isSound_52 rfl rfl ?_
      obtain ⟨wc_3, ewc_3⟩ : ∃ w : va_W, w = ([[(x, .inr (0, [.ref b, .ref lp, .ref lk, .ref lr, .ref lt, .ref ls, .ref lm, .ref so, .int (nI (zBn C))]))], l12_1, l12_9, v2, v3, v4, v5, v6, v7] : List va_W).flatten := ⟨_, rfl⟩
      have hwc_3 : KgP g x C wc_3 := by
        rw [ewc_3]
        exact ⟨b, lp, lk, lr, lt, ls, lm, so, pcap, kcap, rcap, tcap, scap, mcap, socap, ps, pks, pmd, _, _, _, _, _, _, _, _, hcap, hl12_1, hl12_9, hv2, hv3, hv4, hv5, hv6, hv7, rfl⟩
      refine g_close (w := wc_3) [0, 0, 7, 0, 0, 0, 0, 0, 0] rfl ewc_3 rfl ?_
      refine (show Go g κ 53 [some (.ref x), some (.int (nI (if is = true then 1 else 0))), some (.ref it6), none] [.int (nI (if is = true then 1 else 0))] [[(it6, .inr (22, [.int (nI k), .int lrt, .int pmd, .ref lp]))], wc_3] (((zPs C).length - k) * (2 * ((zSs C).length + capF (zSs C).length / 5) + 1250)) (((zPs C).length - k) * (2 * ((zSs C).length + 4 * capF (zSs C).length) + 9500)) from ?_)
      refine g_pk [1] rfl rfl ?_
      refine (show Go g κ 53 [some (.ref x), some (.int (nI (if is = true then 1 else 0))), some (.ref it6), none] [.int (nI (if is = true then 1 else 0))] [wc_3] (((zPs C).length - k) * (2 * ((zSs C).length + capF (zSs C).length / 5) + 1250)) (((zPs C).length - k) * (2 * ((zSs C).length + 4 * capF (zSs C).length) + 9500)) from ?_)
      exact g_zret B E dX1_isSound_53 (by split <;> decide) (⟨is, _, rfl, rfl, hwc_3, by rw [his, show k = (zPs C).length by omega]⟩)
    · skip
      have c18 := Classical.not_not.mp c18
      refine g_aload_n (q := 22) B dX1_isSound_21 rfl rfl (rv_r _) ?_
      obtain ⟨r22, hr22⟩ := get_ex (xs := (zPs C)) (i := k) (by omega)
      obtain ⟨x22, hx22⟩ := get_ex (xs := ps) (i := k) (by have := get_lt2 hr22; have := hln_2.1; omega)
      have hE_4 := hel_2 _ _ _ hx22 hr22
      refine g_callF (q := 27) (is := [8, 8]) (kc2 := ((zPs C).length - k) * (2 * ((zSs C).length + capF (zSs C).length / 5) + 1250)) (ks2 := ((zPs C).length - k) * (2 * ((zSs C).length + 4 * capF (zSs C).length) + 9500)) B [] (ct_J19_next_s g J (p := lp) (xs := ps) (md := pmd) (cap := pcap) (it := it6) (c := k) (lr := lrt) (x := x22) (W1 := l12_9)  (hli_2) (hx22)) dX1_isSound_22 rfl (ci := 22) rfl (rc_at B (ci := 22) rfl (k := 8) rfl) q1160 q967 q969 q104 q971 q966 q965 q970 q968 q939 rfl rfl mojava_util_Iterator_next___Ljava_lang_Object_ rfl rfl (by decide) (by decide) (Nat.le_of_ble_eq_true rfl) (by omega) (by omega) (fun _ _ hx => noX_x hx) (fun v22 L1 hp22 => ?_)
      obtain ⟨rfl, rfl⟩ := hp22
      refine (show Go g κ 27 [some (.ref x), some (.int (nI (if is = true then 1 else 0))), some (.ref it6), none] [.ref x22] [[(x, .inr (0, [.ref b, .ref lp, .ref lk, .ref lr, .ref lt, .ref ls, .ref lm, .ref so, .int (nI (zBn C))]))], l12_1, v2, v3, v4, v5, v6, v7, [(it6, .inr (22, [.int (nI (k + 1)), .int (nI k), .int pmd, .ref lp]))], l12_9] (((zPs C).length - k) * (2 * ((zSs C).length + capF (zSs C).length / 5) + 1250)) (((zPs C).length - k) * (2 * ((zSs C).length + 4 * capF (zSs C).length) + 9500)) from ?_)
      refine g_castRS (ci := 2) (q := 30) B rfl (rc_in B (ci := 2) rfl (k := 9) rfl (Sub.hm (hE_4) fun _ z => PersP.hm z)) dX1_isSound_27 rfl q1161 ?_
      refine g_astore_n (q := 31) (lv2 := [some (.ref x), some (.int (nI (if is = true then 1 else 0))), some (.ref it6), some (.ref x22)]) B dX1_isSound_30 rfl (Nat.le_of_ble_eq_true rfl) (rv_r _) rfl ?_
      have hm1 := mul_st (M := (2 * ((zSs C).length + capF (zSs C).length / 5) + 1250)) (get_lt2 hr22)
      have hm2 := mul_st (M := (2 * ((zSs C).length + 4 * capF (zSs C).length) + 9500)) (get_lt2 hr22)
      refine g_iload_n (q := 32) B dX1_isSound_31 rfl rfl ?_
      refine g_if_eq (tgt := 47) (q := 35) B dX1_isSound_32 rfl (by decide) (bo_eq) (fun c32 => ?_) (fun c32 => ?_)
      · skip
        refine g_iconst (v := nI 0) (q := 48) B dX1_isSound_47 rfl (by decide) ?_
        refine g_istore_n (q := 49) (lv2 := [some (.ref x), some (.int (nI 0)), some (.ref it6), some (.ref x22)]) B dX1_isSound_48 rfl (Nat.le_of_ble_eq_true rfl) rfl ?_
        refine g_goto (tgt := 12) B dX1_isSound_49 (by decide) ?_
        refine g_fg 3 rfl ?_
        refine g_room (kc2 := ((zPs C).length - (k + 1)) * (2 * ((zSs C).length + capF (zSs C).length / 5) + 1250)) (ks2 := ((zPs C).length - (k + 1)) * (2 * ((zSs C).length + 4 * capF (zSs C).length) + 9500)) (by omega) (by omega) ?_
        exact ih12 _ (by have := get_lt2 hr22; omega) (k + 1) (nI k) false l12_1 l12_9 hl12_1 hl12_9 (by first | assumption | omega | rfl) (snd_0 his c32) rfl
      · skip
        have c32 := Classical.not_not.mp c32
        refine g_aload_n (q := 36) B dX1_isSound_35 rfl rfl (rv_r _) ?_
        refine g_aload_n (q := 37) B dX1_isSound_36 rfl rfl (rv_r _) ?_
        have hE_5 := hel_2 _ _ _ hx22 hr22
        refine g_callV (q := 40) (is := [0, 0, 7, 0, 1, 1]) (kc2 := ((zPs C).length - (k + 1)) * (2 * ((zSs C).length + capF (zSs C).length / 5) + 1250)) (ks2 := ((zPs C).length - (k + 1)) * (2 * ((zSs C).length + 4 * capF (zSs C).length) + 9500)) B [.ref x22] (ct_X1_isRight g J (x := x) (lk := lk) (b := b) (lp := lp) (lr := lr) (lt := lt) (ls := ls) (lm := lm) (so := so) (C := C) (ps := ps) (pcap := pcap) (pks := pks) (kcap := kcap) (tcap := tcap) (scap := scap) (pmd := pmd) (i := k) (a := x22) (r := r22) hl12_1 hl12_9 hv2 hv4 hv5 (by first | assumption | omega | rfl) (hx22) (hr22) (hep k r22 hr22) (by first | assumption | omega | rfl)) dX1_isSound_37 rfl (rc_at B (ci := 0) rfl (k := 0) rfl) rfl q1216 q1218 qs10 q77 q1219 rfl rfl moX1_isRight rfl rfl (by decide) (by decide) (Nat.le_of_ble_eq_true rfl) (by omega) (by omega) (fun _ _ hx => noX_x hx) (fun v37 L1 hp37 => ?_)
        obtain ⟨q37, E37, N37, u1_37, u2_37, rfl, rfl, hu1_37, hu2_37, hE_37, hN_37, hq_37⟩ := hp37
        refine (show Go g κ 40 [some (.ref x), some (.int (nI (if is = true then 1 else 0))), some (.ref it6), some (.ref x22)] [.int (nI (if q37 = true then 1 else 0))] [v3, v6, v7, [(it6, .inr (22, [.int (nI (k + 1)), .int (nI k), .int pmd, .ref lp]))], [(x, .inr (0, [.ref b, .ref lp, .ref lk, .ref lr, .ref lt, .ref ls, .ref lm, .ref so, .int (nI (zBn C))]))], u1_37, u2_37, v2, v4, v5] (((zPs C).length - (k + 1)) * (2 * ((zSs C).length + capF (zSs C).length / 5) + 1250)) (((zPs C).length - (k + 1)) * (2 * ((zSs C).length + 4 * capF (zSs C).length) + 9500)) from ?_)
        refine g_if_eq (tgt := 47) (q := 43) B dX1_isSound_40 rfl (by decide) (bo_eq) (fun c40 => ?_) (fun c40 => ?_)
        · skip
          refine g_iconst (v := nI 0) (q := 48) B dX1_isSound_47 rfl (by decide) ?_
          refine g_istore_n (q := 49) (lv2 := [some (.ref x), some (.int (nI 0)), some (.ref it6), some (.ref x22)]) B dX1_isSound_48 rfl (Nat.le_of_ble_eq_true rfl) rfl ?_
          refine g_goto (tgt := 12) B dX1_isSound_49 (by decide) ?_
          refine g_fg 3 rfl ?_
          refine g_pk [4, 4, 5, 0, 4, 4, 0, 0, 0, 0] rfl rfl ?_
          refine (show Go g κ 12 [some (.ref x), some (.int (nI 0)), some (.ref it6), none] [] [[(x, .inr (0, [.ref b, .ref lp, .ref lk, .ref lr, .ref lt, .ref ls, .ref lm, .ref so, .int (nI (zBn C))]))], u1_37, v2, v3, v4, v5, v6, v7, [(it6, .inr (22, [.int (nI (k + 1)), .int (nI k), .int pmd, .ref lp]))], u2_37] (((zPs C).length - (k + 1)) * (2 * ((zSs C).length + capF (zSs C).length / 5) + 1250)) (((zPs C).length - (k + 1)) * (2 * ((zSs C).length + 4 * capF (zSs C).length) + 9500)) from ?_)
          exact ih12 _ (by have := get_lt2 hr22; omega) (k + 1) (nI k) false u1_37 u2_37 hu1_37 hu2_37 (by first | assumption | omega | rfl) (snd_s his hr22 hE_37 hN_37 hq_37 (b := false) ⟨(fun z => by cases z), fun z => absurd z.2 c40⟩) rfl
        · skip
          have c40 := Classical.not_not.mp c40
          refine g_iconst (v := nI 1) (q := 44) B dX1_isSound_43 rfl (by decide) ?_
          refine g_goto (tgt := 48) B dX1_isSound_44 (by decide) ?_
          refine g_istore_n (q := 49) (lv2 := [some (.ref x), some (.int (nI 1)), some (.ref it6), some (.ref x22)]) B dX1_isSound_48 rfl (Nat.le_of_ble_eq_true rfl) rfl ?_
          refine g_goto (tgt := 12) B dX1_isSound_49 (by decide) ?_
          refine g_fg 3 rfl ?_
          refine g_pk [4, 4, 5, 0, 4, 4, 0, 0, 0, 0] rfl rfl ?_
          refine (show Go g κ 12 [some (.ref x), some (.int (nI 1)), some (.ref it6), none] [] [[(x, .inr (0, [.ref b, .ref lp, .ref lk, .ref lr, .ref lt, .ref ls, .ref lm, .ref so, .int (nI (zBn C))]))], u1_37, v2, v3, v4, v5, v6, v7, [(it6, .inr (22, [.int (nI (k + 1)), .int (nI k), .int pmd, .ref lp]))], u2_37] (((zPs C).length - (k + 1)) * (2 * ((zSs C).length + capF (zSs C).length / 5) + 1250)) (((zPs C).length - (k + 1)) * (2 * ((zSs C).length + 4 * capF (zSs C).length) + 9500)) from ?_)
          exact ih12 _ (by have := get_lt2 hr22; omega) (k + 1) (nI k) true u1_37 u2_37 hu1_37 hu2_37 (by first | assumption | omega | rfl) (snd_s his hr22 hE_37 hN_37 hq_37 (b := true) ⟨fun _ => ⟨c32, c40⟩, fun _ => rfl⟩) rfl
  have hm0 : ((zPs C).length - 0) * (2 * ((zSs C).length + capF (zSs C).length / 5) + 1250) = (zPs C).length * (2 * ((zSs C).length + capF (zSs C).length / 5) + 1250) := by rw [Nat.sub_zero]
  have hm00 : ((zPs C).length - 0) * (2 * ((zSs C).length + 4 * capF (zSs C).length) + 9500) = (zPs C).length * (2 * ((zSs C).length + 4 * capF (zSs C).length) + 9500) := by rw [Nat.sub_zero]
  refine g_room (kc2 := ((zPs C).length - 0) * (2 * ((zSs C).length + capF (zSs C).length / 5) + 1250)) (ks2 := ((zPs C).length - 0) * (2 * ((zSs C).length + 4 * capF (zSs C).length) + 9500)) (by omega) (by omega) ?_
  exact lp12 _ 0 (-1) true v0 v1 hv0 hv1 (Nat.zero_le _) (⟨fun _ i r h => absurd h (Nat.not_lt_zero i), fun _ => rfl⟩) rfl
